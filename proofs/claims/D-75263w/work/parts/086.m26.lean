/-! CameraMovesModel: passes -/
set_option maxRecDepth 100000
/-- the frame that a pass shows -/
def shB (o u s f : Int) : Int := if f < s then 0 else if 999 < (f - s) * o / u then 999 else (f - s) * o / u
theorem shB_rg {o u s f : Int} (ho : 1 ≤ o ∧ o ≤ 9) (hu : 1 ≤ u ∧ u ≤ 9) (hs : 0 ≤ s ∧ s ≤ 500) (hf : 0 ≤ f ∧ f ≤ 999) : 0 ≤ shB o u s f ∧ shB o u s f ≤ 999 := by
  unfold shB
  split
  · omega
  · have h1 := mul_rg 999 9 (a := f - s) (b := o) (by omega) (by omega) (by omega) (by omega)
    have h2 : 0 ≤ (f - s) * o / u := Int.ediv_nonneg h1.1 (by omega)
    split <;> omega
theorem m_shownBy {l : Launch} {g : AG} {h : AH} (o u s f : Int) (ho : 1 ≤ o ∧ o ≤ 9) (hu : 1 ≤ u ∧ u ≤ 9) (hs : 0 ≤ s ∧ s ≤ 500) (hf : 0 ≤ f ∧ f ≤ 999): AMx l g miX4_shownBy 10 [iv o, iv u, iv s, iv f] h (some (iv (shB o u s f))) h := by
  refine aw_start 1 (by decide) rfl (Nat.le_of_ble_eq_true rfl) ?_
  show AWc l g miX4_shownBy 10 0 0 _ _ 0 0 h 0 [some (iv o), some (iv u), some (iv s), some (iv f), none] []
  refine aw_iload_n 1 dX4_shownBy_0 rfl rfl ?_
  refine aw_iload_n 2 dX4_shownBy_1 rfl rfl ?_
  refine aw_icmp_ge 7 5 (by omega) dX4_shownBy_2 rfl rfl (fun c_2 => ?_) (fun c_2 => ?_)
  · have h1 := mul_rg 999 9 (a := f - s) (b := o) (by omega) (by omega) (by omega) (by omega); have h2 : 0 ≤ (f - s) * o / u := Int.ediv_nonneg h1.1 (by omega); have h3 : (f - s) * o / u ≤ (f - s) * o := Int.ediv_le_self u h1.1
    refine aw_iload_n 8 dX4_shownBy_7 rfl rfl ?_
    refine aw_iload_n 9 dX4_shownBy_8 rfl rfl ?_
    refine aw_isub 10 dX4_shownBy_9 rfl ?_
    refine aw_iload_n 11 dX4_shownBy_10 rfl rfl ?_
    refine aw_imul 12 dX4_shownBy_11 rfl ?_
    refine aw_iload_n 13 dX4_shownBy_12 rfl rfl ?_
    refine aw_idivP 14 (by omega) dX4_shownBy_13 rfl ?_
    refine aw_istore 16 dX4_shownBy_14 rfl (as_4 rfl) (by decide) ?_
    refine aw_iload 18 dX4_shownBy_16 rfl rfl ?_
    refine aw_sipush 21 dX4_shownBy_18 rfl (by decide) ?_
    refine aw_icmp_le 30 24 (by omega) dX4_shownBy_21 rfl rfl (fun c_21 => ?_) (fun c_21 => ?_)
    · refine aw_iload 32 dX4_shownBy_30 rfl rfl ?_
      exact aw_xi (by unfold shB; rw [if_neg (by omega)]; first | rw [if_pos (by omega)] | rw [if_neg (by omega)]) (rfl) rfl dX4_shownBy_32
    · refine aw_sipush 27 dX4_shownBy_24 rfl (by decide) ?_
      refine aw_goto 32 dX4_shownBy_27 rfl ?_
      exact aw_xi (by unfold shB; rw [if_neg (by omega)]; first | rw [if_pos (by omega)] | rw [if_neg (by omega)]) (rfl) rfl dX4_shownBy_32
  · refine aw_iconst 6 dX4_shownBy_5 rfl ?_
    exact aw_xi (by unfold shB; rw [if_pos (by omega)]) (rfl) rfl dX4_shownBy_6
/-- passes that can be -/
def mP (σ : MSt) : Prop := (0 ≤ σ.1 8 ∧ σ.1 8 ≤ 4) ∧ ∀ p, 0 ≤ p → p < σ.1 8 → (1 ≤ σ.2 9 (3 * p).toNat ∧ σ.2 9 (3 * p).toNat ≤ 9) ∧ (1 ≤ σ.2 9 (3 * p + 1).toNat ∧ σ.2 9 (3 * p + 1).toNat ≤ 9) ∧ (0 ≤ σ.2 9 (3 * p + 2).toNat ∧ σ.2 9 (3 * p + 2).toNat ≤ 500)
theorem SC.toP {σ τ : MSt} (h : SC σ τ) (hp : mP σ) : mP τ := by
  unfold mP
  rw [h.1 8 (by decide), h.2.1 9 (by decide)]
  exact hp
/-- the frame that pass p shows -/
def shP (σ : MSt) (p f : Int) : Int := shB (σ.2 9 (3 * p).toNat) (σ.2 9 (3 * p + 1).toNat) (σ.2 9 (3 * p + 2).toNat) f
theorem shP_rg {σ : MSt} (h : mP σ) {p f : Int} (hp : isPa σ p) (hf : 0 ≤ f ∧ f ≤ 999) : 0 ≤ shP σ p f ∧ shP σ p f ≤ 999 := by
  obtain ⟨h1, h2, h3⟩ := h.2 p hp.1 hp.2
  exact shB_rg h1 h2 h3 hf
theorem m_shownIn {l : Launch} {g : AG} {C : MCx} (hC : MOK C) (σ : MSt) (p f : Int) (hP : mP σ) (hp : isPa σ p) (hf : 0 ≤ f ∧ f ≤ 999): AMx l g miX4_shownIn 11 [.ref C.1, iv p, iv f] (mh C σ) (some (iv (shP σ p f))) (mh C σ) := by
  refine aw_start 0 (by decide) rfl (Nat.le_of_ble_eq_true rfl) ?_
  show AWc l g miX4_shownIn 11 0 0 _ _ 0 0 (mh C σ) 0 [some (.ref C.1), some (iv p), some (iv f)] []
  obtain ⟨h1, h2, h3⟩ := hP.2 p hp.1 hp.2
  have h8 := hP.1
  have hp1 := hp.1
  have hp2 := hp.2
  refine aw_aload_n 1 dX4_shownIn_0 rfl rfl ?_
  refine aw_get 4 ci4 9 (by decide) q2040 (Or.inl rfl) (rdl (mh_obj _ _)) rfl dX4_shownIn_1 rfl ?_
  refine aw_iconst 5 dX4_shownIn_4 rfl ?_
  refine aw_iload_n 6 dX4_shownIn_5 rfl rfl ?_
  refine aw_imul 7 dX4_shownIn_6 rfl ?_
  refine aw_iald 8 (rdl (mh_9 hC _)) (by omega) dX4_shownIn_7 rfl (by decide) ?_
  refine aw_aload_n 9 dX4_shownIn_8 rfl rfl ?_
  refine aw_get 12 ci4 9 (by decide) q2040 (Or.inl rfl) (rdl (mh_obj _ _)) rfl dX4_shownIn_9 rfl ?_
  refine aw_iconst 13 dX4_shownIn_12 rfl ?_
  refine aw_iload_n 14 dX4_shownIn_13 rfl rfl ?_
  refine aw_imul 15 dX4_shownIn_14 rfl ?_
  refine aw_iconst 16 dX4_shownIn_15 rfl ?_
  refine aw_iadd 17 dX4_shownIn_16 rfl ?_
  refine aw_iald 18 (rdl (mh_9 hC _)) (by omega) dX4_shownIn_17 rfl (by decide) ?_
  refine aw_aload_n 19 dX4_shownIn_18 rfl rfl ?_
  refine aw_get 22 ci4 9 (by decide) q2040 (Or.inl rfl) (rdl (mh_obj _ _)) rfl dX4_shownIn_19 rfl ?_
  refine aw_iconst 23 dX4_shownIn_22 rfl ?_
  refine aw_iload_n 24 dX4_shownIn_23 rfl rfl ?_
  refine aw_imul 25 dX4_shownIn_24 rfl ?_
  refine aw_iconst 26 dX4_shownIn_25 rfl ?_
  refine aw_iadd 27 dX4_shownIn_26 rfl ?_
  refine aw_iald 28 (rdl (mh_9 hC _)) (by omega) dX4_shownIn_27 rfl (by decide) ?_
  refine aw_iload_n 29 dX4_shownIn_28 rfl rfl ?_
  refine aw_xS 32 (m_shownBy _ _ _ _ h1 h2 h3 hf) msX4_shownBy q2504 rfl (by decide) (by decide) (Nat.le_refl _) (Nat.le_refl _) rfl (Nat.le_of_ble_eq_true rfl) dX4_shownIn_29 rfl ?_
  exact aw_xi (by rfl) (rfl) rfl dX4_shownIn_32
theorem m_shownL {l : Launch} {g : AG} {C : MCx} (hC : MOK C) {σ : MSt} (τ : MSt) (p f : Int) (hs : SC σ τ) (hP : mP σ) (hp : isPa σ p) (hf : 0 ≤ f ∧ f ≤ 999) : AMx l g miX4_shownIn 11 [.ref C.1, iv p, iv f] (mh C τ) (some (iv (shP σ p f))) (mh C τ) := by
  have h := m_shownIn (l := l) (g := g) hC τ p f (hs.toP hP) (by unfold isPa; rw [hs.1 8 (by decide)]; exact hp) hf
  have e : shP τ p f = shP σ p f := by
    unfold shP
    rw [hs.2.1 9 (by decide)]
  rw [e] at h
  exact h
def o_shown (p f : Int) (σ : MSt) : Int × Int := if isPa σ p ∧ isFr f then (0, shP σ p f) else (1, 0)
theorem m_shown {l : Launch} {g : AG} {C : MCx} (hC : MOK C) (σ : MSt) (p f : Int) (hP : mP σ) (hp : Rg p) (hf : Rg f): AMx l g miX4_shown 13 [.ref C.1, iv p, iv f] (mh C σ) (some (iv (o_shown p f (sF σ 0 0)).2)) (mh C (sF (sF σ 0 0) 0 (o_shown p f (sF σ 0 0)).1)) := by
  refine aw_start 0 (by decide) rfl (Nat.le_of_ble_eq_true rfl) ?_
  show AWc l g miX4_shown 13 0 0 _ _ 0 0 (mh C σ) 0 [some (.ref C.1), some (iv p), some (iv f)] []
  have h0 : (sF σ 0 0).1 0 = 0 := rfl
  have hP : mP (sF σ 0 0) := hP
  refine aw_aload_n 1 dX4_shown_0 rfl rfl ?_
  refine aw_iconst 2 dX4_shown_1 rfl ?_
  refine aw_put 5 ci4 0 (by decide) q2031 (Or.inl rfl) rfl rfl rfl (Nat.le_of_ble_eq_true rfl) (mh_obj _ _) dX4_shown_2 rfl ?_
  refine aw_h (mhp_0 _ _ _) ?_
  generalize sF σ 0 0 = σ at h0 hP ⊢
  have h8 := hP.1
  refine aw_aload_n 6 dX4_shown_5 rfl rfl ?_
  refine aw_iload_n 7 dX4_shown_6 rfl rfl ?_
  refine aw_xV 10 (m_isPass hC _ _ (by omega) (by omega)) mvX4_isPass q2496 (rdl (mh_obj _ _)) rfl rfl rfl (by decide) (by decide) (Nat.le_refl _) (Nat.le_refl _) rfl (Nat.le_of_ble_eq_true rfl) dX4_shown_7 rfl ?_
  refine aw_if_eqB 29 13 dX4_shown_10 rfl rfl (fun c_10 => ?_) (fun c_10 => ?_)
  · refine aw_aload_n 30 dX4_shown_29 rfl rfl ?_
    refine aw_iconst 31 dX4_shown_30 rfl ?_
    refine aw_xV 34 (m_fails hC _ _) mvX4_fails q2151 (rdl (mh_obj _ _)) rfl rfl rfl (by decide) (by decide) (Nat.le_refl _) (Nat.le_refl _) rfl (Nat.le_of_ble_eq_true rfl) dX4_shown_31 rfl ?_
    exact aw_xi (by unfold o_shown; first | (rw [if_pos ⟨by assumption, by assumption⟩]) | (rw [if_neg (fun z => by first | exact absurd z.1 (by assumption) | exact absurd z.2 (by assumption))])) (by unfold o_shown; first | (rw [if_pos ⟨by assumption, by assumption⟩]; exact congrArg (mh C) (sF_id h0).symm) | (rw [if_neg (fun z => by first | exact absurd z.1 (by assumption) | exact absurd z.2 (by assumption))])) rfl dX4_shown_34
  · refine aw_iload_n 14 dX4_shown_13 rfl rfl ?_
    refine aw_xS 17 (m_isFrame _ (by omega)) msX4_isFrame q2401 rfl (by decide) (by decide) (Nat.le_refl _) (Nat.le_refl _) rfl (Nat.le_of_ble_eq_true rfl) dX4_shown_14 rfl ?_
    refine aw_if_eqB 29 20 dX4_shown_17 rfl rfl (fun c_17 => ?_) (fun c_17 => ?_)
    · refine aw_aload_n 30 dX4_shown_29 rfl rfl ?_
      refine aw_iconst 31 dX4_shown_30 rfl ?_
      refine aw_xV 34 (m_fails hC _ _) mvX4_fails q2151 (rdl (mh_obj _ _)) rfl rfl rfl (by decide) (by decide) (Nat.le_refl _) (Nat.le_refl _) rfl (Nat.le_of_ble_eq_true rfl) dX4_shown_31 rfl ?_
      exact aw_xi (by unfold o_shown; first | (rw [if_pos ⟨by assumption, by assumption⟩]) | (rw [if_neg (fun z => by first | exact absurd z.1 (by assumption) | exact absurd z.2 (by assumption))])) (by unfold o_shown; first | (rw [if_pos ⟨by assumption, by assumption⟩]; exact congrArg (mh C) (sF_id h0).symm) | (rw [if_neg (fun z => by first | exact absurd z.1 (by assumption) | exact absurd z.2 (by assumption))])) rfl dX4_shown_34
    · refine aw_aload_n 21 dX4_shown_20 rfl rfl ?_
      refine aw_iload_n 22 dX4_shown_21 rfl rfl ?_
      refine aw_iload_n 23 dX4_shown_22 rfl rfl ?_
      refine aw_xV 26 (m_shownIn hC σ _ _ hP (by assumption) (by assumption)) mvX4_shownIn q2500 (rdl (mh_obj _ _)) rfl rfl rfl (by decide) (by decide) (Nat.le_refl _) (Nat.le_refl _) rfl (Nat.le_of_ble_eq_true rfl) dX4_shown_23 rfl ?_
      refine aw_goto 34 dX4_shown_26 rfl ?_
      exact aw_xi (by unfold o_shown; first | (rw [if_pos ⟨by assumption, by assumption⟩]) | (rw [if_neg (fun z => by first | exact absurd z.1 (by assumption) | exact absurd z.2 (by assumption))])) (by unfold o_shown; first | (rw [if_pos ⟨by assumption, by assumption⟩]; exact congrArg (mh C) (sF_id h0).symm) | (rw [if_neg (fun z => by first | exact absurd z.1 (by assumption) | exact absurd z.2 (by assumption))])) rfl dX4_shown_34
def o_passPosition (p a f : Int) (σ : MSt) : Int × Int := if isPa σ p ∧ isAx σ a ∧ isFr f then (0, pos σ a (shP σ p f).toNat) else (1, 0)
def k_passPosition (p a f : Int) (σ : MSt) : MSt := if isPa σ p ∧ isAx σ a ∧ isFr f then k_lays a σ else σ
theorem m_passPosition {l : Launch} {g : AG} {C : MCx} (hC : MOK C) (σ : MSt) (p a f : Int) (hr : mR σ) (hT : mT σ) (hP : mP σ) (hp : Rg p) (ha : Rg a) (hf : Rg f): AMx l g miX4_passPosition 16 [.ref C.1, iv p, iv a, iv f] (mh C σ) (some (iv (o_passPosition p a f (sF σ 0 0)).2)) (mh C (sF (k_passPosition p a f (sF σ 0 0)) 0 (o_passPosition p a f (sF σ 0 0)).1)) := by
  refine aw_start 0 (by decide) rfl (Nat.le_of_ble_eq_true rfl) ?_
  show AWc l g miX4_passPosition 16 0 0 _ _ 0 0 (mh C σ) 0 [some (.ref C.1), some (iv p), some (iv a), some (iv f)] []
  have h0 : (sF σ 0 0).1 0 = 0 := rfl
  have hr : mR (sF σ 0 0) := hr
  have hT : mT (sF σ 0 0) := hT
  have hP : mP (sF σ 0 0) := hP
  refine aw_aload_n 1 dX4_passPosition_0 rfl rfl ?_
  refine aw_iconst 2 dX4_passPosition_1 rfl ?_
  refine aw_put 5 ci4 0 (by decide) q2031 (Or.inl rfl) rfl rfl rfl (Nat.le_of_ble_eq_true rfl) (mh_obj _ _) dX4_passPosition_2 rfl ?_
  refine aw_h (mhp_0 _ _ _) ?_
  generalize sF σ 0 0 = σ at h0 hr hT hP ⊢
  have h8 := hP.1
  have h5 := hr.2.1
  refine aw_aload_n 6 dX4_passPosition_5 rfl rfl ?_
  refine aw_iload_n 7 dX4_passPosition_6 rfl rfl ?_
  refine aw_xV 10 (m_isPass hC _ _ (by omega) (by omega)) mvX4_isPass q2496 (rdl (mh_obj _ _)) rfl rfl rfl (by decide) (by decide) (Nat.le_refl _) (Nat.le_refl _) rfl (Nat.le_of_ble_eq_true rfl) dX4_passPosition_7 rfl ?_
  refine aw_if_eqB 28 13 dX4_passPosition_10 rfl rfl (fun c_10 => ?_) (fun c_10 => ?_)
  · refine aw_aload_n 29 dX4_passPosition_28 rfl rfl ?_
    refine aw_iconst 30 dX4_passPosition_29 rfl ?_
    refine aw_xV 33 (m_fails hC _ _) mvX4_fails q2151 (rdl (mh_obj _ _)) rfl rfl rfl (by decide) (by decide) (Nat.le_refl _) (Nat.le_refl _) rfl (Nat.le_of_ble_eq_true rfl) dX4_passPosition_30 rfl ?_
    exact aw_xi (by unfold o_passPosition; first | (rw [if_pos ⟨by assumption, by assumption, by assumption⟩]) | (rw [if_neg (fun z => by first | exact absurd z.1 (by assumption) | exact absurd z.2.1 (by assumption) | exact absurd z.2.2 (by assumption))])) (by unfold o_passPosition k_passPosition; first | (rw [if_pos ⟨by assumption, by assumption, by assumption⟩, if_pos ⟨by assumption, by assumption, by assumption⟩]; exact congrArg (mh C) (sF_id (k := 0) (z := 0) ((k_lays_th hr (by assumption)).trans h0)).symm) | (rw [if_neg (fun z => by first | exact absurd z.1 (by assumption) | exact absurd z.2.1 (by assumption) | exact absurd z.2.2 (by assumption)), if_neg (fun z => by first | exact absurd z.1 (by assumption) | exact absurd z.2.1 (by assumption) | exact absurd z.2.2 (by assumption))])) rfl dX4_passPosition_33
  · refine aw_aload_n 14 dX4_passPosition_13 rfl rfl ?_
    refine aw_iload_n 15 dX4_passPosition_14 rfl rfl ?_
    refine aw_xV 18 (m_isAxis hC _ _ (by omega) (by omega)) mvX4_isAxis q2279 (rdl (mh_obj _ _)) rfl rfl rfl (by decide) (by decide) (Nat.le_refl _) (Nat.le_refl _) rfl (Nat.le_of_ble_eq_true rfl) dX4_passPosition_15 rfl ?_
    refine aw_if_eqB 28 21 dX4_passPosition_18 rfl rfl (fun c_18 => ?_) (fun c_18 => ?_)
    · refine aw_aload_n 29 dX4_passPosition_28 rfl rfl ?_
      refine aw_iconst 30 dX4_passPosition_29 rfl ?_
      refine aw_xV 33 (m_fails hC _ _) mvX4_fails q2151 (rdl (mh_obj _ _)) rfl rfl rfl (by decide) (by decide) (Nat.le_refl _) (Nat.le_refl _) rfl (Nat.le_of_ble_eq_true rfl) dX4_passPosition_30 rfl ?_
      exact aw_xi (by unfold o_passPosition; first | (rw [if_pos ⟨by assumption, by assumption, by assumption⟩]) | (rw [if_neg (fun z => by first | exact absurd z.1 (by assumption) | exact absurd z.2.1 (by assumption) | exact absurd z.2.2 (by assumption))])) (by unfold o_passPosition k_passPosition; first | (rw [if_pos ⟨by assumption, by assumption, by assumption⟩, if_pos ⟨by assumption, by assumption, by assumption⟩]; exact congrArg (mh C) (sF_id (k := 0) (z := 0) ((k_lays_th hr (by assumption)).trans h0)).symm) | (rw [if_neg (fun z => by first | exact absurd z.1 (by assumption) | exact absurd z.2.1 (by assumption) | exact absurd z.2.2 (by assumption)), if_neg (fun z => by first | exact absurd z.1 (by assumption) | exact absurd z.2.1 (by assumption) | exact absurd z.2.2 (by assumption))])) rfl dX4_passPosition_33
    · refine aw_iload_n 22 dX4_passPosition_21 rfl rfl ?_
      refine aw_xS 25 (m_isFrame _ (by omega)) msX4_isFrame q2401 rfl (by decide) (by decide) (Nat.le_refl _) (Nat.le_refl _) rfl (Nat.le_of_ble_eq_true rfl) dX4_passPosition_22 rfl ?_
      refine aw_if_neB 34 28 dX4_passPosition_25 rfl rfl (fun c_25 => ?_) (fun c_25 => ?_)
      · refine aw_aload_n 35 dX4_passPosition_34 rfl rfl ?_
        refine aw_iload_n 36 dX4_passPosition_35 rfl rfl ?_
        refine aw_xVv 39 (m_lays hC _ _ hr hT (by omega)) mvX4_lays q2404 (rdl (mh_obj _ _)) rfl rfl rfl (by decide) (by decide) (Nat.le_refl _) (Nat.le_refl _) rfl (Nat.le_of_ble_eq_true rfl) dX4_passPosition_36 rfl ?_
        refine aw_aload_n 40 dX4_passPosition_39 rfl rfl ?_
        refine aw_iload_n 41 dX4_passPosition_40 rfl rfl ?_
        refine aw_aload_n 42 dX4_passPosition_41 rfl rfl ?_
        refine aw_iload_n 43 dX4_passPosition_42 rfl rfl ?_
        refine aw_iload_n 44 dX4_passPosition_43 rfl rfl ?_
        refine aw_xV 47 (m_shownL hC (k_lays a σ) _ _ (k_lays_ok hr (by assumption)).1 hP (by assumption) (by assumption)) mvX4_shownIn q2500 (rdl (mh_obj _ _)) rfl rfl rfl (by decide) (by decide) (Nat.le_refl _) (Nat.le_refl _) rfl (Nat.le_of_ble_eq_true rfl) dX4_passPosition_44 rfl ?_
        have hsh := shP_rg hP (p := p) (f := f) (by assumption) (by assumption)
        refine aw_xV 50 (m_placeL hC _ _ _ (k_lays_la hr (by assumption)) (by omega) (by omega)) mvX4_placeAt q2412 (rdl (mh_obj _ _)) rfl rfl rfl (by decide) (by decide) (Nat.le_refl _) (Nat.le_refl _) rfl (Nat.le_of_ble_eq_true rfl) dX4_passPosition_47 rfl ?_
        exact aw_xi (by unfold o_passPosition; first | (rw [if_pos ⟨by assumption, by assumption, by assumption⟩]) | (rw [if_neg (fun z => by first | exact absurd z.1 (by assumption) | exact absurd z.2.1 (by assumption) | exact absurd z.2.2 (by assumption))])) (by unfold o_passPosition k_passPosition; first | (rw [if_pos ⟨by assumption, by assumption, by assumption⟩, if_pos ⟨by assumption, by assumption, by assumption⟩]; exact congrArg (mh C) (sF_id (k := 0) (z := 0) ((k_lays_th hr (by assumption)).trans h0)).symm) | (rw [if_neg (fun z => by first | exact absurd z.1 (by assumption) | exact absurd z.2.1 (by assumption) | exact absurd z.2.2 (by assumption)), if_neg (fun z => by first | exact absurd z.1 (by assumption) | exact absurd z.2.1 (by assumption) | exact absurd z.2.2 (by assumption))])) rfl dX4_passPosition_50
      · refine aw_aload_n 29 dX4_passPosition_28 rfl rfl ?_
        refine aw_iconst 30 dX4_passPosition_29 rfl ?_
        refine aw_xV 33 (m_fails hC _ _) mvX4_fails q2151 (rdl (mh_obj _ _)) rfl rfl rfl (by decide) (by decide) (Nat.le_refl _) (Nat.le_refl _) rfl (Nat.le_of_ble_eq_true rfl) dX4_passPosition_30 rfl ?_
        exact aw_xi (by unfold o_passPosition; first | (rw [if_pos ⟨by assumption, by assumption, by assumption⟩]) | (rw [if_neg (fun z => by first | exact absurd z.1 (by assumption) | exact absurd z.2.1 (by assumption) | exact absurd z.2.2 (by assumption))])) (by unfold o_passPosition k_passPosition; first | (rw [if_pos ⟨by assumption, by assumption, by assumption⟩, if_pos ⟨by assumption, by assumption, by assumption⟩]; exact congrArg (mh C) (sF_id (k := 0) (z := 0) ((k_lays_th hr (by assumption)).trans h0)).symm) | (rw [if_neg (fun z => by first | exact absurd z.1 (by assumption) | exact absurd z.2.1 (by assumption) | exact absurd z.2.2 (by assumption)), if_neg (fun z => by first | exact absurd z.1 (by assumption) | exact absurd z.2.1 (by assumption) | exact absurd z.2.2 (by assumption))])) rfl dX4_passPosition_33
/-- a pass with another denominator: the way of an axis into a frame -/
abbrev wyP (σ : MSt) (p u a f : Int) : Int := pos σ a (shB (σ.2 9 (3 * p).toNat) u (σ.2 9 (3 * p + 2).toNat) f).toNat - pos σ a (shB (σ.2 9 (3 * p).toNat) u (σ.2 9 (3 * p + 2).toNat) (f - 1)).toNat
abbrev fitA (σ : MSt) (p u a f : Int) : Prop := ab (wyP σ p u a f) ≤ r_sp (rw_ σ) a
def fitP (σ : MSt) (p u : Int) : Prop := ∀ f, 1 ≤ f → f ≤ 999 → ∀ a, isAx σ a → fitA σ p u a f
theorem l_fits2 {l : Launch} {g : AG} {C : MCx} (hC : MOK C) {σ : MSt} (τ : MSt) (p u f : Int) (hr : mR σ) (hl : LD σ τ) (hu : 1 ≤ u ∧ u ≤ 9) (hf : 1 ≤ f ∧ f ≤ 999) (T F : Int) (hTr : 0 ≤ T ∧ T ≤ 999) (hFr : 0 ≤ F ∧ F ≤ 999) (hT : T = shB (σ.2 9 (3 * p).toNat) u (σ.2 9 (3 * p + 2).toNat) f) (hF : F = shB (σ.2 9 (3 * p).toNat) u (σ.2 9 (3 * p + 2).toNat) (f - 1)) (kk : (∀ a, isAx σ a → fitA σ p u a f) → ∀ o, AWc l g miX4_fitsBy 12 0 0 (fun r2 h2 => r2 = some (iv (bI (fitP σ p u))) ∧ h2 = mh C τ) (fun _ _ _ => False) 0 0 (mh C τ) 112 [some (.ref C.1), some (iv p), some (iv u), some (iv f), some (iv T), some (iv F), o] []) : ∀ (n i : Nat), (i : Int) + n = σ.1 5 → (∀ a : Int, 0 ≤ a → a < i → fitA σ p u a f) → AWc l g miX4_fitsBy 12 0 0 (fun r2 h2 => r2 = some (iv (bI (fitP σ p u))) ∧ h2 = mh C τ) (fun _ _ _ => False) 0 0 (mh C τ) 64 [some (.ref C.1), some (iv p), some (iv u), some (iv f), some (iv T), some (iv F), some (iv i)] [] := by
  have h5 := hr.2.1
  have ht5 := hl.1.1 5 (by decide)
  have hrt := hl.1.toR hr
  have hρ := hl.1.rw
  intro n
  induction n with
  | zero =>
    intro i hi hA
    have kk := kk fun a ha => hA a ha.1 (by have := ha.2; omega)
    refine aw_iload 66 dX4_fitsBy_64 rfl rfl ?_
    refine aw_aload_n 67 dX4_fitsBy_66 rfl rfl ?_
    refine aw_get 70 ci4 5 (by decide) q2036 (Or.inl rfl) (rdl (mh_obj _ _)) rfl dX4_fitsBy_67 rfl ?_
    refine aw_icmp_ge 112 73 (by omega) dX4_fitsBy_70 rfl rfl (fun c_70 => ?_) (fun c_70 => absurd c_70 (by omega))
    exact kk _
  | succ n ih =>
    intro i hi hA
    have hax : isAx σ i := ⟨by omega, by omega⟩
    have p1 := pos_rg hr hax (j := T.toNat) (by omega)
    have p2 := pos_rg hr hax (j := F.toNat) (by omega)
    have hsp := (hr.ax hax.1 hax.2).1
    have hab : ab (pos σ i T.toNat - pos σ i F.toNat) = ((pos σ i T.toNat - pos σ i F.toNat).natAbs : Int) := rfl
    have hfit : fitA σ p u i f ↔ ab (pos σ i T.toNat - pos σ i F.toNat) ≤ r_sp (rw_ σ) i := by rw [hT, hF]
    refine aw_iload 66 dX4_fitsBy_64 rfl rfl ?_
    refine aw_aload_n 67 dX4_fitsBy_66 rfl rfl ?_
    refine aw_get 70 ci4 5 (by decide) q2036 (Or.inl rfl) (rdl (mh_obj _ _)) rfl dX4_fitsBy_67 rfl ?_
    refine aw_icmp_ge 112 73 (by omega) dX4_fitsBy_70 rfl rfl (fun c_70 => absurd c_70 (by omega)) (fun c_70 => ?_)
    refine aw_aload_n 74 dX4_fitsBy_73 rfl rfl ?_
    refine aw_iload 76 dX4_fitsBy_74 rfl rfl ?_
    refine aw_iload 78 dX4_fitsBy_76 rfl rfl ?_
    refine aw_xV 81 (m_placeL hC τ _ _ (hl.2 _ hax) (by omega) (by omega)) mvX4_placeAt q2412 (rdl (mh_obj _ _)) rfl rfl rfl (by decide) (by decide) (Nat.le_refl _) (Nat.le_refl _) rfl (Nat.le_of_ble_eq_true rfl) dX4_fitsBy_78 rfl ?_
    refine aw_aload_n 82 dX4_fitsBy_81 rfl rfl ?_
    refine aw_iload 84 dX4_fitsBy_82 rfl rfl ?_
    refine aw_iload 86 dX4_fitsBy_84 rfl rfl ?_
    refine aw_xV 89 (m_placeL hC τ _ _ (hl.2 _ hax) (by omega) (by omega)) mvX4_placeAt q2412 (rdl (mh_obj _ _)) rfl rfl rfl (by decide) (by decide) (Nat.le_refl _) (Nat.le_refl _) rfl (Nat.le_of_ble_eq_true rfl) dX4_fitsBy_86 rfl ?_
    refine aw_isub 90 dX4_fitsBy_89 rfl ?_
    refine aw_xS 93 (m_plain _ (by omega)) msX4_plain q2327 rfl (by decide) (by decide) (Nat.le_refl _) (Nat.le_refl _) rfl (Nat.le_of_ble_eq_true rfl) dX4_fitsBy_90 rfl ?_
    refine aw_aload_n 94 dX4_fitsBy_93 rfl rfl ?_
    refine aw_iconst 95 dX4_fitsBy_94 rfl ?_
    refine aw_iload 97 dX4_fitsBy_95 rfl rfl ?_
    refine aw_iadd 98 dX4_fitsBy_97 rfl ?_
    refine aw_xV 101 (m_getS hC τ _ hrt.1 (by omega)) mvX4_get q2263 (rdl (mh_obj _ _)) rfl rfl rfl (by decide) (by decide) (Nat.le_refl _) (Nat.le_refl _) rfl (Nat.le_of_ble_eq_true rfl) dX4_fitsBy_98 rfl ?_
    rw [hρ]
    refine aw_icmp_le 106 104 (by omega) dX4_fitsBy_101 rfl rfl (fun c_101 => ?_) (fun c_101 => ?_)
    · refine aw_iinc 109 dX4_fitsBy_106 rfl rfl (as_6 rfl) (by decide) ?_
      refine aw_goto 64 dX4_fitsBy_109 rfl ?_
      exact ih (i + 1) (by omega) (fun a a0 a1 => by by_cases e : a = i; (subst e; exact hfit.mpr (by omega)); exact hA a a0 (by omega))
    · refine aw_iconst 105 dX4_fitsBy_104 rfl ?_
      exact aw_xz0 (by exact fun z => absurd (hfit.mp (z f hf.1 hf.2 i hax)) (by omega)) (rfl) rfl dX4_fitsBy_105
theorem l_fits {l : Launch} {g : AG} {C : MCx} (hC : MOK C) {σ : MSt} (τ : MSt) (p u : Int) (hr : mR σ) (hP : mP σ) (hp : isPa σ p) (hl : LD σ τ) (hu : 1 ≤ u ∧ u ≤ 9) : ∀ (n i : Nat) (o4 o5 o6 : Option Value), i + n = 999 → (∀ f : Int, 1 ≤ f → f ≤ i → ∀ a, isAx σ a → fitA σ p u a f) → AWc l g miX4_fitsBy 12 0 0 (fun r2 h2 => r2 = some (iv (bI (fitP σ p u))) ∧ h2 = mh C τ) (fun _ _ _ => False) 0 0 (mh C τ) 2 [some (.ref C.1), some (iv p), some (iv u), some (iv ((i : Int) + 1)), o4, o5, o6] [] := by
  have h5 := hr.2.1
  have h8 := hP.1
  obtain ⟨q1, q2, q3⟩ := hP.2 p hp.1 hp.2
  have hp1 := hp.1
  have hp2 := hp.2
  have e9 := hl.1.2.1 9 (by decide)
  have n0 : τ.2 9 (3 * p).toNat = σ.2 9 (3 * p).toNat := congrFun e9 _
  have n2 : τ.2 9 (3 * p + 2).toNat = σ.2 9 (3 * p + 2).toNat := congrFun e9 _
  intro n
  induction n with
  | zero =>
    intro i o4 o5 o6 hi hA
    refine aw_iload_n 3 dX4_fitsBy_2 rfl rfl ?_
    refine aw_sipush 6 dX4_fitsBy_3 rfl (by decide) ?_
    refine aw_icmp_ge 118 9 (by omega) dX4_fitsBy_6 rfl rfl (fun c_6 => ?_) (fun c_6 => absurd c_6 (by omega))
    refine aw_iconst 119 dX4_fitsBy_118 rfl ?_
    exact aw_xz1 (by exact fun f f0 f1 => hA f f0 (by omega)) (rfl) rfl dX4_fitsBy_119
  | succ n ih =>
    intro i o4 o5 o6 hi hA
    have s1 := shB_rg q1 hu q3 (f := (i : Int) + 1) (by omega)
    have s2 := shB_rg q1 hu q3 (f := (i : Int) + 1 - 1) (by omega)
    refine aw_iload_n 3 dX4_fitsBy_2 rfl rfl ?_
    refine aw_sipush 6 dX4_fitsBy_3 rfl (by decide) ?_
    refine aw_icmp_ge 118 9 (by omega) dX4_fitsBy_6 rfl rfl (fun c_6 => absurd c_6 (by omega)) (fun c_6 => ?_)
    refine aw_aload_n 10 dX4_fitsBy_9 rfl rfl ?_
    refine aw_get 13 ci4 9 (by decide) q2040 (Or.inl rfl) (rdl (mh_obj _ _)) rfl dX4_fitsBy_10 rfl ?_
    refine aw_iconst 14 dX4_fitsBy_13 rfl ?_
    refine aw_iload_n 15 dX4_fitsBy_14 rfl rfl ?_
    refine aw_imul 16 dX4_fitsBy_15 rfl ?_
    refine aw_iald 17 (rdl (mh_9 hC _)) (by omega) dX4_fitsBy_16 rfl (by decide) ?_
    refine aw_iload_n 18 dX4_fitsBy_17 rfl rfl ?_
    refine aw_aload_n 19 dX4_fitsBy_18 rfl rfl ?_
    refine aw_get 22 ci4 9 (by decide) q2040 (Or.inl rfl) (rdl (mh_obj _ _)) rfl dX4_fitsBy_19 rfl ?_
    refine aw_iconst 23 dX4_fitsBy_22 rfl ?_
    refine aw_iload_n 24 dX4_fitsBy_23 rfl rfl ?_
    refine aw_imul 25 dX4_fitsBy_24 rfl ?_
    refine aw_iconst 26 dX4_fitsBy_25 rfl ?_
    refine aw_iadd 27 dX4_fitsBy_26 rfl ?_
    refine aw_iald 28 (rdl (mh_9 hC _)) (by omega) dX4_fitsBy_27 rfl (by decide) ?_
    refine aw_iload_n 29 dX4_fitsBy_28 rfl rfl ?_
    rw [n0, n2]
    refine aw_xS 32 (m_shownBy _ _ _ _ q1 hu q3 (by omega)) msX4_shownBy q2504 rfl (by decide) (by decide) (Nat.le_refl _) (Nat.le_refl _) rfl (Nat.le_of_ble_eq_true rfl) dX4_fitsBy_29 rfl ?_
    refine aw_istore 34 dX4_fitsBy_32 rfl (as_4 rfl) (by decide) ?_
    refine aw_aload_n 35 dX4_fitsBy_34 rfl rfl ?_
    refine aw_get 38 ci4 9 (by decide) q2040 (Or.inl rfl) (rdl (mh_obj _ _)) rfl dX4_fitsBy_35 rfl ?_
    refine aw_iconst 39 dX4_fitsBy_38 rfl ?_
    refine aw_iload_n 40 dX4_fitsBy_39 rfl rfl ?_
    refine aw_imul 41 dX4_fitsBy_40 rfl ?_
    refine aw_iald 42 (rdl (mh_9 hC _)) (by omega) dX4_fitsBy_41 rfl (by decide) ?_
    refine aw_iload_n 43 dX4_fitsBy_42 rfl rfl ?_
    refine aw_aload_n 44 dX4_fitsBy_43 rfl rfl ?_
    refine aw_get 47 ci4 9 (by decide) q2040 (Or.inl rfl) (rdl (mh_obj _ _)) rfl dX4_fitsBy_44 rfl ?_
    refine aw_iconst 48 dX4_fitsBy_47 rfl ?_
    refine aw_iload_n 49 dX4_fitsBy_48 rfl rfl ?_
    refine aw_imul 50 dX4_fitsBy_49 rfl ?_
    refine aw_iconst 51 dX4_fitsBy_50 rfl ?_
    refine aw_iadd 52 dX4_fitsBy_51 rfl ?_
    refine aw_iald 53 (rdl (mh_9 hC _)) (by omega) dX4_fitsBy_52 rfl (by decide) ?_
    refine aw_iload_n 54 dX4_fitsBy_53 rfl rfl ?_
    refine aw_iconst 55 dX4_fitsBy_54 rfl ?_
    refine aw_isub 56 dX4_fitsBy_55 rfl ?_
    rw [n0, n2]
    refine aw_xS 59 (m_shownBy _ _ _ _ q1 hu q3 (by omega)) msX4_shownBy q2504 rfl (by decide) (by decide) (Nat.le_refl _) (Nat.le_refl _) rfl (Nat.le_of_ble_eq_true rfl) dX4_fitsBy_56 rfl ?_
    refine aw_istore 61 dX4_fitsBy_59 rfl (as_5 rfl) (by decide) ?_
    refine aw_iconst 62 dX4_fitsBy_61 rfl ?_
    refine aw_istore 64 dX4_fitsBy_62 rfl (as_6 rfl) (by decide) ?_
    refine l_fits2 hC τ p u ((i : Int) + 1) hr hl hu (by omega) _ _ s1 s2 rfl rfl (fun hB o => ?_) (σ.1 5).toNat 0 (by omega) (fun a a0 a1 => by omega)
    refine aw_iinc 115 dX4_fitsBy_112 rfl rfl (as_3 rfl) (by decide) ?_
    refine aw_goto 2 dX4_fitsBy_115 rfl ?_
    exact ih (i + 1) _ _ _ (by omega) (fun f f0 f1 => by by_cases e : f = (i : Int) + 1; (subst e; exact hB); exact hA f f0 (by omega))
theorem m_fitsBy {l : Launch} {g : AG} {C : MCx} (hC : MOK C) {σ : MSt} (τ : MSt) (p u : Int) (hr : mR σ) (hP : mP σ) (hp : isPa σ p) (hl : LD σ τ) (hu : 1 ≤ u ∧ u ≤ 9) : AMx l g miX4_fitsBy 12 [.ref C.1, iv p, iv u] (mh C τ) (some (iv (bI (fitP σ p u)))) (mh C τ) := by
  refine aw_start 4 (by decide) rfl (Nat.le_of_ble_eq_true rfl) ?_
  show AWc l g miX4_fitsBy 12 0 0 _ _ 0 0 (mh C τ) 0 [some (.ref C.1), some (iv p), some (iv u), none, none, none, none] []
  refine aw_iconst 1 dX4_fitsBy_0 rfl ?_
  refine aw_istore_n 2 dX4_fitsBy_1 rfl (as_3 rfl) (by decide) ?_
  exact l_fits hC τ p u hr hP hp hl hu 999 0 _ _ _ rfl (fun f f0 f1 => by omega)
noncomputable def o_fits (p : Int) (σ : MSt) : Int × Int := if isPa σ p then (0, bI (fitP σ p (σ.2 9 (3 * p + 1).toNat))) else (1, bI False)
def k_fits (p : Int) (σ : MSt) : MSt := if isPa σ p then k_laysAll (sF σ 0 0) else sF σ 0 1
theorem fitP_F (σ : MSt) (z p u : Int) : fitP (sF σ 0 z) p u = fitP σ p u := by
  unfold fitP fitA wyP
  rw [pos_F]
  rfl
theorem l_fits17 {l : Launch} {g : AG} {C : MCx} (hC : MOK C) (σ : MSt) (p : Int) (hr : mR σ) (hT : mT σ) (hP : mP σ) (hp : Rg p) : AWc l g miX4_fits 17 0 0 (fun r2 h2 => r2 = some (iv (o_fits p σ).2) ∧ h2 = mh C (k_fits p σ)) (fun _ _ _ => False) 0 0 (mh C (sF σ 0 (if isPa σ p then 0 else 1))) 17 [some (.ref C.1), some (iv p)] [] := by
  have h8 := hP.1
  have hl := k_laysAll_ok (σ := sF σ 0 0) hr
  by_cases hx : isPa σ p
  · rw [show o_fits p σ = (0, bI (fitP σ p (σ.2 9 (3 * p + 1).toNat))) from if_pos hx, show k_fits p σ = k_laysAll (sF σ 0 0) from if_pos hx, if_pos hx]
    obtain ⟨q1, q2, q3⟩ := hP.2 p hx.1 hx.2
    have hp1 := hx.1
    have hp2 := hx.2
    refine aw_aload_n 18 dX4_fits_17 rfl rfl ?_
    refine aw_get 21 ci4 0 (by decide) q2031 (Or.inl rfl) (rdl (mh_obj _ _)) rfl dX4_fits_18 rfl ?_
    refine aw_st (show _ = [iv 0] from rfl) ?_
    refine aw_if_le 26 24 (by omega) dX4_fits_21 rfl rfl (fun c_21 => ?_) (fun c_21 => absurd c_21 (by omega))
    refine aw_aload_n 27 dX4_fits_26 rfl rfl ?_
    refine aw_xVv 30 (m_laysAll hC (sF σ 0 0) hr hT) mvX4_laysAll q2428 (rdl (mh_obj _ _)) rfl rfl rfl (by decide) (by decide) (Nat.le_refl _) (Nat.le_refl _) rfl (Nat.le_of_ble_eq_true rfl) dX4_fits_27 rfl ?_
    refine aw_aload_n 31 dX4_fits_30 rfl rfl ?_
    refine aw_iload_n 32 dX4_fits_31 rfl rfl ?_
    refine aw_aload_n 33 dX4_fits_32 rfl rfl ?_
    refine aw_get 36 ci4 9 (by decide) q2040 (Or.inl rfl) (rdl (mh_obj _ _)) rfl dX4_fits_33 rfl ?_
    refine aw_iconst 37 dX4_fits_36 rfl ?_
    refine aw_iload_n 38 dX4_fits_37 rfl rfl ?_
    refine aw_imul 39 dX4_fits_38 rfl ?_
    refine aw_iconst 40 dX4_fits_39 rfl ?_
    refine aw_iadd 41 dX4_fits_40 rfl ?_
    refine aw_iald 42 (rdl (mh_9 hC _)) (by omega) dX4_fits_41 rfl (by decide) ?_
    refine aw_st (show _ = [iv (σ.2 9 (3 * p + 1).toNat), iv p, .ref C.1] from congrArg (fun x => [iv x, iv p, .ref C.1]) (congrFun (hl.1.2.1 9 (by decide)) _)) ?_
    refine aw_xV 45 (m_fitsBy (σ := sF σ 0 0) hC (k_laysAll (sF σ 0 0)) p _ hr hP hx hl q2) mvX4_fitsBy q2515 (rdl (mh_obj _ _)) rfl rfl rfl (by decide) (by decide) (Nat.le_refl _) (Nat.le_refl _) rfl (Nat.le_of_ble_eq_true rfl) dX4_fits_42 rfl ?_
    rw [fitP_F]
    exact aw_xz (by exact Iff.rfl) (rfl) rfl dX4_fits_45
  · rw [show o_fits p σ = (1, bI False) from if_neg hx, show k_fits p σ = sF σ 0 1 from if_neg hx, if_neg hx]
    refine aw_aload_n 18 dX4_fits_17 rfl rfl ?_
    refine aw_get 21 ci4 0 (by decide) q2031 (Or.inl rfl) (rdl (mh_obj _ _)) rfl dX4_fits_18 rfl ?_
    refine aw_st (show _ = [iv 1] from rfl) ?_
    refine aw_if_le 26 24 (by omega) dX4_fits_21 rfl rfl (fun c_21 => absurd c_21 (by omega)) (fun c_21 => ?_)
    refine aw_iconst 25 dX4_fits_24 rfl ?_
    exact aw_xz0 (by exact id) (rfl) rfl dX4_fits_25
theorem m_fits {l : Launch} {g : AG} {C : MCx} (hC : MOK C) (σ : MSt) (p : Int) (hr : mR σ) (hT : mT σ) (hP : mP σ) (hp : Rg p): AMx l g miX4_fits 17 [.ref C.1, iv p] (mh C σ) (some (iv (o_fits p σ).2)) (mh C (k_fits p σ)) := by
  refine aw_start 0 (by decide) rfl (Nat.le_of_ble_eq_true rfl) ?_
  show AWc l g miX4_fits 17 0 0 _ _ 0 0 (mh C σ) 0 [some (.ref C.1), some (iv p)] []
  have h8 := hP.1
  have hl := k_laysAll_ok (σ := sF σ 0 0) hr
  refine aw_aload_n 1 dX4_fits_0 rfl rfl ?_
  refine aw_join ((if isPa σ p then 0 else 1)) 14 ?_ (fun kz1 => ?_)
  · refine aw_put 17 ci4 0 (by decide) q2031 (Or.inl rfl) rfl rfl rfl (Nat.le_of_ble_eq_true rfl) (mh_obj _ _) dX4_fits_14 rfl ?_
    refine aw_h (mhp_0 _ _ _) ?_
    exact l_fits17 hC σ p hr hT hP hp
  · refine aw_aload_n 2 dX4_fits_1 rfl rfl ?_
    refine aw_iload_n 3 dX4_fits_2 rfl rfl ?_
    refine aw_xV 6 (m_isPass hC _ _ (by omega) (by omega)) mvX4_isPass q2496 (rdl (mh_obj _ _)) rfl rfl rfl (by decide) (by decide) (Nat.le_refl _) (Nat.le_refl _) rfl (Nat.le_of_ble_eq_true rfl) dX4_fits_3 rfl ?_
    refine aw_if_eqB 13 9 dX4_fits_6 rfl rfl (fun c_6 => ?_) (fun c_6 => ?_)
    · refine aw_iconst 14 dX4_fits_13 rfl ?_
      exact kz1 _ (by first | exact (if_pos (by assumption)).symm | exact (if_neg (by assumption)).symm)
    · refine aw_iconst 10 dX4_fits_9 rfl ?_
      refine aw_goto 14 dX4_fits_10 rfl ?_
      exact kz1 _ (by first | exact (if_pos (by assumption)).symm | exact (if_neg (by assumption)).symm)
/-- two passes show alike -/
def alk (σ : MSt) (p q f : Int) : Prop := ∀ a, isAx σ a → pos σ a (shP σ p f).toNat = pos σ a (shP σ q f).toNat
theorem l_alike {l : Launch} {g : AG} {C : MCx} (hC : MOK C) {σ : MSt} (τ : MSt) (p q f : Int) (hr : mR σ) (hP : mP σ) (hp : isPa σ p) (hq : isPa σ q) (hl : LD σ τ) (hf : 0 ≤ f ∧ f ≤ 999) : ∀ (n i : Nat), (i : Int) + n = σ.1 5 → (∀ a : Int, 0 ≤ a → a < i → pos σ a (shP σ p f).toNat = pos σ a (shP σ q f).toNat) → AWc l g miX4_areAlike 12 0 0 (fun r2 h2 => r2 = some (iv (bI (alk σ p q f))) ∧ h2 = mh C τ) (fun _ _ _ => False) 0 0 (mh C τ) 3 [some (.ref C.1), some (iv p), some (iv q), some (iv f), some (iv i)] [] := by
  have h5 := hr.2.1
  have ht5 := hl.1.1 5 (by decide)
  have s1 := shP_rg hP hp hf
  have s2 := shP_rg hP hq hf
  intro n
  induction n with
  | zero =>
    intro i hi hA
    refine aw_iload 5 dX4_areAlike_3 rfl rfl ?_
    refine aw_aload_n 6 dX4_areAlike_5 rfl rfl ?_
    refine aw_get 9 ci4 5 (by decide) q2036 (Or.inl rfl) (rdl (mh_obj _ _)) rfl dX4_areAlike_6 rfl ?_
    refine aw_icmp_ge 47 12 (by omega) dX4_areAlike_9 rfl rfl (fun c_9 => ?_) (fun c_9 => absurd c_9 (by omega))
    refine aw_iconst 48 dX4_areAlike_47 rfl ?_
    exact aw_xz1 (by exact fun a ha => hA a ha.1 (by have := ha.2; omega)) (rfl) rfl dX4_areAlike_48
  | succ n ih =>
    intro i hi hA
    have hax : isAx σ i := ⟨by omega, by omega⟩
    have p1 := pos_rg hr hax (j := (shP σ p f).toNat) (by omega)
    have p2 := pos_rg hr hax (j := (shP σ q f).toNat) (by omega)
    refine aw_iload 5 dX4_areAlike_3 rfl rfl ?_
    refine aw_aload_n 6 dX4_areAlike_5 rfl rfl ?_
    refine aw_get 9 ci4 5 (by decide) q2036 (Or.inl rfl) (rdl (mh_obj _ _)) rfl dX4_areAlike_6 rfl ?_
    refine aw_icmp_ge 47 12 (by omega) dX4_areAlike_9 rfl rfl (fun c_9 => absurd c_9 (by omega)) (fun c_9 => ?_)
    refine aw_aload_n 13 dX4_areAlike_12 rfl rfl ?_
    refine aw_iload 15 dX4_areAlike_13 rfl rfl ?_
    refine aw_aload_n 16 dX4_areAlike_15 rfl rfl ?_
    refine aw_iload_n 17 dX4_areAlike_16 rfl rfl ?_
    refine aw_iload_n 18 dX4_areAlike_17 rfl rfl ?_
    refine aw_xV 21 (m_shownL hC τ _ _ hl.1 hP hp hf) mvX4_shownIn q2500 (rdl (mh_obj _ _)) rfl rfl rfl (by decide) (by decide) (Nat.le_refl _) (Nat.le_refl _) rfl (Nat.le_of_ble_eq_true rfl) dX4_areAlike_18 rfl ?_
    refine aw_xV 24 (m_placeL hC τ _ _ (hl.2 _ hax) (by omega) (by omega)) mvX4_placeAt q2412 (rdl (mh_obj _ _)) rfl rfl rfl (by decide) (by decide) (Nat.le_refl _) (Nat.le_refl _) rfl (Nat.le_of_ble_eq_true rfl) dX4_areAlike_21 rfl ?_
    refine aw_aload_n 25 dX4_areAlike_24 rfl rfl ?_
    refine aw_iload 27 dX4_areAlike_25 rfl rfl ?_
    refine aw_aload_n 28 dX4_areAlike_27 rfl rfl ?_
    refine aw_iload_n 29 dX4_areAlike_28 rfl rfl ?_
    refine aw_iload_n 30 dX4_areAlike_29 rfl rfl ?_
    refine aw_xV 33 (m_shownL hC τ _ _ hl.1 hP hq hf) mvX4_shownIn q2500 (rdl (mh_obj _ _)) rfl rfl rfl (by decide) (by decide) (Nat.le_refl _) (Nat.le_refl _) rfl (Nat.le_of_ble_eq_true rfl) dX4_areAlike_30 rfl ?_
    refine aw_xV 36 (m_placeL hC τ _ _ (hl.2 _ hax) (by omega) (by omega)) mvX4_placeAt q2412 (rdl (mh_obj _ _)) rfl rfl rfl (by decide) (by decide) (Nat.le_refl _) (Nat.le_refl _) rfl (Nat.le_of_ble_eq_true rfl) dX4_areAlike_33 rfl ?_
    refine aw_icmp_eq 41 39 (by omega) dX4_areAlike_36 rfl rfl (fun c_36 => ?_) (fun c_36 => ?_)
    · refine aw_iinc 44 dX4_areAlike_41 rfl rfl (as_4 rfl) (by decide) ?_
      refine aw_goto 3 dX4_areAlike_44 rfl ?_
      exact ih (i + 1) (by omega) (fun a a0 a1 => by by_cases e : a = i; (subst e; assumption); exact hA a a0 (by omega))
    · refine aw_iconst 40 dX4_areAlike_39 rfl ?_
      exact aw_xz0 (by exact fun z => absurd (z i hax) (by assumption)) (rfl) rfl dX4_areAlike_40
theorem m_areAlike {l : Launch} {g : AG} {C : MCx} (hC : MOK C) {σ : MSt} (τ : MSt) (p q f : Int) (hr : mR σ) (hP : mP σ) (hp : isPa σ p) (hq : isPa σ q) (hl : LD σ τ) (hf : 0 ≤ f ∧ f ≤ 999) : AMx l g miX4_areAlike 12 [.ref C.1, iv p, iv q, iv f] (mh C τ) (some (iv (bI (alk σ p q f)))) (mh C τ) := by
  have h5 := hr.2.1
  refine aw_start 1 (by decide) rfl (Nat.le_of_ble_eq_true rfl) ?_
  show AWc l g miX4_areAlike 12 0 0 _ _ 0 0 (mh C τ) 0 [some (.ref C.1), some (iv p), some (iv q), some (iv f), none] []
  refine aw_iconst 1 dX4_areAlike_0 rfl ?_
  refine aw_istore 3 dX4_areAlike_1 rfl (as_4 rfl) (by decide) ?_
  exact l_alike hC τ p q f hr hP hp hq hl hf (σ.1 5).toNat 0 (by omega) (fun a a0 a1 => by omega)
noncomputable def maF (σ : MSt) (p q : Int) : Nat → Int := sof (fun f => bI (alk σ p q f))
theorem l_matches {l : Launch} {g : AG} {C : MCx} (hC : MOK C) {σ : MSt} (τ : MSt) (p q : Int) (H : AH) (hH : H = mh C τ) (hr : mR σ) (hP : mP σ) (hp : isPa σ p) (hq : isPa σ q) (hl : LD σ τ) : ∀ (n i : Nat), i + n = 1000 → AWc l g miX4_matches 17 0 0 (fun r2 h2 => r2 = some (iv (maF σ p q 1000)) ∧ h2 = H) (fun _ _ _ => False) 0 0 (mh C τ) 36 [some (.ref C.1), some (iv p), some (iv q), some (iv (maF σ p q i)), some (iv i)] [] := by
  intro n
  induction n with
  | zero =>
    intro i hi
    have e : i = 1000 := by omega
    subst e
    refine aw_iload 38 dX4_matches_36 rfl rfl ?_
    refine aw_sipush 41 dX4_matches_38 rfl (by decide) ?_
    refine aw_icmp_ge 64 44 (by omega) dX4_matches_41 rfl rfl (fun c_41 => ?_) (fun c_41 => absurd c_41 (by omega))
    refine aw_iload_n 65 dX4_matches_64 rfl rfl ?_
    exact aw_xi (by rfl) (hH.symm) rfl dX4_matches_65
  | succ n ih =>
    intro i hi
    have ih := ih (i + 1) (by omega)
    refine aw_iload 38 dX4_matches_36 rfl rfl ?_
    refine aw_sipush 41 dX4_matches_38 rfl (by decide) ?_
    refine aw_icmp_ge 64 44 (by omega) dX4_matches_41 rfl rfl (fun c_41 => absurd c_41 (by omega)) (fun c_41 => ?_)
    refine aw_aload_n 45 dX4_matches_44 rfl rfl ?_
    refine aw_iload_n 46 dX4_matches_45 rfl rfl ?_
    refine aw_iload_n 47 dX4_matches_46 rfl rfl ?_
    refine aw_iload 49 dX4_matches_47 rfl rfl ?_
    refine aw_xV 52 (m_areAlike hC _ _ _ _ hr hP hp hq hl (by omega)) mvX4_areAlike q2523 (rdl (mh_obj _ _)) rfl rfl rfl (by decide) (by decide) (Nat.le_refl _) (Nat.le_refl _) rfl (Nat.le_of_ble_eq_true rfl) dX4_matches_49 rfl ?_
    refine aw_if_eqB 58 55 dX4_matches_52 rfl rfl (fun c_52 => ?_) (fun c_52 => ?_)
    · refine aw_iinc 61 dX4_matches_58 rfl rfl (as_4 rfl) (by decide) ?_
      refine aw_goto 36 dX4_matches_61 rfl ?_
      first | (rw [show maF σ p q (i + 1) = maF σ p q i + 1 from congrArg (maF σ p q i + ·) (bI_t (by assumption))] at ih; exact ih) | (rw [show maF σ p q (i + 1) = maF σ p q i from (congrArg (maF σ p q i + ·) (bI_f (by assumption))).trans (Int.add_zero _)] at ih; exact ih)
    · refine aw_iinc 58 dX4_matches_55 rfl rfl (as_3 rfl) (by decide) ?_
      refine aw_iinc 61 dX4_matches_58 rfl rfl (as_4 rfl) (by decide) ?_
      refine aw_goto 36 dX4_matches_61 rfl ?_
      first | (rw [show maF σ p q (i + 1) = maF σ p q i + 1 from congrArg (maF σ p q i + ·) (bI_t (by assumption))] at ih; exact ih) | (rw [show maF σ p q (i + 1) = maF σ p q i from (congrArg (maF σ p q i + ·) (bI_f (by assumption))).trans (Int.add_zero _)] at ih; exact ih)
noncomputable def o_matches (p q : Int) (σ : MSt) : Int × Int := if isPa σ p ∧ isPa σ q then (0, maF σ p q 1000) else (1, 0)
def k_onPP (p q : Int) (σ : MSt) : MSt := if isPa σ p ∧ isPa σ q then k_laysAll σ else σ
theorem m_matches {l : Launch} {g : AG} {C : MCx} (hC : MOK C) (σ : MSt) (p q : Int) (hr : mR σ) (hT : mT σ) (hP : mP σ) (hp : Rg p) (hq : Rg q): AMx l g miX4_matches 17 [.ref C.1, iv p, iv q] (mh C σ) (some (iv (o_matches p q (sF σ 0 0)).2)) (mh C (sF (k_onPP p q (sF σ 0 0)) 0 (o_matches p q (sF σ 0 0)).1)) := by
  refine aw_start 2 (by decide) rfl (Nat.le_of_ble_eq_true rfl) ?_
  show AWc l g miX4_matches 17 0 0 _ _ 0 0 (mh C σ) 0 [some (.ref C.1), some (iv p), some (iv q), none, none] []
  have h0 : (sF σ 0 0).1 0 = 0 := rfl
  have hr : mR (sF σ 0 0) := hr
  have hT : mT (sF σ 0 0) := hT
  have hP : mP (sF σ 0 0) := hP
  refine aw_aload_n 1 dX4_matches_0 rfl rfl ?_
  refine aw_iconst 2 dX4_matches_1 rfl ?_
  refine aw_put 5 ci4 0 (by decide) q2031 (Or.inl rfl) rfl rfl rfl (Nat.le_of_ble_eq_true rfl) (mh_obj _ _) dX4_matches_2 rfl ?_
  refine aw_h (mhp_0 _ _ _) ?_
  generalize sF σ 0 0 = σ at h0 hr hT hP ⊢
  have h8 := hP.1
  have hl := k_laysAll_ok hr
  refine aw_aload_n 6 dX4_matches_5 rfl rfl ?_
  refine aw_iload_n 7 dX4_matches_6 rfl rfl ?_
  refine aw_xV 10 (m_isPass hC _ _ (by omega) (by omega)) mvX4_isPass q2496 (rdl (mh_obj _ _)) rfl rfl rfl (by decide) (by decide) (Nat.le_refl _) (Nat.le_refl _) rfl (Nat.le_of_ble_eq_true rfl) dX4_matches_7 rfl ?_
  refine aw_if_eqB 21 13 dX4_matches_10 rfl rfl (fun c_10 => ?_) (fun c_10 => ?_)
  · refine aw_aload_n 22 dX4_matches_21 rfl rfl ?_
    refine aw_iconst 23 dX4_matches_22 rfl ?_
    refine aw_xV 26 (m_fails hC _ _) mvX4_fails q2151 (rdl (mh_obj _ _)) rfl rfl rfl (by decide) (by decide) (Nat.le_refl _) (Nat.le_refl _) rfl (Nat.le_of_ble_eq_true rfl) dX4_matches_23 rfl ?_
    exact aw_xi (by unfold o_matches; rw [if_neg (fun z => by first | exact absurd z.1 (by assumption) | exact absurd z.2 (by assumption))]) (by unfold o_matches k_onPP; rw [if_neg (fun z => by first | exact absurd z.1 (by assumption) | exact absurd z.2 (by assumption)), if_neg (fun z => by first | exact absurd z.1 (by assumption) | exact absurd z.2 (by assumption))]) rfl dX4_matches_26
  · refine aw_aload_n 14 dX4_matches_13 rfl rfl ?_
    refine aw_iload_n 15 dX4_matches_14 rfl rfl ?_
    refine aw_xV 18 (m_isPass hC _ _ (by omega) (by omega)) mvX4_isPass q2496 (rdl (mh_obj _ _)) rfl rfl rfl (by decide) (by decide) (Nat.le_refl _) (Nat.le_refl _) rfl (Nat.le_of_ble_eq_true rfl) dX4_matches_15 rfl ?_
    refine aw_if_neB 27 21 dX4_matches_18 rfl rfl (fun c_18 => ?_) (fun c_18 => ?_)
    · refine aw_aload_n 28 dX4_matches_27 rfl rfl ?_
      refine aw_xVv 31 (m_laysAll hC _ hr hT) mvX4_laysAll q2428 (rdl (mh_obj _ _)) rfl rfl rfl (by decide) (by decide) (Nat.le_refl _) (Nat.le_refl _) rfl (Nat.le_of_ble_eq_true rfl) dX4_matches_28 rfl ?_
      refine aw_iconst 32 dX4_matches_31 rfl ?_
      refine aw_istore_n 33 dX4_matches_32 rfl (as_3 rfl) (by decide) ?_
      refine aw_iconst 34 dX4_matches_33 rfl ?_
      refine aw_istore 36 dX4_matches_34 rfl (as_4 rfl) (by decide) ?_
      rw [show o_matches p q σ = (0, maF σ p q 1000) from if_pos ⟨by assumption, by assumption⟩, show k_onPP p q σ = k_laysAll σ from if_pos ⟨by assumption, by assumption⟩]
      exact l_matches hC (k_laysAll σ) p q _ (congrArg (mh C) (sF_id (k := 0) (z := 0) (hl.th.trans h0))) hr hP (by assumption) (by assumption) hl 1000 0 rfl
    · refine aw_aload_n 22 dX4_matches_21 rfl rfl ?_
      refine aw_iconst 23 dX4_matches_22 rfl ?_
      refine aw_xV 26 (m_fails hC _ _) mvX4_fails q2151 (rdl (mh_obj _ _)) rfl rfl rfl (by decide) (by decide) (Nat.le_refl _) (Nat.le_refl _) rfl (Nat.le_of_ble_eq_true rfl) dX4_matches_23 rfl ?_
      exact aw_xi (by unfold o_matches; rw [if_neg (fun z => by first | exact absurd z.1 (by assumption) | exact absurd z.2 (by assumption))]) (by unfold o_matches k_onPP; rw [if_neg (fun z => by first | exact absurd z.1 (by assumption) | exact absurd z.2 (by assumption)), if_neg (fun z => by first | exact absurd z.1 (by assumption) | exact absurd z.2 (by assumption))]) rfl dX4_matches_26
theorem l_mismatch {l : Launch} {g : AG} {C : MCx} (hC : MOK C) {σ : MSt} (τ : MSt) (p q : Int) (H : AH) (hH : H = mh C τ) (hr : mR σ) (hP : mP σ) (hp : isPa σ p) (hq : isPa σ q) (hl : LD σ τ) : ∀ (n i : Nat), i + n = 1000 → AWc l g miX4_mismatch 17 0 0 (fun r2 h2 => r2 = some (iv (fst1 (fun f => ¬ alk σ p q f) n i)) ∧ h2 = H) (fun _ _ _ => False) 0 0 (mh C τ) 33 [some (.ref C.1), some (iv p), some (iv q), some (iv i)] [] := by
  intro n
  induction n with
  | zero =>
    intro i hi
    have e : i = 1000 := by omega
    subst e
    refine aw_iload_n 34 dX4_mismatch_33 rfl rfl ?_
    refine aw_sipush 37 dX4_mismatch_34 rfl (by decide) ?_
    refine aw_icmp_ge 58 40 (by omega) dX4_mismatch_37 rfl rfl (fun c_37 => ?_) (fun c_37 => absurd c_37 (by omega))
    refine aw_iconst 59 dX4_mismatch_58 rfl ?_
    exact aw_xi (by rfl) (hH.symm) rfl dX4_mismatch_59
  | succ n ih =>
    intro i hi
    have ih := ih (i + 1) (by omega)
    refine aw_iload_n 34 dX4_mismatch_33 rfl rfl ?_
    refine aw_sipush 37 dX4_mismatch_34 rfl (by decide) ?_
    refine aw_icmp_ge 58 40 (by omega) dX4_mismatch_37 rfl rfl (fun c_37 => absurd c_37 (by omega)) (fun c_37 => ?_)
    refine aw_aload_n 41 dX4_mismatch_40 rfl rfl ?_
    refine aw_iload_n 42 dX4_mismatch_41 rfl rfl ?_
    refine aw_iload_n 43 dX4_mismatch_42 rfl rfl ?_
    refine aw_iload_n 44 dX4_mismatch_43 rfl rfl ?_
    refine aw_xV 47 (m_areAlike hC _ _ _ _ hr hP hp hq hl (by omega)) mvX4_areAlike q2523 (rdl (mh_obj _ _)) rfl rfl rfl (by decide) (by decide) (Nat.le_refl _) (Nat.le_refl _) rfl (Nat.le_of_ble_eq_true rfl) dX4_mismatch_44 rfl ?_
    refine aw_if_neB 52 50 dX4_mismatch_47 rfl rfl (fun c_47 => ?_) (fun c_47 => ?_)
    · rw [show fst1 (fun f => ¬ alk σ p q f) (n + 1) i = fst1 (fun f => ¬ alk σ p q f) n (i + 1) from if_neg (fun z => z (by assumption))]
      refine aw_iinc 55 dX4_mismatch_52 rfl rfl (as_3 rfl) (by decide) ?_
      refine aw_goto 33 dX4_mismatch_55 rfl ?_
      exact ih
    · refine aw_iload_n 51 dX4_mismatch_50 rfl rfl ?_
      exact aw_xi (by exact (if_pos (by assumption)).symm) (hH.symm) rfl dX4_mismatch_51
noncomputable def o_mismatch (p q : Int) (σ : MSt) : Int × Int := if isPa σ p ∧ isPa σ q then (0, fst1 (fun f => ¬ alk σ p q f) 1000 0) else (1, 0)
theorem m_mismatch {l : Launch} {g : AG} {C : MCx} (hC : MOK C) (σ : MSt) (p q : Int) (hr : mR σ) (hT : mT σ) (hP : mP σ) (hp : Rg p) (hq : Rg q): AMx l g miX4_mismatch 17 [.ref C.1, iv p, iv q] (mh C σ) (some (iv (o_mismatch p q (sF σ 0 0)).2)) (mh C (sF (k_onPP p q (sF σ 0 0)) 0 (o_mismatch p q (sF σ 0 0)).1)) := by
  refine aw_start 1 (by decide) rfl (Nat.le_of_ble_eq_true rfl) ?_
  show AWc l g miX4_mismatch 17 0 0 _ _ 0 0 (mh C σ) 0 [some (.ref C.1), some (iv p), some (iv q), none] []
  have h0 : (sF σ 0 0).1 0 = 0 := rfl
  have hr : mR (sF σ 0 0) := hr
  have hT : mT (sF σ 0 0) := hT
  have hP : mP (sF σ 0 0) := hP
  refine aw_aload_n 1 dX4_mismatch_0 rfl rfl ?_
  refine aw_iconst 2 dX4_mismatch_1 rfl ?_
  refine aw_put 5 ci4 0 (by decide) q2031 (Or.inl rfl) rfl rfl rfl (Nat.le_of_ble_eq_true rfl) (mh_obj _ _) dX4_mismatch_2 rfl ?_
  refine aw_h (mhp_0 _ _ _) ?_
  generalize sF σ 0 0 = σ at h0 hr hT hP ⊢
  have h8 := hP.1
  have hl := k_laysAll_ok hr
  refine aw_aload_n 6 dX4_mismatch_5 rfl rfl ?_
  refine aw_iload_n 7 dX4_mismatch_6 rfl rfl ?_
  refine aw_xV 10 (m_isPass hC _ _ (by omega) (by omega)) mvX4_isPass q2496 (rdl (mh_obj _ _)) rfl rfl rfl (by decide) (by decide) (Nat.le_refl _) (Nat.le_refl _) rfl (Nat.le_of_ble_eq_true rfl) dX4_mismatch_7 rfl ?_
  refine aw_if_eqB 21 13 dX4_mismatch_10 rfl rfl (fun c_10 => ?_) (fun c_10 => ?_)
  · refine aw_aload_n 22 dX4_mismatch_21 rfl rfl ?_
    refine aw_iconst 23 dX4_mismatch_22 rfl ?_
    refine aw_xV 26 (m_fails hC _ _) mvX4_fails q2151 (rdl (mh_obj _ _)) rfl rfl rfl (by decide) (by decide) (Nat.le_refl _) (Nat.le_refl _) rfl (Nat.le_of_ble_eq_true rfl) dX4_mismatch_23 rfl ?_
    exact aw_xi (by unfold o_mismatch; rw [if_neg (fun z => by first | exact absurd z.1 (by assumption) | exact absurd z.2 (by assumption))]) (by unfold o_mismatch k_onPP; rw [if_neg (fun z => by first | exact absurd z.1 (by assumption) | exact absurd z.2 (by assumption)), if_neg (fun z => by first | exact absurd z.1 (by assumption) | exact absurd z.2 (by assumption))]) rfl dX4_mismatch_26
  · refine aw_aload_n 14 dX4_mismatch_13 rfl rfl ?_
    refine aw_iload_n 15 dX4_mismatch_14 rfl rfl ?_
    refine aw_xV 18 (m_isPass hC _ _ (by omega) (by omega)) mvX4_isPass q2496 (rdl (mh_obj _ _)) rfl rfl rfl (by decide) (by decide) (Nat.le_refl _) (Nat.le_refl _) rfl (Nat.le_of_ble_eq_true rfl) dX4_mismatch_15 rfl ?_
    refine aw_if_neB 27 21 dX4_mismatch_18 rfl rfl (fun c_18 => ?_) (fun c_18 => ?_)
    · refine aw_aload_n 28 dX4_mismatch_27 rfl rfl ?_
      refine aw_xVv 31 (m_laysAll hC _ hr hT) mvX4_laysAll q2428 (rdl (mh_obj _ _)) rfl rfl rfl (by decide) (by decide) (Nat.le_refl _) (Nat.le_refl _) rfl (Nat.le_of_ble_eq_true rfl) dX4_mismatch_28 rfl ?_
      refine aw_iconst 32 dX4_mismatch_31 rfl ?_
      refine aw_istore_n 33 dX4_mismatch_32 rfl (as_3 rfl) (by decide) ?_
      rw [show o_mismatch p q σ = (0, fst1 (fun f => ¬ alk σ p q f) 1000 0) from if_pos ⟨by assumption, by assumption⟩, show k_onPP p q σ = k_laysAll σ from if_pos ⟨by assumption, by assumption⟩]
      exact l_mismatch hC (k_laysAll σ) p q _ (congrArg (mh C) (sF_id (k := 0) (z := 0) (hl.th.trans h0))) hr hP (by assumption) (by assumption) hl 1000 0 rfl
    · refine aw_aload_n 22 dX4_mismatch_21 rfl rfl ?_
      refine aw_iconst 23 dX4_mismatch_22 rfl ?_
      refine aw_xV 26 (m_fails hC _ _) mvX4_fails q2151 (rdl (mh_obj _ _)) rfl rfl rfl (by decide) (by decide) (Nat.le_refl _) (Nat.le_refl _) rfl (Nat.le_of_ble_eq_true rfl) dX4_mismatch_23 rfl ?_
      exact aw_xi (by unfold o_mismatch; rw [if_neg (fun z => by first | exact absurd z.1 (by assumption) | exact absurd z.2 (by assumption))]) (by unfold o_mismatch k_onPP; rw [if_neg (fun z => by first | exact absurd z.1 (by assumption) | exact absurd z.2 (by assumption)), if_neg (fun z => by first | exact absurd z.1 (by assumption) | exact absurd z.2 (by assumption))]) rfl dX4_mismatch_26
theorem l_fitDen {l : Launch} {g : AG} {C : MCx} (hC : MOK C) {σ : MSt} (τ : MSt) (p : Int) (H : AH) (hH : H = mh C τ) (hr : mR σ) (hP : mP σ) (hp : isPa σ p) (hl : LD σ τ) : ∀ (n i : Nat), i + n = 10 → 1 ≤ i → AWc l g miX4_fittingDen 17 0 0 (fun r2 h2 => r2 = some (iv (fst1 (fun u => fitP σ p u) n i)) ∧ h2 = H) (fun _ _ _ => False) 0 0 (mh C τ) 25 [some (.ref C.1), some (iv p), some (iv i)] [] := by
  intro n
  induction n with
  | zero =>
    intro i hi h1
    have e : i = 10 := by omega
    subst e
    refine aw_iload_n 26 dX4_fittingDen_25 rfl rfl ?_
    refine aw_bipush 28 dX4_fittingDen_26 rfl (by decide) ?_
    refine aw_icmp_gt 48 31 (by omega) dX4_fittingDen_28 rfl rfl (fun c_28 => ?_) (fun c_28 => absurd c_28 (by omega))
    refine aw_iconst 49 dX4_fittingDen_48 rfl ?_
    exact aw_xi (by rfl) (hH.symm) rfl dX4_fittingDen_49
  | succ n ih =>
    intro i hi h1
    have ih := ih (i + 1) (by omega) (by omega)
    refine aw_iload_n 26 dX4_fittingDen_25 rfl rfl ?_
    refine aw_bipush 28 dX4_fittingDen_26 rfl (by decide) ?_
    refine aw_icmp_gt 48 31 (by omega) dX4_fittingDen_28 rfl rfl (fun c_28 => absurd c_28 (by omega)) (fun c_28 => ?_)
    refine aw_aload_n 32 dX4_fittingDen_31 rfl rfl ?_
    refine aw_iload_n 33 dX4_fittingDen_32 rfl rfl ?_
    refine aw_iload_n 34 dX4_fittingDen_33 rfl rfl ?_
    refine aw_xV 37 (m_fitsBy hC τ p _ hr hP hp hl (by omega)) mvX4_fitsBy q2515 (rdl (mh_obj _ _)) rfl rfl rfl (by decide) (by decide) (Nat.le_refl _) (Nat.le_refl _) rfl (Nat.le_of_ble_eq_true rfl) dX4_fittingDen_34 rfl ?_
    refine aw_if_eqB 42 40 dX4_fittingDen_37 rfl rfl (fun c_37 => ?_) (fun c_37 => ?_)
    · rw [show fst1 (fun u => fitP σ p u) (n + 1) i = fst1 (fun u => fitP σ p u) n (i + 1) from if_neg (by assumption)]
      refine aw_iinc 45 dX4_fittingDen_42 rfl rfl (as_2 rfl) (by decide) ?_
      refine aw_goto 25 dX4_fittingDen_45 rfl ?_
      exact ih
    · refine aw_iload_n 41 dX4_fittingDen_40 rfl rfl ?_
      exact aw_xi (by exact (if_pos (by assumption)).symm) (hH.symm) rfl dX4_fittingDen_41
noncomputable def o_fittingDen (p : Int) (σ : MSt) : Int × Int := if isPa σ p then (0, fst1 (fun u => fitP σ p u) 9 1) else (1, 0)
def k_onPa (p : Int) (σ : MSt) : MSt := if isPa σ p then k_laysAll σ else σ
theorem m_fittingDen {l : Launch} {g : AG} {C : MCx} (hC : MOK C) (σ : MSt) (p : Int) (hr : mR σ) (hT : mT σ) (hP : mP σ) (hp : Rg p): AMx l g miX4_fittingDen 17 [.ref C.1, iv p] (mh C σ) (some (iv (o_fittingDen p (sF σ 0 0)).2)) (mh C (sF (k_onPa p (sF σ 0 0)) 0 (o_fittingDen p (sF σ 0 0)).1)) := by
  refine aw_start 1 (by decide) rfl (Nat.le_of_ble_eq_true rfl) ?_
  show AWc l g miX4_fittingDen 17 0 0 _ _ 0 0 (mh C σ) 0 [some (.ref C.1), some (iv p), none] []
  have h0 : (sF σ 0 0).1 0 = 0 := rfl
  have hr : mR (sF σ 0 0) := hr
  have hT : mT (sF σ 0 0) := hT
  have hP : mP (sF σ 0 0) := hP
  refine aw_aload_n 1 dX4_fittingDen_0 rfl rfl ?_
  refine aw_iconst 2 dX4_fittingDen_1 rfl ?_
  refine aw_put 5 ci4 0 (by decide) q2031 (Or.inl rfl) rfl rfl rfl (Nat.le_of_ble_eq_true rfl) (mh_obj _ _) dX4_fittingDen_2 rfl ?_
  refine aw_h (mhp_0 _ _ _) ?_
  generalize sF σ 0 0 = σ at h0 hr hT hP ⊢
  have h8 := hP.1
  have hl := k_laysAll_ok hr
  refine aw_aload_n 6 dX4_fittingDen_5 rfl rfl ?_
  refine aw_iload_n 7 dX4_fittingDen_6 rfl rfl ?_
  refine aw_xV 10 (m_isPass hC _ _ (by omega) (by omega)) mvX4_isPass q2496 (rdl (mh_obj _ _)) rfl rfl rfl (by decide) (by decide) (Nat.le_refl _) (Nat.le_refl _) rfl (Nat.le_of_ble_eq_true rfl) dX4_fittingDen_7 rfl ?_
  refine aw_if_neB 19 13 dX4_fittingDen_10 rfl rfl (fun c_10 => ?_) (fun c_10 => ?_)
  · refine aw_aload_n 20 dX4_fittingDen_19 rfl rfl ?_
    refine aw_xVv 23 (m_laysAll hC _ hr hT) mvX4_laysAll q2428 (rdl (mh_obj _ _)) rfl rfl rfl (by decide) (by decide) (Nat.le_refl _) (Nat.le_refl _) rfl (Nat.le_of_ble_eq_true rfl) dX4_fittingDen_20 rfl ?_
    refine aw_iconst 24 dX4_fittingDen_23 rfl ?_
    refine aw_istore_n 25 dX4_fittingDen_24 rfl (as_2 rfl) (by decide) ?_
    rw [show o_fittingDen p σ = (0, fst1 (fun u => fitP σ p u) 9 1) from if_pos (by assumption), show k_onPa p σ = k_laysAll σ from if_pos (by assumption)]
    exact l_fitDen hC (k_laysAll σ) p _ (congrArg (mh C) (sF_id (k := 0) (z := 0) (hl.th.trans h0))) hr hP (by assumption) hl 9 1 rfl (Nat.le_refl 1)
  · refine aw_aload_n 14 dX4_fittingDen_13 rfl rfl ?_
    refine aw_iconst 15 dX4_fittingDen_14 rfl ?_
    refine aw_xV 18 (m_fails hC _ _) mvX4_fails q2151 (rdl (mh_obj _ _)) rfl rfl rfl (by decide) (by decide) (Nat.le_refl _) (Nat.le_refl _) rfl (Nat.le_of_ble_eq_true rfl) dX4_fittingDen_15 rfl ?_
    exact aw_xi (by unfold o_fittingDen; rw [if_neg (by assumption)]) (by unfold o_fittingDen k_onPa; rw [if_neg (by assumption), if_neg (by assumption)]) rfl dX4_fittingDen_18
