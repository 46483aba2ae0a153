/-! CameraMovesModel: signed numbers, names, axes -/
set_option maxRecDepth 100000
theorem k_readValue_ok {σ : MSt} (hr : mRd σ) (lo hi : Int) : mRd (k_readValue lo hi σ).1 ∧ TM σ (k_readValue lo hi σ).1 ∧ (0 ≤ (k_readValue lo hi σ).2 ∧ (k_readValue lo hi σ).2 ≤ 9999) ∧ (wl (k_readValue lo hi σ).1 → wl σ ∧ lo ≤ (k_readValue lo hi σ).2 ∧ (k_readValue lo hi σ).2 ≤ hi) := by
  have h1 := k_must_rd hr (bI (σ.1 18 = 2 ∧ lo ≤ σ.1 19 ∧ σ.1 19 ≤ hi))
  have h2 := k_must_tm (bI (σ.1 18 = 2 ∧ lo ≤ σ.1 19 ∧ σ.1 19 ≤ hi)) σ
  have h3 := k_must_w hr (bI (σ.1 18 = 2 ∧ lo ≤ σ.1 19 ∧ σ.1 19 ≤ hi))
  have e19 : (k_must (bI (σ.1 18 = 2 ∧ lo ≤ σ.1 19 ∧ σ.1 19 ≤ hi)) σ).1 19 = σ.1 19 := by
    unfold k_must
    split <;> rfl
  unfold k_readValue
  split
  · next hw =>
    refine ⟨k_readToken_rd h1, h2.tr (k_readToken_tm h1), ?_, fun _ => ?_⟩
    · have := h1.1.2.2.1
      exact this
    · obtain ⟨q1, q2⟩ := h3.mp hw
      have q3 : σ.1 18 = 2 ∧ lo ≤ σ.1 19 ∧ σ.1 19 ≤ hi := by
        rcases Classical.em (σ.1 18 = 2 ∧ lo ≤ σ.1 19 ∧ σ.1 19 ≤ hi) with z | z
        · exact z
        · exact absurd (bI_f z) q2
      show wl σ ∧ lo ≤ (k_must (bI (σ.1 18 = 2 ∧ lo ≤ σ.1 19 ∧ σ.1 19 ≤ hi)) σ).1 19 ∧ _
      rw [e19]
      exact ⟨q1, q3.2⟩
  · next hw => exact ⟨h1, h2, ⟨Int.le_refl 0, (by decide : (0 : Int) ≤ 9999)⟩, fun z => absurd z hw⟩
def k_s1 (σ : MSt) : MSt := if wl σ ∧ σ.1 18 = 4 then k_readToken σ else σ
noncomputable def k_s2 (σ : MSt) : MSt := k_must (bI ((k_s1 σ).1 18 = 2)) (k_s1 σ)
noncomputable def k_sv (σ : MSt) : Int := if wl σ ∧ σ.1 18 = 4 then -(k_s2 σ).1 19 else (k_s2 σ).1 19
noncomputable def k_s3 (lo hi : Int) (σ : MSt) : MSt := k_must (bI (lo ≤ k_sv σ ∧ k_sv σ ≤ hi)) (k_s2 σ)
noncomputable def k_readSigned (lo hi : Int) (σ : MSt) : MSt × Int := (k_goesOn (k_s3 lo hi σ), if wl (k_goesOn (k_s3 lo hi σ)) then k_sv σ else 0)
theorem k_s1_rd {σ : MSt} (h : mRd σ) : mRd (k_s1 σ) := by
  unfold k_s1
  split
  · exact k_readToken_rd h
  · exact h
theorem k_s1_tm {σ : MSt} (h : mRd σ) : TM σ (k_s1 σ) ∧ (k_s1 σ).1 21 = σ.1 21 := by
  unfold k_s1
  split
  · exact ⟨k_readToken_tm h, k_readToken_wl h⟩
  · exact ⟨TM.rf σ, rfl⟩
theorem k_s2_rd {σ : MSt} (h : mRd σ) : mRd (k_s2 σ) := k_must_rd (k_s1_rd h) _
theorem k_sv_rg {σ : MSt} (h : mRd σ) : -9999 ≤ k_sv σ ∧ k_sv σ ≤ 9999 := by
  have h1 := (k_s2_rd h).1.2.2.1
  unfold k_sv
  split <;> omega
theorem k_readSigned_ok {σ : MSt} (hr : mRd σ) (lo hi : Int) : mRd (k_readSigned lo hi σ).1 ∧ TM σ (k_readSigned lo hi σ).1 ∧ (-9999 ≤ (k_readSigned lo hi σ).2 ∧ (k_readSigned lo hi σ).2 ≤ 9999) ∧ (wl (k_readSigned lo hi σ).1 → wl σ ∧ lo ≤ (k_readSigned lo hi σ).2 ∧ (k_readSigned lo hi σ).2 ≤ hi) := by
  have r1 := k_s1_rd hr
  have r2 := k_s2_rd hr
  have r3 : mRd (k_s3 lo hi σ) := k_must_rd r2 _
  have rv := k_sv_rg hr
  refine ⟨k_goesOn_rd r3, (k_s1_tm hr).1.tr ((k_must_tm _ _).tr ((k_must_tm _ _).tr (k_goesOn_tm r3))), ?_, fun hw => ?_⟩
  · show -9999 ≤ (if wl (k_goesOn (k_s3 lo hi σ)) then k_sv σ else 0) ∧ (if wl (k_goesOn (k_s3 lo hi σ)) then k_sv σ else 0) ≤ 9999
    split <;> omega
  · have hw0 : wl (k_goesOn (k_s3 lo hi σ)) := hw
    have hw1 : wl (k_s3 lo hi σ) := (k_goesOn_w r3).symm.trans hw
    obtain ⟨q1, q2⟩ := (k_must_w r2 _).mp hw1
    obtain ⟨q3, -⟩ := (k_must_w r1 _).mp q1
    have q4 : wl σ := (k_s1_tm hr).2.symm.trans q3
    have q5 : lo ≤ k_sv σ ∧ k_sv σ ≤ hi := by
      rcases Classical.em (lo ≤ k_sv σ ∧ k_sv σ ≤ hi) with z | z
      · exact z
      · exact absurd (bI_f z) q2
    show wl σ ∧ lo ≤ (if wl (k_goesOn (k_s3 lo hi σ)) then k_sv σ else 0) ∧ (if wl (k_goesOn (k_s3 lo hi σ)) then k_sv σ else 0) ≤ hi
    rw [if_pos hw0]
    exact ⟨q4, q5⟩
theorem m_readSigned {l : Launch} {g : AG} {C : MCx} (hC : MOK C) (σ : MSt) (lo hi : Int) (hr : mRd σ) (h1 : Rg lo) (h2 : Rg hi): AMx l g miX4_readSigned 15 [.ref C.1, iv lo, iv hi] (mh C σ) (some (iv (k_readSigned lo hi σ).2)) (mh C (k_readSigned lo hi σ).1) := by
  refine aw_start 2 (by decide) rfl (Nat.le_of_ble_eq_true rfl) ?_
  show AWc l g miX4_readSigned 15 0 0 _ _ 0 0 (mh C σ) 0 [some (.ref C.1), some (iv lo), some (iv hi), none, none] []
  have h18 := hr.1.2.1
  have r1 := k_s1_rd hr
  have t1 := r1.1.2.1
  have r2 := k_s2_rd hr
  have u2 := r2.1.2.2.1
  have r3 : mRd (k_s3 lo hi σ) := k_must_rd r2 _
  have r4 := k_goesOn_rd r3
  have rv := k_sv_rg hr
  refine aw_join (bI (wl σ ∧ σ.1 18 = 4)) 20 ?_ (fun kz1 => ?_)
  · refine aw_istore_n 21 dX4_readSigned_20 rfl (as_3 rfl) (by decide) ?_
    refine aw_joinH (mh C (k_s1 σ)) 29 ?_ (fun kz2 => ?_)
    · refine aw_aload_n 30 dX4_readSigned_29 rfl rfl ?_
      refine aw_join (bI ((k_s1 σ).1 18 = 2)) 43 ?_ (fun kz3 => ?_)
      · refine aw_xVv 46 (m_must hC _ _ (bI_Rg _) r1.w) mvX4_must q2223 (rdl (mh_obj _ _)) rfl rfl rfl (by decide) (by decide) (Nat.le_refl _) (Nat.le_refl _) rfl (Nat.le_of_ble_eq_true rfl) dX4_readSigned_43 rfl ?_
        refine aw_join (k_sv σ) 62 ?_ (fun kz4 => ?_)
        · refine aw_istore 64 dX4_readSigned_62 rfl (as_4 rfl) (by decide) ?_
          refine aw_aload_n 65 dX4_readSigned_64 rfl rfl ?_
          refine aw_iload 67 dX4_readSigned_65 rfl rfl ?_
          refine aw_iload_n 68 dX4_readSigned_67 rfl rfl ?_
          refine aw_iload_n 69 dX4_readSigned_68 rfl rfl ?_
          refine aw_xS 72 (m_isIn _ _ _ (by omega) (by omega) (by omega)) msX4_isIn q2163 rfl (by decide) (by decide) (Nat.le_refl _) (Nat.le_refl _) rfl (Nat.le_of_ble_eq_true rfl) dX4_readSigned_69 rfl ?_
          refine aw_xVv 75 (m_must hC _ _ (bI_Rg _) r2.w) mvX4_must q2223 (rdl (mh_obj _ _)) rfl rfl rfl (by decide) (by decide) (Nat.le_refl _) (Nat.le_refl _) rfl (Nat.le_of_ble_eq_true rfl) dX4_readSigned_72 rfl ?_
          refine aw_aload_n 76 dX4_readSigned_75 rfl rfl ?_
          refine aw_xVv 79 (m_goesOn hC (k_s3 lo hi σ) r3.tx r3.w) mvX4_goesOn q2227 (rdl (mh_obj _ _)) rfl rfl rfl (by decide) (by decide) (Nat.le_refl _) (Nat.le_refl _) rfl (Nat.le_of_ble_eq_true rfl) dX4_readSigned_76 rfl ?_
          refine aw_join ((k_readSigned lo hi σ).2) 92 ?_ (fun kz5 => ?_)
          · exact aw_xi (by rfl) (rfl) rfl dX4_readSigned_92
          · refine aw_aload_n 80 dX4_readSigned_79 rfl rfl ?_
            refine aw_xV 83 (m_isWell hC _ r4.w) mvX4_isWell q2200 (rdl (mh_obj _ _)) rfl rfl rfl (by decide) (by decide) (Nat.le_refl _) (Nat.le_refl _) rfl (Nat.le_of_ble_eq_true rfl) dX4_readSigned_80 rfl ?_
            refine aw_if_eqB 91 86 dX4_readSigned_83 rfl rfl (fun c_83 => ?_) (fun c_83 => ?_)
            · refine aw_iconst 92 dX4_readSigned_91 rfl ?_
              exact kz5 _ (by unfold k_readSigned; first | exact (if_pos (by assumption)).symm | exact (if_neg (by assumption)).symm)
            · refine aw_iload 88 dX4_readSigned_86 rfl rfl ?_
              refine aw_goto 92 dX4_readSigned_88 rfl ?_
              exact kz5 _ (by unfold k_readSigned; first | exact (if_pos (by assumption)).symm | exact (if_neg (by assumption)).symm)
        · refine aw_iload_n 47 dX4_readSigned_46 rfl rfl ?_
          refine aw_if_eqB 58 50 dX4_readSigned_47 rfl rfl (fun c_47 => ?_) (fun c_47 => ?_)
          · refine aw_aload_n 59 dX4_readSigned_58 rfl rfl ?_
            refine aw_get 62 ci4 19 (by decide) q2050 (Or.inl rfl) (rdl (mh_obj _ _)) rfl dX4_readSigned_59 rfl ?_
            exact kz4 _ (by unfold k_sv; first | rw [if_pos (by assumption)]; rfl | rw [if_neg (by assumption)]; rfl)
          · refine aw_aload_n 51 dX4_readSigned_50 rfl rfl ?_
            refine aw_get 54 ci4 19 (by decide) q2050 (Or.inl rfl) (rdl (mh_obj _ _)) rfl dX4_readSigned_51 rfl ?_
            refine aw_ineg 55 dX4_readSigned_54 rfl ?_
            refine aw_goto 62 dX4_readSigned_55 rfl ?_
            exact kz4 _ (by unfold k_sv; first | rw [if_pos (by assumption)]; rfl | rw [if_neg (by assumption)]; rfl)
      · refine aw_aload_n 31 dX4_readSigned_30 rfl rfl ?_
        refine aw_get 34 ci4 18 (by decide) q2049 (Or.inl rfl) (rdl (mh_obj _ _)) rfl dX4_readSigned_31 rfl ?_
        refine aw_iconst 35 dX4_readSigned_34 rfl ?_
        refine aw_icmp_ne 42 38 (by omega) dX4_readSigned_35 rfl rfl (fun c_35 => ?_) (fun c_35 => ?_)
        · refine aw_iconst 43 dX4_readSigned_42 rfl ?_
          exact kz3 _ (by first | exact (bI_t (by first | assumption | omega | (refine ⟨?_, ?_⟩ <;> first | assumption | omega))).symm | exact (bI_f (by first | assumption | omega | (intro z; first | exact absurd z.1 (by assumption) | exact absurd z.2 (by assumption) | omega))).symm)
        · refine aw_iconst 39 dX4_readSigned_38 rfl ?_
          refine aw_goto 43 dX4_readSigned_39 rfl ?_
          exact kz3 _ (by first | exact (bI_t (by first | assumption | omega | (refine ⟨?_, ?_⟩ <;> first | assumption | omega))).symm | exact (bI_f (by first | assumption | omega | (intro z; first | exact absurd z.1 (by assumption) | exact absurd z.2 (by assumption) | omega))).symm)
    · refine aw_iload_n 22 dX4_readSigned_21 rfl rfl ?_
      refine aw_if_eqB 29 25 dX4_readSigned_22 rfl rfl (fun c_22 => ?_) (fun c_22 => ?_)
      · exact kz2 _ (by unfold k_s1; first | rw [if_pos (by assumption)] | rw [if_neg (by assumption)])
      · refine aw_aload_n 26 dX4_readSigned_25 rfl rfl ?_
        refine aw_xVv 29 (m_readToken hC _ (mRd.tx (by assumption))) mvX4_readToken q2170 (rdl (mh_obj _ _)) rfl rfl rfl (by decide) (by decide) (Nat.le_refl _) (Nat.le_refl _) rfl (Nat.le_of_ble_eq_true rfl) dX4_readSigned_26 rfl ?_
        exact kz2 _ (by unfold k_s1; first | rw [if_pos (by assumption)] | rw [if_neg (by assumption)])
  · refine aw_aload_n 1 dX4_readSigned_0 rfl rfl ?_
    refine aw_xV 4 (m_isWell hC _ (by first | exact mRd.w (by assumption) | omega)) mvX4_isWell q2200 (rdl (mh_obj _ _)) rfl rfl rfl (by decide) (by decide) (Nat.le_refl _) (Nat.le_refl _) rfl (Nat.le_of_ble_eq_true rfl) dX4_readSigned_1 rfl ?_
    refine aw_if_eqB 19 7 dX4_readSigned_4 rfl rfl (fun c_4 => ?_) (fun c_4 => ?_)
    · refine aw_iconst 20 dX4_readSigned_19 rfl ?_
      exact kz1 _ (by first | exact (bI_t (by first | assumption | omega | (refine ⟨?_, ?_⟩ <;> first | assumption | omega))).symm | exact (bI_f (by first | assumption | omega | (intro z; first | exact absurd z.1 (by assumption) | exact absurd z.2 (by assumption) | omega))).symm)
    · refine aw_aload_n 8 dX4_readSigned_7 rfl rfl ?_
      refine aw_get 11 ci4 18 (by decide) q2049 (Or.inl rfl) (rdl (mh_obj _ _)) rfl dX4_readSigned_8 rfl ?_
      refine aw_iconst 12 dX4_readSigned_11 rfl ?_
      refine aw_icmp_ne 19 15 (by omega) dX4_readSigned_12 rfl rfl (fun c_12 => ?_) (fun c_12 => ?_)
      · refine aw_iconst 20 dX4_readSigned_19 rfl ?_
        exact kz1 _ (by first | exact (bI_t (by first | assumption | omega | (refine ⟨?_, ?_⟩ <;> first | assumption | omega))).symm | exact (bI_f (by first | assumption | omega | (intro z; first | exact absurd z.1 (by assumption) | exact absurd z.2 (by assumption) | omega))).symm)
      · refine aw_iconst 16 dX4_readSigned_15 rfl ?_
        refine aw_goto 20 dX4_readSigned_16 rfl ?_
        exact kz1 _ (by first | exact (bI_t (by first | assumption | omega | (refine ⟨?_, ?_⟩ <;> first | assumption | omega))).symm | exact (bI_f (by first | assumption | omega | (intro z; first | exact absurd z.1 (by assumption) | exact absurd z.2 (by assumption) | omega))).symm)
/-- the first of the new names from k on that is the word -/
def k_axF (σ : MSt) : Nat → Int → Int
  | 0, _ => -1
  | f + 1, k => if k < σ.1 22 then if σ.2 23 k.toNat = σ.1 20 then k else k_axF σ f (k + 1) else -1
def k_axisHere (σ : MSt) : Int := if wl σ ∧ σ.1 18 = 1 then k_axF σ 5 0 else -1
theorem k_axF_rg (σ : MSt) : ∀ (f : Nat) (k : Int), 0 ≤ k → -1 ≤ k_axF σ f k ∧ (k_axF σ f k < σ.1 22 ∨ k_axF σ f k = -1) := by
  intro f
  induction f with
  | zero => intro k hk; exact ⟨Int.le_refl _, Or.inr rfl⟩
  | succ f ih =>
    intro k hk
    simp only [k_axF]
    split
    · split
      · exact ⟨by omega, Or.inl (by assumption)⟩
      · exact ih (k + 1) (by omega)
    · exact ⟨Int.le_refl _, Or.inr rfl⟩
theorem k_axisHere_rg (σ : MSt) : -1 ≤ k_axisHere σ ∧ (k_axisHere σ < σ.1 22 ∨ k_axisHere σ = -1) ∧ (k_axisHere σ ≠ -1 → wl σ) := by
  unfold k_axisHere
  split
  · next h => exact ⟨(k_axF_rg σ 5 0 (Int.le_refl 0)).1, (k_axF_rg σ 5 0 (Int.le_refl 0)).2, fun _ => h.1⟩
  · exact ⟨Int.le_refl _, Or.inr rfl, fun z => absurd rfl z⟩
theorem l_axisHere {l : Launch} {g : AG} {C : MCx} (hC : MOK C) (σ : MSt) (hr : mRd σ) (hq : wl σ ∧ σ.1 18 = 1) (e : Int) : ∀ (f : Nat) (k : Int), 0 ≤ k → k ≤ 4 → 4 - k < f → k_axF σ f k = e → AWc l g miX4_axisHere 11 0 0 (fun r2 h2 => r2 = some (iv e) ∧ h2 = mh C σ) (fun _ _ _ => False) 0 0 (mh C σ) 19 [some (.ref C.1), some (iv k)] [] := by
  intro f
  have h22 := hr.2.2.1
  have h20 := hr.1.2.2.2.1
  have h23 := hr.2.2.2.2.1
  induction f with
  | zero => intro k h0 h4 hf; exact absurd hf (by omega)
  | succ f ih =>
    intro k h0 h4 hf hE
    have hk23 := h23 k.toNat
    simp only [k_axF] at hE
    refine aw_iload_n 20 dX4_axisHere_19 rfl rfl ?_
    refine aw_aload_n 21 dX4_axisHere_20 rfl rfl ?_
    refine aw_get 24 ci4 22 (by decide) q2053 (Or.inl rfl) (rdl (mh_obj _ _)) rfl dX4_axisHere_21 rfl ?_
    refine aw_icmp_ge 49 27 (by omega) dX4_axisHere_24 rfl rfl (fun c_24 => ?_) (fun c_24 => ?_)
    · rw [if_neg (by omega)] at hE
      refine aw_iconst 50 dX4_axisHere_49 rfl ?_
      exact aw_xi (by first | exact hE | omega) (rfl) rfl dX4_axisHere_50
    · rw [if_pos (by omega)] at hE
      refine aw_aload_n 28 dX4_axisHere_27 rfl rfl ?_
      refine aw_get 31 ci4 23 (by decide) q2054 (Or.inl rfl) (rdl (mh_obj _ _)) rfl dX4_axisHere_28 rfl ?_
      refine aw_iload_n 32 dX4_axisHere_31 rfl rfl ?_
      refine aw_lald 33 (rdl (mh_23 hC _)) (by omega) dX4_axisHere_32 rfl (by decide) ?_
      refine aw_aload_n 34 dX4_axisHere_33 rfl rfl ?_
      refine aw_get 37 ci4 20 (by decide) q2051 (Or.inl rfl) (rdl (mh_obj _ _)) rfl dX4_axisHere_34 rfl ?_
      refine aw_lcmp 38 (by omega) dX4_axisHere_37 rfl ?_
      refine aw_if_neC 43 41 dX4_axisHere_38 rfl rfl (fun c_38 => ?_) (fun c_38 => ?_)
      · rw [if_neg (by assumption)] at hE
        refine aw_iinc 46 dX4_axisHere_43 rfl rfl (as_1 rfl) (by decide) ?_
        refine aw_goto 19 dX4_axisHere_46 rfl ?_
        exact ih (k + 1) (by omega) (by omega) (by omega) hE
      · rw [if_pos (by assumption)] at hE
        refine aw_iload_n 42 dX4_axisHere_41 rfl rfl ?_
        exact aw_xi (by first | exact hE | omega) (rfl) rfl dX4_axisHere_42
theorem m_axisHere {l : Launch} {g : AG} {C : MCx} (hC : MOK C) (σ : MSt)  (hr : mRd σ): AMx l g miX4_axisHere 11 [.ref C.1] (mh C σ) (some (iv (k_axisHere σ))) (mh C σ) := by
  refine aw_start 1 (by decide) rfl (Nat.le_of_ble_eq_true rfl) ?_
  show AWc l g miX4_axisHere 11 0 0 _ _ 0 0 (mh C σ) 0 [some (.ref C.1), none] []
  have h18 := hr.1.2.1
  refine aw_aload_n 1 dX4_axisHere_0 rfl rfl ?_
  refine aw_xV 4 (m_isWell hC _ (by first | exact mRd.w (by assumption) | omega)) mvX4_isWell q2200 (rdl (mh_obj _ _)) rfl rfl rfl (by decide) (by decide) (Nat.le_refl _) (Nat.le_refl _) rfl (Nat.le_of_ble_eq_true rfl) dX4_axisHere_1 rfl ?_
  refine aw_if_eqB 15 7 dX4_axisHere_4 rfl rfl (fun c_4 => ?_) (fun c_4 => ?_)
  · refine aw_iconst 16 dX4_axisHere_15 rfl ?_
    exact aw_xi (by unfold k_axisHere; rw [if_neg (by intro z; first | exact absurd z.1 (by assumption) | exact absurd z.2 (by assumption))]) (rfl) rfl dX4_axisHere_16
  · refine aw_aload_n 8 dX4_axisHere_7 rfl rfl ?_
    refine aw_get 11 ci4 18 (by decide) q2049 (Or.inl rfl) (rdl (mh_obj _ _)) rfl dX4_axisHere_8 rfl ?_
    refine aw_iconst 12 dX4_axisHere_11 rfl ?_
    refine aw_icmp_eq 17 15 (by omega) dX4_axisHere_12 rfl rfl (fun c_12 => ?_) (fun c_12 => ?_)
    · refine aw_iconst 18 dX4_axisHere_17 rfl ?_
      refine aw_istore_n 19 dX4_axisHere_18 rfl (as_1 rfl) (by decide) ?_
      exact l_axisHere hC σ hr ⟨by assumption, by assumption⟩ _ 5 0 (by decide) (by decide) (by decide) (if_pos ⟨by assumption, by assumption⟩).symm
    · refine aw_iconst 16 dX4_axisHere_15 rfl ?_
      exact aw_xi (by unfold k_axisHere; rw [if_neg (by intro z; first | exact absurd z.1 (by assumption) | exact absurd z.2 (by assumption))]) (rfl) rfl dX4_axisHere_16
