/-! CameraMovesModel: the reader's parts -/
set_option maxRecDepth 100000
/-- what the reader keeps -/
def mRd (σ : MSt) : Prop := mTk σ ∧ (-1 ≤ σ.1 21 ∧ σ.1 21 ≤ 600) ∧ (0 ≤ σ.1 22 ∧ σ.1 22 ≤ 4) ∧ (0 ≤ σ.1 25 ∧ σ.1 25 ≤ 4) ∧ (∀ k, 0 ≤ σ.2 23 k ∧ σ.2 23 k < 1099511627776) ∧ ((0 ≤ σ.2 1 194 ∧ σ.2 1 194 ≤ 20) ∧ 0 ≤ σ.2 1 335 ∧ σ.2 1 335 ≤ 6) ∧ (∀ k, Rg (σ.2 1 k)) ∧ (∀ k, Rg (σ.2 24 k)) ∧ ∀ k, Rg (σ.2 26 k)
theorem mRd.tx {σ : MSt} (h : mRd σ) : mTx σ := h.1.1
theorem mRd.w {σ : MSt} (h : mRd σ) : Rg (σ.1 21) := by have := h.2.1; omega
theorem mRd_T {σ τ : MSt} (h : mRd σ) (ht : mTk τ) (hs : TS σ τ) : mRd τ := by
  obtain ⟨-, h2, h3, h4, h5, h6, h7⟩ := h
  obtain ⟨e2, e1⟩ := hs
  unfold mRd
  rw [e2, e1 21 (by decide), e1 22 (by decide), e1 25 (by decide)]
  exact ⟨ht, h2, h3, h4, h5, h6, h7⟩
theorem k_readToken_rd {σ : MSt} (h : mRd σ) : mRd (k_readToken σ) := by
  obtain ⟨a, b⟩ := k_readToken_ok h.1
  exact mRd_T h a b
theorem mTk_F {σ : MSt} (h : mTk σ) {k : Nat} (z : Int) (hk : k < 15 ∨ 20 < k) : mTk (sF σ k z) := by
  obtain ⟨t1, t2, t3, t4, t5⟩ := h
  have e : ∀ j, 15 ≤ j → j ≤ 20 → (sF σ k z).1 j = σ.1 j := fun j a b => if_neg (by omega)
  unfold mTk
  rw [e 18 (by decide) (by decide), e 19 (by decide) (by decide), e 20 (by decide) (by decide), e 17 (by decide) (by decide)]
  exact ⟨mTx_F t1 z (by omega) (by omega), t2, t3, t4, t5⟩
theorem k_must_rd {σ : MSt} (h : mRd σ) (z : Int) : mRd (k_must z σ) := by
  unfold k_must
  split
  · obtain ⟨h1, h2, h3, h4, h5⟩ := h
    refine ⟨mTk_F h1 _ (by decide), ?_, h3, h4, h5⟩
    show -1 ≤ σ.1 17 ∧ σ.1 17 ≤ 600
    have := h1.2.2.2.2
    omega
  · exact h
theorem k_goesOn_rd {σ : MSt} (h : mRd σ) : mRd (k_goesOn σ) := by
  unfold k_goesOn
  split
  · exact k_readToken_rd h
  · exact h
/-- reading on changes the token alone, and where the first fault is -/
def TM (σ τ : MSt) : Prop := τ.2 = σ.2 ∧ (∀ j, j < 16 ∨ 21 < j → τ.1 j = σ.1 j) ∧ NX σ τ
theorem TM.rf (σ : MSt) : TM σ σ := ⟨rfl, fun _ _ => rfl, NX.rf σ⟩
theorem TM.tr {a b c : MSt} (h1 : TM a b) (h2 : TM b c) : TM a c := ⟨h2.1.trans h1.1, fun j hj => (h2.2.1 j hj).trans (h1.2.1 j hj), h1.2.2.tr h2.2.2⟩
theorem TS.tm {a b : MSt} (h : TS a b) (n : NX a b) : TM a b := ⟨h.1, fun j hj => h.2 j (by omega), n⟩
theorem k_must_tm (z : Int) (σ : MSt) : TM σ (k_must z σ) := by
  unfold k_must
  split
  · exact ⟨rfl, fun j hj => if_neg (by omega), Int.le_refl _, Or.inl rfl⟩
  · exact TM.rf σ
theorem k_readToken_tm {σ : MSt} (h : mRd σ) : TM σ (k_readToken σ) := (k_readToken_ok h.1).2.tm (k_readToken_nx σ)
theorem k_goesOn_tm {σ : MSt} (h : mRd σ) : TM σ (k_goesOn σ) := by
  unfold k_goesOn
  split
  · exact k_readToken_tm h
  · exact TM.rf σ
theorem k_readToken_wl {σ : MSt} (h : mRd σ) : (k_readToken σ).1 21 = σ.1 21 := (k_readToken_ok h.1).2.2 21 (by decide)
theorem k_goesOn_w {σ : MSt} (h : mRd σ) : (k_goesOn σ).1 21 = σ.1 21 := by
  unfold k_goesOn
  split
  · exact k_readToken_wl h
  · rfl
theorem k_must_w {σ : MSt} (h : mRd σ) (z : Int) : wl (k_must z σ) ↔ wl σ ∧ z ≠ 0 := by
  have h17 := h.1.2.2.2.2
  unfold k_must
  split
  · next hh =>
    constructor
    · intro q
      have : σ.1 17 = -1 := q
      omega
    · intro q
      exact absurd hh.1 q.2
  · next hh =>
    constructor
    · intro q
      exact ⟨q, fun z0 => hh ⟨z0, q⟩⟩
    · intro q
      exact q.1
noncomputable def k_readValue (lo hi : Int) (σ : MSt) : MSt × Int := if wl (k_must (bI (σ.1 18 = 2 ∧ lo ≤ σ.1 19 ∧ σ.1 19 ≤ hi)) σ) then (k_readToken (k_must (bI (σ.1 18 = 2 ∧ lo ≤ σ.1 19 ∧ σ.1 19 ≤ hi)) σ), (k_must (bI (σ.1 18 = 2 ∧ lo ≤ σ.1 19 ∧ σ.1 19 ≤ hi)) σ).1 19) else (k_must (bI (σ.1 18 = 2 ∧ lo ≤ σ.1 19 ∧ σ.1 19 ≤ hi)) σ, 0)
theorem bI_Rg (p : Prop) : Rg (bI p) := by have := bI_rg p; omega
theorem m_readValue {l : Launch} {g : AG} {C : MCx} (hC : MOK C) (σ : MSt) (lo hi : Int) (hr : mRd σ) (h1 : Rg lo) (h2 : Rg hi): AMx l g miX4_readValue 15 [.ref C.1, iv lo, iv hi] (mh C σ) (some (iv (k_readValue lo hi σ).2)) (mh C (k_readValue lo hi σ).1) := by
  refine aw_start 1 (by decide) rfl (Nat.le_of_ble_eq_true rfl) ?_
  show AWc l g miX4_readValue 15 0 0 _ _ 0 0 (mh C σ) 0 [some (.ref C.1), some (iv lo), some (iv hi), none] []
  have h18 := hr.1.2.1
  have h19 := hr.1.2.2.1
  have hr2 := k_must_rd hr (bI (σ.1 18 = 2 ∧ lo ≤ σ.1 19 ∧ σ.1 19 ≤ hi))
  refine aw_aload_n 1 dX4_readValue_0 rfl rfl ?_
  refine aw_join (bI (σ.1 18 = 2 ∧ lo ≤ σ.1 19 ∧ σ.1 19 ≤ hi)) 26 ?_ (fun kz1 => ?_)
  · refine aw_xVv 29 (m_must hC _ _ (bI_Rg _) hr.w) mvX4_must q2223 (rdl (mh_obj _ _)) rfl rfl rfl (by decide) (by decide) (Nat.le_refl _) (Nat.le_refl _) rfl (Nat.le_of_ble_eq_true rfl) dX4_readValue_26 rfl ?_
    refine aw_aload_n 30 dX4_readValue_29 rfl rfl ?_
    refine aw_xV 33 (m_isWell hC _ (by first | exact mRd.w (by assumption) | omega)) mvX4_isWell q2200 (rdl (mh_obj _ _)) rfl rfl rfl (by decide) (by decide) (Nat.le_refl _) (Nat.le_refl _) rfl (Nat.le_of_ble_eq_true rfl) dX4_readValue_30 rfl ?_
    refine aw_if_neB 38 36 dX4_readValue_33 rfl rfl (fun c_33 => ?_) (fun c_33 => ?_)
    · refine aw_aload_n 39 dX4_readValue_38 rfl rfl ?_
      refine aw_get 42 ci4 19 (by decide) q2050 (Or.inl rfl) (rdl (mh_obj _ _)) rfl dX4_readValue_39 rfl ?_
      refine aw_istore_n 43 dX4_readValue_42 rfl (as_3 rfl) (by decide) ?_
      refine aw_aload_n 44 dX4_readValue_43 rfl rfl ?_
      refine aw_xVv 47 (m_readToken hC _ (mRd.tx (by assumption))) mvX4_readToken q2170 (rdl (mh_obj _ _)) rfl rfl rfl (by decide) (by decide) (Nat.le_refl _) (Nat.le_refl _) rfl (Nat.le_of_ble_eq_true rfl) dX4_readValue_44 rfl ?_
      refine aw_iload_n 48 dX4_readValue_47 rfl rfl ?_
      exact aw_xi (by unfold k_readValue; rw [if_pos (by assumption)]) (by unfold k_readValue; rw [if_pos (by assumption)]) rfl dX4_readValue_48
    · refine aw_iconst 37 dX4_readValue_36 rfl ?_
      exact aw_xi (by unfold k_readValue; rw [if_neg (by assumption)]) (by unfold k_readValue; rw [if_neg (by assumption)]) rfl dX4_readValue_37
  · refine aw_aload_n 2 dX4_readValue_1 rfl rfl ?_
    refine aw_get 5 ci4 18 (by decide) q2049 (Or.inl rfl) (rdl (mh_obj _ _)) rfl dX4_readValue_2 rfl ?_
    refine aw_iconst 6 dX4_readValue_5 rfl ?_
    refine aw_icmp_ne 25 9 (by omega) dX4_readValue_6 rfl rfl (fun c_6 => ?_) (fun c_6 => ?_)
    · refine aw_iconst 26 dX4_readValue_25 rfl ?_
      exact kz1 _ (by first | exact (bI_t (by first | assumption | omega | (refine ⟨?_, ?_⟩ <;> first | assumption | omega))).symm | exact (bI_f (by first | assumption | omega | (intro z; first | exact absurd z.1 (by assumption) | exact absurd z.2 (by assumption) | omega))).symm)
    · refine aw_aload_n 10 dX4_readValue_9 rfl rfl ?_
      refine aw_get 13 ci4 19 (by decide) q2050 (Or.inl rfl) (rdl (mh_obj _ _)) rfl dX4_readValue_10 rfl ?_
      refine aw_iload_n 14 dX4_readValue_13 rfl rfl ?_
      refine aw_iload_n 15 dX4_readValue_14 rfl rfl ?_
      refine aw_xS 18 (m_isIn _ _ _ (by omega) (by omega) (by omega)) msX4_isIn q2163 rfl (by decide) (by decide) (Nat.le_refl _) (Nat.le_refl _) rfl (Nat.le_of_ble_eq_true rfl) dX4_readValue_15 rfl ?_
      refine aw_if_eqB 25 21 dX4_readValue_18 rfl rfl (fun c_18 => ?_) (fun c_18 => ?_)
      · refine aw_iconst 26 dX4_readValue_25 rfl ?_
        exact kz1 _ (by first | exact (bI_t (by first | assumption | omega | (refine ⟨?_, ?_⟩ <;> first | assumption | omega))).symm | exact (bI_f (by first | assumption | omega | (intro z; first | exact absurd z.1 (by assumption) | exact absurd z.2 (by assumption) | omega))).symm)
      · refine aw_iconst 22 dX4_readValue_21 rfl ?_
        refine aw_goto 26 dX4_readValue_22 rfl ?_
        exact kz1 _ (by first | exact (bI_t (by first | assumption | omega | (refine ⟨?_, ?_⟩ <;> first | assumption | omega))).symm | exact (bI_f (by first | assumption | omega | (intro z; first | exact absurd z.1 (by assumption) | exact absurd z.2 (by assumption) | omega))).symm)
