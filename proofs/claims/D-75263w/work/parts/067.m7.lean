/-! CameraMovesModel: the statements -/
set_option maxRecDepth 100000
theorem mTk_R {σ : MSt} (h : mTk σ) {k : Nat} (f : Nat → Int) (hk : k ≠ 10) : mTk (sR σ k f) := by
  obtain ⟨t1, t2⟩ := h
  refine ⟨⟨t1.1, t1.2.1, ?_⟩, t2⟩
  intro j
  show -128 ≤ (if 10 = k then f else σ.2 10) j ∧ (if 10 = k then f else σ.2 10) j ≤ 127
  rw [if_neg (Ne.symm hk)]
  exact t1.2.2 j
/-- rows of the model, behind one change -/
theorem mRd_R1 {σ : MSt} (h : mRd σ) (i : Nat) (v : Int) (hv : Rg v) (h1 : i = 194 → 0 ≤ v ∧ v ≤ 20) (h2 : i = 335 → 0 ≤ v ∧ v ≤ 6) : mRd (sR σ 1 (va_up (σ.2 1) i v)) := by
  obtain ⟨a1, a2, a3, a4, a5, a6, a7, a8, a9⟩ := h
  refine ⟨mTk_R a1 _ (by decide), a2, a3, a4, a5, ⟨?_, ?_⟩, ?_, a8, a9⟩
  · show 0 ≤ va_up (σ.2 1) i v 194 ∧ va_up (σ.2 1) i v 194 ≤ 20
    rw [va_up_at]
    split
    · exact h1 (by omega)
    · exact a6.1
  · show 0 ≤ va_up (σ.2 1) i v 335 ∧ va_up (σ.2 1) i v 335 ≤ 6
    rw [va_up_at]
    split
    · exact h2 (by omega)
    · exact a6.2
  · intro k
    show Rg (va_up (σ.2 1) i v k)
    rw [va_up_at]
    split
    · exact hv
    · exact a7 k
theorem mRd_R24 {σ : MSt} (h : mRd σ) (i : Nat) (v : Int) (hv : Rg v) : mRd (sR σ 24 (va_up (σ.2 24) i v)) := by
  obtain ⟨a1, a2, a3, a4, a5, a6, a7, a8, a9⟩ := h
  refine ⟨mTk_R a1 _ (by decide), a2, a3, a4, a5, a6, a7, ?_, a9⟩
  intro k
  show Rg (va_up (σ.2 24) i v k)
  rw [va_up_at]
  split
  · exact hv
  · exact a8 k
theorem mRd_R26 {σ : MSt} (h : mRd σ) (i : Nat) (v : Int) (hv : Rg v) : mRd (sR σ 26 (va_up (σ.2 26) i v)) := by
  obtain ⟨a1, a2, a3, a4, a5, a6, a7, a8, a9⟩ := h
  refine ⟨mTk_R a1 _ (by decide), a2, a3, a4, a5, a6, a7, a8, ?_⟩
  intro k
  show Rg (va_up (σ.2 26) i v k)
  rw [va_up_at]
  split
  · exact hv
  · exact a9 k
theorem mRd_R23 {σ : MSt} (h : mRd σ) (i : Nat) (v : Int) (hv : 0 ≤ v ∧ v < 1099511627776) : mRd (sR σ 23 (va_up (σ.2 23) i v)) := by
  obtain ⟨a1, a2, a3, a4, a5, a6⟩ := h
  refine ⟨mTk_R a1 _ (by decide), a2, a3, a4, ?_, a6⟩
  intro k
  show 0 ≤ va_up (σ.2 23) i v k ∧ va_up (σ.2 23) i v k < 1099511627776
  rw [va_up_at]
  split
  · exact hv
  · exact a5 k
theorem mRd_F22 {σ : MSt} (h : mRd σ) (z : Int) (hz : 0 ≤ z ∧ z ≤ 4) : mRd (sF σ 22 z) := by
  obtain ⟨a1, a2, a3, a4, a5⟩ := h
  exact ⟨mTk_F a1 _ (by decide), a2, hz, a4, a5⟩
theorem mRd_F25 {σ : MSt} (h : mRd σ) (z : Int) (hz : 0 ≤ z ∧ z ≤ 4) : mRd (sF σ 25 z) := by
  obtain ⟨a1, a2, a3, a4, a5⟩ := h
  exact ⟨mTk_F a1 _ (by decide), a2, a3, hz, a5⟩
/-! an axis -/
noncomputable def x_1 (σ : MSt) : MSt := k_goesOn (k_must (bI (σ.1 22 < 4)) σ)
noncomputable def x_2 (σ : MSt) : MSt := k_must (bI ((x_1 σ).1 18 = 1 ∧ k_axisHere (x_1 σ) = -1)) (x_1 σ)
def x_3 (σ : MSt) : MSt := k_readToken (sR σ 23 (va_up (σ.2 23) (σ.1 22).toNat (σ.1 20)))
noncomputable def x_a (σ : MSt) : MSt × Int := k_readSigned (-9999) 9999 (x_3 σ)
noncomputable def x_b (σ : MSt) : MSt × Int := k_readSigned (x_a σ).2 9999 (x_a σ).1
noncomputable def x_c (σ : MSt) : MSt × Int := k_readValue 1 99 (x_b σ).1
noncomputable def x_d (σ : MSt) : MSt × Int := k_readValue 1 20 (x_c σ).1
noncomputable def x_e (σ : MSt) : MSt × Int := k_readSigned (x_a σ).2 (x_b σ).2 (x_d σ).1
/-- a's numbers, written -/
def x_w (a lo hi sp rp s : Int) (τ : MSt) : MSt := sF (sR (sR (sR (sR (sR τ 24 (va_up (τ.2 24) (3 * a).toNat lo)) 24 (va_up (va_up (τ.2 24) (3 * a).toNat lo) (3 * a + 1).toNat hi)) 24 (va_up (va_up (va_up (τ.2 24) (3 * a).toNat lo) (3 * a + 1).toNat hi) (3 * a + 2).toNat s)) 1 (va_up (τ.2 1) (186 + a).toNat sp)) 1 (va_up (va_up (τ.2 1) (186 + a).toNat sp) (190 + a).toNat rp)) 22 (τ.1 22 + 1)
noncomputable def k_readAxis (σ : MSt) : MSt := if wl (x_2 σ) then (if wl (x_e (x_2 σ)).1 then x_w ((x_2 σ).1 22) (x_a (x_2 σ)).2 (x_b (x_2 σ)).2 (x_c (x_2 σ)).2 (x_d (x_2 σ)).2 (x_e (x_2 σ)).2 (x_e (x_2 σ)).1 else (x_e (x_2 σ)).1) else x_2 σ
theorem x_2_ok {σ : MSt} (hr : mRd σ) : mRd (x_1 σ) ∧ mRd (x_2 σ) ∧ TM σ (x_2 σ) ∧ (wl (x_2 σ) → wl σ ∧ σ.1 22 < 4 ∧ (x_2 σ).1 22 = σ.1 22) := by
  have r0 := k_must_rd hr (bI (σ.1 22 < 4))
  have r1 : mRd (x_1 σ) := k_goesOn_rd r0
  have r2 : mRd (x_2 σ) := k_must_rd r1 _
  have t2 : TM σ (x_2 σ) := (k_must_tm _ σ).tr ((k_goesOn_tm r0).tr (k_must_tm _ _))
  refine ⟨r1, r2, t2, fun hw => ?_⟩
  obtain ⟨q1, -⟩ := (k_must_w r1 _).mp hw
  have q2 : wl (k_must (bI (σ.1 22 < 4)) σ) := (k_goesOn_w r0).symm.trans q1
  obtain ⟨q3, q4⟩ := (k_must_w hr _).mp q2
  refine ⟨q3, ?_, t2.2.1 22 (by decide)⟩
  rcases Classical.em (σ.1 22 < 4) with z | z
  · exact z
  · exact absurd (bI_f z) q4
theorem x_e_ok {σ : MSt} (hr : mRd σ) (h4 : σ.1 22 < 4) : mRd (x_3 σ) ∧ mRd (x_a σ).1 ∧ mRd (x_b σ).1 ∧ mRd (x_c σ).1 ∧ mRd (x_d σ).1 ∧ mRd (x_e σ).1 ∧ TM (sR σ 23 (va_up (σ.2 23) (σ.1 22).toNat (σ.1 20))) (x_e σ).1 ∧ (-9999 ≤ (x_a σ).2 ∧ (x_a σ).2 ≤ 9999) ∧ (-9999 ≤ (x_b σ).2 ∧ (x_b σ).2 ≤ 9999) ∧ (0 ≤ (x_c σ).2 ∧ (x_c σ).2 ≤ 9999) ∧ (0 ≤ (x_d σ).2 ∧ (x_d σ).2 ≤ 9999) ∧ (-9999 ≤ (x_e σ).2 ∧ (x_e σ).2 ≤ 9999) := by
  have r0 := mRd_R23 hr (σ.1 22).toNat (σ.1 20) hr.1.2.2.2.1
  have r3 : mRd (x_3 σ) := k_readToken_rd r0
  obtain ⟨a1, a2, a3, -⟩ := k_readSigned_ok r3 (-9999) 9999
  obtain ⟨b1, b2, b3, -⟩ := k_readSigned_ok (show mRd (x_a σ).1 from a1) (x_a σ).2 9999
  obtain ⟨c1, c2, c3, -⟩ := k_readValue_ok (show mRd (x_b σ).1 from b1) 1 99
  obtain ⟨d1, d2, d3, -⟩ := k_readValue_ok (show mRd (x_c σ).1 from c1) 1 20
  obtain ⟨e1, e2, e3, -⟩ := k_readSigned_ok (show mRd (x_d σ).1 from d1) (x_a σ).2 (x_b σ).2
  exact ⟨r3, a1, b1, c1, d1, e1, (k_readToken_tm r0).tr (a2.tr (b2.tr (c2.tr (d2.tr e2)))), a3, b3, c3, d3, e3⟩
theorem k_readAxis_rd {σ : MSt} (hr : mRd σ) : mRd (k_readAxis σ) := by
  obtain ⟨r1, r2, -, hw⟩ := x_2_ok hr
  unfold k_readAxis
  split
  · next h2 =>
    obtain ⟨-, h4, h5⟩ := hw h2
    obtain ⟨-, -, -, -, -, e1, e2, a3, b3, c3, d3, e3⟩ := x_e_ok r2 (by omega)
    split
    · have h22 : (x_e (x_2 σ)).1.1 22 = (x_2 σ).1 22 := e2.2.1 22 (by decide)
      have hq := hr.2.2.1
      unfold x_w
      refine mRd_F22 ?_ _ (by omega)
      refine mRd_R1 (mRd_R1 (mRd_R24 (mRd_R24 (mRd_R24 e1 _ _ (by omega)) _ _ (by omega)) _ _ (by omega)) _ _ (by omega) (fun z => by omega) (fun z => by omega)) _ _ (by omega) (fun z => by omega) (fun z => by omega)
    · exact e1
  · exact r2
theorem m_readAxis {l : Launch} {g : AG} {C : MCx} (hC : MOK C) (σ : MSt)  (hr : mRd σ): AMx l g miX4_readAxis 16 [.ref C.1] (mh C σ) (none) (mh C (k_readAxis σ)) := by
  refine aw_start 6 (by decide) rfl (Nat.le_of_ble_eq_true rfl) ?_
  show AWc l g miX4_readAxis 16 0 0 _ _ 0 0 (mh C σ) 0 [some (.ref C.1), none, none, none, none, none, none] []
  have h22 := hr.2.2.1
  have r0 := k_must_rd hr (bI (σ.1 22 < 4))
  obtain ⟨r1, r2, -, hw⟩ := x_2_ok hr
  have g1 := r1.1.2.1
  have g2 := k_axisHere_rg (x_1 σ)
  have g3 := r1.2.2.1
  refine aw_aload_n 1 dX4_readAxis_0 rfl rfl ?_
  refine aw_join (bI (σ.1 22 < 4)) 14 ?_ (fun kz1 => ?_)
  · refine aw_xVv 17 (m_must hC _ _ (bI_Rg _) hr.w) mvX4_must q2223 (rdl (mh_obj _ _)) rfl rfl rfl (by decide) (by decide) (Nat.le_refl _) (Nat.le_refl _) rfl (Nat.le_of_ble_eq_true rfl) dX4_readAxis_14 rfl ?_
    refine aw_aload_n 18 dX4_readAxis_17 rfl rfl ?_
    refine aw_xVv 21 (m_goesOn hC _ r0.tx r0.w) mvX4_goesOn q2227 (rdl (mh_obj _ _)) rfl rfl rfl (by decide) (by decide) (Nat.le_refl _) (Nat.le_refl _) rfl (Nat.le_of_ble_eq_true rfl) dX4_readAxis_18 rfl ?_
    refine aw_h (show _ = mh C (x_1 σ) from rfl) ?_
    refine aw_aload_n 22 dX4_readAxis_21 rfl rfl ?_
    refine aw_join (bI ((x_1 σ).1 18 = 1 ∧ k_axisHere (x_1 σ) = -1)) 43 ?_ (fun kz2 => ?_)
    · refine aw_xVv 46 (m_must hC (x_1 σ) _ (bI_Rg _) r1.w) mvX4_must q2223 (rdl (mh_obj _ _)) rfl rfl rfl (by decide) (by decide) (Nat.le_refl _) (Nat.le_refl _) rfl (Nat.le_of_ble_eq_true rfl) dX4_readAxis_43 rfl ?_
      refine aw_h (show _ = mh C (x_2 σ) from rfl) ?_
      refine aw_aload_n 47 dX4_readAxis_46 rfl rfl ?_
      refine aw_xV 50 (m_isWell hC (x_2 σ) r2.w) mvX4_isWell q2200 (rdl (mh_obj _ _)) rfl rfl rfl (by decide) (by decide) (Nat.le_refl _) (Nat.le_refl _) rfl (Nat.le_of_ble_eq_true rfl) dX4_readAxis_47 rfl ?_
      refine aw_if_neB 54 53 dX4_readAxis_50 rfl rfl (fun c_50 => ?_) (fun c_50 => ?_)
      · obtain ⟨-, h4, h5⟩ := hw (by assumption); have v2 := r2.2.2.1; obtain ⟨s3, sa, sb, sc, sd, se, e2, a3, b3, c3, d3, e3⟩ := x_e_ok r2 (by omega); have h6 := e2.2.1 22 (by decide); have r03 := mRd_R23 r2 ((x_2 σ).1 22).toNat ((x_2 σ).1 20) r2.1.2.2.2.1
        refine aw_aload_n 55 dX4_readAxis_54 rfl rfl ?_
        refine aw_get 58 ci4 22 (by decide) q2053 (Or.inl rfl) (rdl (mh_obj _ _)) rfl dX4_readAxis_55 rfl ?_
        refine aw_istore_n 59 dX4_readAxis_58 rfl (as_1 rfl) (by decide) ?_
        refine aw_aload_n 60 dX4_readAxis_59 rfl rfl ?_
        refine aw_get 63 ci4 23 (by decide) q2054 (Or.inl rfl) (rdl (mh_obj _ _)) rfl dX4_readAxis_60 rfl ?_
        refine aw_iload_n 64 dX4_readAxis_63 rfl rfl ?_
        refine aw_aload_n 65 dX4_readAxis_64 rfl rfl ?_
        refine aw_get 68 ci4 20 (by decide) q2051 (Or.inl rfl) (rdl (mh_obj _ _)) rfl dX4_readAxis_65 rfl ?_
        refine aw_last 69 (mh_23 hC _) (by (first | omega | (show 0 ≤ (x_2 σ).1 22 ∧ (x_2 σ).1 22 < 4; omega))) dX4_readAxis_68 rfl (by decide) ?_
        refine aw_h (mhs_23 hC _ _) ?_
        refine aw_aload_n 70 dX4_readAxis_69 rfl rfl ?_
        refine aw_xVv 73 (m_readToken hC _ r03.tx) mvX4_readToken q2170 (rdl (mh_obj _ _)) rfl rfl rfl (by decide) (by decide) (Nat.le_refl _) (Nat.le_refl _) rfl (Nat.le_of_ble_eq_true rfl) dX4_readAxis_70 rfl ?_
        refine aw_h (show _ = mh C (x_3 (x_2 σ)) from rfl) ?_
        refine aw_aload_n 74 dX4_readAxis_73 rfl rfl ?_
        refine aw_sipush 77 dX4_readAxis_74 rfl (by decide) ?_
        refine aw_sipush 80 dX4_readAxis_77 rfl (by decide) ?_
        refine aw_xV 83 (m_readSigned hC (x_3 (x_2 σ)) _ _ s3 (by decide) (by decide)) mvX4_readSigned q2235 (rdl (mh_obj _ _)) rfl rfl rfl (by decide) (by decide) (Nat.le_refl _) (Nat.le_refl _) rfl (Nat.le_of_ble_eq_true rfl) dX4_readAxis_80 rfl ?_
        refine aw_h (show _ = mh C (x_a (x_2 σ)).1 from rfl) ?_
        refine aw_istore_n 84 dX4_readAxis_83 rfl (as_2 rfl) (by decide) ?_
        refine aw_aload_n 85 dX4_readAxis_84 rfl rfl ?_
        refine aw_iload_n 86 dX4_readAxis_85 rfl rfl ?_
        refine aw_sipush 89 dX4_readAxis_86 rfl (by decide) ?_
        refine aw_xV 92 (m_readSigned hC (x_a (x_2 σ)).1 _ _ sa (by show Rg (x_a (x_2 σ)).2; omega) (by decide)) mvX4_readSigned q2235 (rdl (mh_obj _ _)) rfl rfl rfl (by decide) (by decide) (Nat.le_refl _) (Nat.le_refl _) rfl (Nat.le_of_ble_eq_true rfl) dX4_readAxis_89 rfl ?_
        refine aw_h (show _ = mh C (x_b (x_2 σ)).1 from rfl) ?_
        refine aw_istore_n 93 dX4_readAxis_92 rfl (as_3 rfl) (by decide) ?_
        refine aw_aload_n 94 dX4_readAxis_93 rfl rfl ?_
        refine aw_iconst 95 dX4_readAxis_94 rfl ?_
        refine aw_bipush 97 dX4_readAxis_95 rfl (by decide) ?_
        refine aw_xV 100 (m_readValue hC (x_b (x_2 σ)).1 _ _ sb (by decide) (by decide)) mvX4_readValue q2239 (rdl (mh_obj _ _)) rfl rfl rfl (by decide) (by decide) (Nat.le_refl _) (Nat.le_refl _) rfl (Nat.le_of_ble_eq_true rfl) dX4_readAxis_97 rfl ?_
        refine aw_h (show _ = mh C (x_c (x_2 σ)).1 from rfl) ?_
        refine aw_istore 102 dX4_readAxis_100 rfl (as_4 rfl) (by decide) ?_
        refine aw_aload_n 103 dX4_readAxis_102 rfl rfl ?_
        refine aw_iconst 104 dX4_readAxis_103 rfl ?_
        refine aw_bipush 106 dX4_readAxis_104 rfl (by decide) ?_
        refine aw_xV 109 (m_readValue hC (x_c (x_2 σ)).1 _ _ sc (by decide) (by decide)) mvX4_readValue q2239 (rdl (mh_obj _ _)) rfl rfl rfl (by decide) (by decide) (Nat.le_refl _) (Nat.le_refl _) rfl (Nat.le_of_ble_eq_true rfl) dX4_readAxis_106 rfl ?_
        refine aw_h (show _ = mh C (x_d (x_2 σ)).1 from rfl) ?_
        refine aw_istore 111 dX4_readAxis_109 rfl (as_5 rfl) (by decide) ?_
        refine aw_aload_n 112 dX4_readAxis_111 rfl rfl ?_
        refine aw_iload_n 113 dX4_readAxis_112 rfl rfl ?_
        refine aw_iload_n 114 dX4_readAxis_113 rfl rfl ?_
        refine aw_xV 117 (m_readSigned hC (x_d (x_2 σ)).1 _ _ sd (by show Rg (x_a (x_2 σ)).2; omega) (by show Rg (x_b (x_2 σ)).2; omega)) mvX4_readSigned q2235 (rdl (mh_obj _ _)) rfl rfl rfl (by decide) (by decide) (Nat.le_refl _) (Nat.le_refl _) rfl (Nat.le_of_ble_eq_true rfl) dX4_readAxis_114 rfl ?_
        refine aw_h (show _ = mh C (x_e (x_2 σ)).1 from rfl) ?_
        refine aw_istore 119 dX4_readAxis_117 rfl (as_6 rfl) (by decide) ?_
        refine aw_aload_n 120 dX4_readAxis_119 rfl rfl ?_
        refine aw_xV 123 (m_isWell hC (x_e (x_2 σ)).1 se.w) mvX4_isWell q2200 (rdl (mh_obj _ _)) rfl rfl rfl (by decide) (by decide) (Nat.le_refl _) (Nat.le_refl _) rfl (Nat.le_of_ble_eq_true rfl) dX4_readAxis_120 rfl ?_
        refine aw_if_neB 127 126 dX4_readAxis_123 rfl rfl (fun c_123 => ?_) (fun c_123 => ?_)
        · refine aw_aload_n 128 dX4_readAxis_127 rfl rfl ?_
          refine aw_get 131 ci4 24 (by decide) q2055 (Or.inl rfl) (rdl (mh_obj _ _)) rfl dX4_readAxis_128 rfl ?_
          refine aw_iconst 132 dX4_readAxis_131 rfl ?_
          refine aw_iload_n 133 dX4_readAxis_132 rfl rfl ?_
          refine aw_imul 134 dX4_readAxis_133 rfl ?_
          refine aw_iload_n 135 dX4_readAxis_134 rfl rfl ?_
          refine aw_iast 136 (mh_24 hC _) (by (first | omega | (show 0 ≤ (x_2 σ).1 22 ∧ (x_2 σ).1 22 < 4; omega))) dX4_readAxis_135 rfl (by decide) ?_
          refine aw_h (mhs_24 hC _ _) ?_
          refine aw_aload_n 137 dX4_readAxis_136 rfl rfl ?_
          refine aw_get 140 ci4 24 (by decide) q2055 (Or.inl rfl) (rdl (mh_obj _ _)) rfl dX4_readAxis_137 rfl ?_
          refine aw_iconst 141 dX4_readAxis_140 rfl ?_
          refine aw_iload_n 142 dX4_readAxis_141 rfl rfl ?_
          refine aw_imul 143 dX4_readAxis_142 rfl ?_
          refine aw_iconst 144 dX4_readAxis_143 rfl ?_
          refine aw_iadd 145 dX4_readAxis_144 rfl ?_
          refine aw_iload_n 146 dX4_readAxis_145 rfl rfl ?_
          refine aw_iast 147 (mh_24 hC _) (by (first | omega | (show 0 ≤ (x_2 σ).1 22 ∧ (x_2 σ).1 22 < 4; omega))) dX4_readAxis_146 rfl (by decide) ?_
          refine aw_h (mhs_24 hC _ _) ?_
          refine aw_aload_n 148 dX4_readAxis_147 rfl rfl ?_
          refine aw_get 151 ci4 24 (by decide) q2055 (Or.inl rfl) (rdl (mh_obj _ _)) rfl dX4_readAxis_148 rfl ?_
          refine aw_iconst 152 dX4_readAxis_151 rfl ?_
          refine aw_iload_n 153 dX4_readAxis_152 rfl rfl ?_
          refine aw_imul 154 dX4_readAxis_153 rfl ?_
          refine aw_iconst 155 dX4_readAxis_154 rfl ?_
          refine aw_iadd 156 dX4_readAxis_155 rfl ?_
          refine aw_iload 158 dX4_readAxis_156 rfl rfl ?_
          refine aw_iast 159 (mh_24 hC _) (by (first | omega | (show 0 ≤ (x_2 σ).1 22 ∧ (x_2 σ).1 22 < 4; omega))) dX4_readAxis_158 rfl (by decide) ?_
          refine aw_h (mhs_24 hC _ _) ?_
          refine aw_aload_n 160 dX4_readAxis_159 rfl rfl ?_
          refine aw_get 163 ci4 1 (by decide) q2032 (Or.inl rfl) (rdl (mh_obj _ _)) rfl dX4_readAxis_160 rfl ?_
          refine aw_sipush 166 dX4_readAxis_163 rfl (by decide) ?_
          refine aw_iload_n 167 dX4_readAxis_166 rfl rfl ?_
          refine aw_iadd 168 dX4_readAxis_167 rfl ?_
          refine aw_iload 170 dX4_readAxis_168 rfl rfl ?_
          refine aw_iast 171 (mh_1 hC _) (by (first | omega | (show 0 ≤ (x_2 σ).1 22 ∧ (x_2 σ).1 22 < 4; omega))) dX4_readAxis_170 rfl (by decide) ?_
          refine aw_h (mhs_1 hC _ _) ?_
          refine aw_aload_n 172 dX4_readAxis_171 rfl rfl ?_
          refine aw_get 175 ci4 1 (by decide) q2032 (Or.inl rfl) (rdl (mh_obj _ _)) rfl dX4_readAxis_172 rfl ?_
          refine aw_sipush 178 dX4_readAxis_175 rfl (by decide) ?_
          refine aw_iload_n 179 dX4_readAxis_178 rfl rfl ?_
          refine aw_iadd 180 dX4_readAxis_179 rfl ?_
          refine aw_iload 182 dX4_readAxis_180 rfl rfl ?_
          refine aw_iast 183 (mh_1 hC _) (by (first | omega | (show 0 ≤ (x_2 σ).1 22 ∧ (x_2 σ).1 22 < 4; omega))) dX4_readAxis_182 rfl (by decide) ?_
          refine aw_h (mhs_1 hC _ _) ?_
          refine aw_aload_n 184 dX4_readAxis_183 rfl rfl ?_
          refine aw_dup 185 dX4_readAxis_184 rfl rfl ?_
          refine aw_get 188 ci4 22 (by decide) q2053 (Or.inl rfl) (rdl (mh_obj _ _)) rfl dX4_readAxis_185 rfl ?_
          refine aw_iconst 189 dX4_readAxis_188 rfl ?_
          refine aw_iadd 190 dX4_readAxis_189 rfl ?_
          refine aw_put 193 ci4 22 (by decide) q2053 (Or.inl rfl) rfl rfl rfl (Nat.le_of_ble_eq_true rfl) (mh_obj _ _) dX4_readAxis_190 rfl ?_
          refine aw_h (mhp_22 _ _ _) ?_
          exact aw_xv (by unfold k_readAxis; rw [if_pos (by assumption), if_pos (by assumption)]; rfl) rfl dX4_readAxis_193
        · exact aw_xv (by unfold k_readAxis; rw [if_pos (by assumption), if_neg (by assumption)]) rfl dX4_readAxis_126
      · exact aw_xv (by unfold k_readAxis; rw [if_neg (by assumption)]) rfl dX4_readAxis_53
    · refine aw_aload_n 23 dX4_readAxis_22 rfl rfl ?_
      refine aw_get 26 ci4 18 (by decide) q2049 (Or.inl rfl) (rdl (mh_obj _ _)) rfl dX4_readAxis_23 rfl ?_
      refine aw_iconst 27 dX4_readAxis_26 rfl ?_
      refine aw_icmp_ne 42 30 (by (first | omega | (show 0 ≤ (x_2 σ).1 22 ∧ (x_2 σ).1 22 < 4; omega))) dX4_readAxis_27 rfl rfl (fun c_27 => ?_) (fun c_27 => ?_)
      · refine aw_iconst 43 dX4_readAxis_42 rfl ?_
        exact kz2 _ (by first | exact (bI_t (by first | assumption | omega | (refine ⟨?_, ?_⟩ <;> first | assumption | omega))).symm | exact (bI_f (by first | assumption | omega | (intro z; first | exact absurd z.1 (by assumption) | exact absurd z.2 (by assumption) | omega))).symm)
      · refine aw_aload_n 31 dX4_readAxis_30 rfl rfl ?_
        refine aw_xV 34 (m_axisHere hC (x_1 σ) r1) mvX4_axisHere q2231 (rdl (mh_obj _ _)) rfl rfl rfl (by decide) (by decide) (Nat.le_refl _) (Nat.le_refl _) rfl (Nat.le_of_ble_eq_true rfl) dX4_readAxis_31 rfl ?_
        refine aw_iconst 35 dX4_readAxis_34 rfl ?_
        refine aw_icmp_ne 42 38 (by (first | omega | (show 0 ≤ (x_2 σ).1 22 ∧ (x_2 σ).1 22 < 4; omega))) dX4_readAxis_35 rfl rfl (fun c_35 => ?_) (fun c_35 => ?_)
        · refine aw_iconst 43 dX4_readAxis_42 rfl ?_
          exact kz2 _ (by first | exact (bI_t (by first | assumption | omega | (refine ⟨?_, ?_⟩ <;> first | assumption | omega))).symm | exact (bI_f (by first | assumption | omega | (intro z; first | exact absurd z.1 (by assumption) | exact absurd z.2 (by assumption) | omega))).symm)
        · refine aw_iconst 39 dX4_readAxis_38 rfl ?_
          refine aw_goto 43 dX4_readAxis_39 rfl ?_
          exact kz2 _ (by first | exact (bI_t (by first | assumption | omega | (refine ⟨?_, ?_⟩ <;> first | assumption | omega))).symm | exact (bI_f (by first | assumption | omega | (intro z; first | exact absurd z.1 (by assumption) | exact absurd z.2 (by assumption) | omega))).symm)
  · refine aw_aload_n 2 dX4_readAxis_1 rfl rfl ?_
    refine aw_get 5 ci4 22 (by decide) q2053 (Or.inl rfl) (rdl (mh_obj _ _)) rfl dX4_readAxis_2 rfl ?_
    refine aw_iconst 6 dX4_readAxis_5 rfl ?_
    refine aw_icmp_ge 13 9 (by (first | omega | (show 0 ≤ (x_2 σ).1 22 ∧ (x_2 σ).1 22 < 4; omega))) dX4_readAxis_6 rfl rfl (fun c_6 => ?_) (fun c_6 => ?_)
    · refine aw_iconst 14 dX4_readAxis_13 rfl ?_
      exact kz1 _ (by first | exact (bI_t (by first | assumption | omega | (refine ⟨?_, ?_⟩ <;> first | assumption | omega))).symm | exact (bI_f (by first | assumption | omega | (intro z; first | exact absurd z.1 (by assumption) | exact absurd z.2 (by assumption) | omega))).symm)
    · refine aw_iconst 10 dX4_readAxis_9 rfl ?_
      refine aw_goto 14 dX4_readAxis_10 rfl ?_
      exact kz1 _ (by first | exact (bI_t (by first | assumption | omega | (refine ⟨?_, ?_⟩ <;> first | assumption | omega))).symm | exact (bI_f (by first | assumption | omega | (intro z; first | exact absurd z.1 (by assumption) | exact absurd z.2 (by assumption) | omega))).symm)
