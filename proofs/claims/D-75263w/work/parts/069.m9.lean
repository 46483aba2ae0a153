/-! CameraMovesModel: cue, wall, pass -/
set_option maxRecDepth 100000
noncomputable def c_1 (σ : MSt) : MSt := k_goesOn (k_must (bI (σ.2 1 194 < 20)) σ)
def c_b (σ : MSt) : Int := 195 + 7 * σ.2 1 194
noncomputable def c_p (σ : MSt) : MSt × Int := k_readValue 0 998 (c_1 σ)
noncomputable def c_2 (σ : MSt) : MSt := sR (c_p σ).1 1 (va_up ((c_p σ).1.2 1) (c_b σ).toNat (c_p σ).2)
noncomputable def c_q (σ : MSt) : MSt × Int := k_readValue 1 (999 - (c_2 σ).2 1 (c_b σ).toNat) (c_2 σ)
noncomputable def c_3 (σ : MSt) : MSt := sR (c_q σ).1 1 (va_up ((c_q σ).1.2 1) (c_b σ + 1).toNat (c_q σ).2)
noncomputable def c_4 (σ : MSt) : MSt := sR (c_3 σ) 1 (va_up ((c_3 σ).2 1) (c_b σ + 2).toNat 0)
noncomputable def k_tL (b : Int) : Nat → MSt → MSt
  | 0, σ => σ
  | f + 1, σ => if wl σ ∧ σ.1 18 = 1 then k_tL b f (k_readTarget b σ) else σ
noncomputable def c_5 (σ : MSt) : MSt := k_tL (c_b σ) 17 (k_readTarget (c_b σ) (c_4 σ))
noncomputable def k_readCue (σ : MSt) : MSt := if wl (c_1 σ) then sR (c_5 σ) 1 (va_up ((c_5 σ).2 1) 194 (σ.2 1 194 + 1)) else c_1 σ
/-- what a target keeps of the rows: all but the cue's bits and targets -/
def TG (b : Int) (σ τ : MSt) : Prop := (∀ j : Nat, ((j : Int) < b + 2 ∨ b + 7 ≤ j) → τ.2 1 j = σ.2 1 j) ∧ (∀ k, k ≠ 1 → τ.2 k = σ.2 k) ∧ (∀ j, j < 16 ∨ 21 < j → τ.1 j = σ.1 j) ∧ NX σ τ
theorem TG.rf (b : Int) (σ : MSt) : TG b σ σ := ⟨fun _ _ => rfl, fun _ _ => rfl, fun _ _ => rfl, NX.rf σ⟩
theorem TG.tr {b : Int} {a c e : MSt} (h1 : TG b a c) (h2 : TG b c e) : TG b a e := ⟨fun j hj => (h2.1 j hj).trans (h1.1 j hj), fun k hk => (h2.2.1 k hk).trans (h1.2.1 k hk), fun j hj => (h2.2.2.1 j hj).trans (h1.2.2.1 j hj), h1.2.2.2.tr h2.2.2.2⟩
theorem TM.tg {a c : MSt} (b : Int) (h : TM a c) : TG b a c := ⟨fun j _ => by rw [h.1], fun k _ => by rw [h.1], h.2.1, h.2.2⟩
theorem k_tL_ok {b : Int} (hb : bOk b) : ∀ (f : Nat) (σ : MSt), mRd σ → (0 ≤ σ.2 1 (b + 2).toNat ∧ σ.2 1 (b + 2).toNat ≤ 15) → mRd (k_tL b f σ) ∧ (0 ≤ (k_tL b f σ).2 1 (b + 2).toNat ∧ (k_tL b f σ).2 1 (b + 2).toNat ≤ 15) ∧ TG b σ (k_tL b f σ) ∧ (wl (k_tL b f σ) → wl σ) := by
  intro f
  induction f with
  | zero => intro σ hr hs; exact ⟨hr, hs, TG.rf b σ, fun z => z⟩
  | succ f ih =>
    intro σ hr hs
    simp only [k_tL]
    split
    · next h =>
      obtain ⟨a1, a2, a3, a4, a5, a6, a7⟩ := k_readTarget_ok hr hb hs
      obtain ⟨b1, b2, b3, b4⟩ := ih _ a1 a2
      exact ⟨b1, b2, TG.tr ⟨a3, a4, a5, a6⟩ b3, fun _ => h.1⟩
    · exact ⟨hr, hs, TG.rf b σ, fun z => z⟩
theorem c_4_ok {σ : MSt} (hr : mRd σ) : mRd (c_1 σ) ∧ TM σ (c_1 σ) ∧ (wl (c_1 σ) → wl σ ∧ σ.2 1 194 < 20 ∧ bOk (c_b σ) ∧ mRd (c_p σ).1 ∧ mRd (c_2 σ) ∧ (0 ≤ (c_2 σ).2 1 (c_b σ).toNat ∧ (c_2 σ).2 1 (c_b σ).toNat ≤ 9999) ∧ mRd (c_q σ).1 ∧ mRd (c_3 σ) ∧ mRd (c_4 σ) ∧ (c_4 σ).2 1 (c_b σ + 2).toNat = 0) := by
  have r0 := k_must_rd hr (bI (σ.2 1 194 < 20))
  have r1 : mRd (c_1 σ) := k_goesOn_rd r0
  refine ⟨r1, (k_must_tm _ σ).tr (k_goesOn_tm r0), fun hw => ?_⟩
  have q2 : wl (k_must (bI (σ.2 1 194 < 20)) σ) := (k_goesOn_w r0).symm.trans hw
  obtain ⟨q3, q4⟩ := (k_must_w hr _).mp q2
  have q5 : σ.2 1 194 < 20 := by
    rcases Classical.em (σ.2 1 194 < 20) with z | z
    · exact z
    · exact absurd (bI_f z) q4
  have h0 := hr.2.2.2.2.2.1.1.1
  have hb : bOk (c_b σ) := by unfold bOk c_b; omega
  have hb1 := hb.1
  have hb2 := hb.2
  obtain ⟨p1, -, p3, -⟩ := k_readValue_ok r1 0 998
  have p3 : 0 ≤ (c_p σ).2 ∧ (c_p σ).2 ≤ 9999 := p3
  have r2 : mRd (c_2 σ) := mRd_R1 p1 _ _ (by omega) (fun z => by omega) (fun z => by omega)
  obtain ⟨s1, -, s3, -⟩ := k_readValue_ok r2 1 (999 - (c_2 σ).2 1 (c_b σ).toNat)
  have s3 : 0 ≤ (c_q σ).2 ∧ (c_q σ).2 ≤ 9999 := s3
  have r3 : mRd (c_3 σ) := mRd_R1 s1 _ _ (by omega) (fun z => by omega) (fun z => by omega)
  have r4 : mRd (c_4 σ) := mRd_R1 r3 _ _ (by omega) (fun z => by omega) (fun z => by omega)
  refine ⟨q3, q5, hb, p1, r2, ?_, s1, r3, r4, ?_⟩
  · show 0 ≤ va_up _ _ _ (c_b σ).toNat ∧ va_up _ _ _ (c_b σ).toNat ≤ 9999
    rw [va_up_at, if_pos rfl]
    exact p3
  · show va_up _ _ _ (c_b σ + 2).toNat = 0
    rw [va_up_at, if_pos rfl]
theorem c_5_ok {σ : MSt} (hr : mRd σ) (hw : wl (c_1 σ)) : mRd (k_readTarget (c_b σ) (c_4 σ)) ∧ (0 ≤ (k_readTarget (c_b σ) (c_4 σ)).2 1 (c_b σ + 2).toNat ∧ (k_readTarget (c_b σ) (c_4 σ)).2 1 (c_b σ + 2).toNat ≤ 15) ∧ mRd (c_5 σ) ∧ TG (c_b σ) (c_4 σ) (c_5 σ) ∧ (0 ≤ (c_5 σ).2 1 (c_b σ + 2).toNat ∧ (c_5 σ).2 1 (c_b σ + 2).toNat ≤ 15) ∧ (wl (c_5 σ) → wl (c_4 σ)) := by
  obtain ⟨-, -, h⟩ := c_4_ok hr
  obtain ⟨-, q5, hb, -, -, -, -, -, r4, e4⟩ := h hw
  obtain ⟨a1, a2, a3, a4, a5, a6, a7⟩ := k_readTarget_ok r4 hb (by rw [e4]; decide)
  obtain ⟨b1, b2, b3, b4⟩ := k_tL_ok hb 17 _ a1 a2
  exact ⟨a1, a2, b1, TG.tr ⟨a3, a4, a5, a6⟩ b3, b2, fun z => (a7 (b4 z)).1⟩
theorem k_readCue_rd {σ : MSt} (hr : mRd σ) : mRd (k_readCue σ) := by
  obtain ⟨r1, -, h⟩ := c_4_ok hr
  unfold k_readCue
  split
  · next hw =>
    obtain ⟨-, -, r5, -⟩ := c_5_ok hr hw
    obtain ⟨-, q5, -⟩ := h hw
    have h0 := hr.2.2.2.2.2.1.1.1
    exact mRd_R1 r5 _ _ (by omega) (fun z => by omega) (fun z => by omega)
  · exact r1
theorem l_readCue {l : Launch} {g : AG} {C : MCx} (hC : MOK C) {b q : Int} (hb : bOk b) (hq : 0 ≤ q ∧ q < 20) : ∀ (f : Nat) (σ : MSt), mRd σ → (0 ≤ σ.2 1 (b + 2).toNat ∧ σ.2 1 (b + 2).toNat ≤ 15) → (wl σ → 15 - σ.2 1 (b + 2).toNat < f) → AWc l g miX4_readCue 17 0 0 (fun r2 h2 => r2 = none ∧ h2 = mh C (sR (k_tL b f σ) 1 (va_up ((k_tL b f σ).2 1) 194 (q + 1)))) (fun _ _ _ => False) 0 0 (mh C σ) 96 [some (.ref C.1), some (iv q), some (iv b)] [] := by
  intro f
  induction f with
  | zero =>
    intro σ hr hs hf
    have h18 := hr.1.2.1
    refine aw_aload_n 97 dX4_readCue_96 rfl rfl ?_
    refine aw_xV 100 (m_isWell hC σ hr.w) mvX4_isWell q2200 (rdl (mh_obj _ _)) rfl rfl rfl (by decide) (by decide) (Nat.le_refl _) (Nat.le_refl _) rfl (Nat.le_of_ble_eq_true rfl) dX4_readCue_97 rfl ?_
    refine aw_if_eqB 119 103 dX4_readCue_100 rfl rfl (fun c_100 => ?_) (fun c_100 => (absurd (hf c_100) (by omega)))
    refine aw_aload_n 120 dX4_readCue_119 rfl rfl ?_
    refine aw_get 123 ci4 1 (by decide) q2032 (Or.inl rfl) (rdl (mh_obj _ _)) rfl dX4_readCue_120 rfl ?_
    refine aw_sipush 126 dX4_readCue_123 rfl (by decide) ?_
    refine aw_iload_n 127 dX4_readCue_126 rfl rfl ?_
    refine aw_iconst 128 dX4_readCue_127 rfl ?_
    refine aw_iadd 129 dX4_readCue_128 rfl ?_
    refine aw_iast 130 (mh_1 hC _) (by omega) dX4_readCue_129 rfl (by decide) ?_
    refine aw_h (mhs_1 hC _ _) ?_
    exact aw_xv (rfl) rfl dX4_readCue_130
  | succ f ih =>
    intro σ hr hs hf
    have h18 := hr.1.2.1
    by_cases hL : wl σ ∧ σ.1 18 = 1
    · rw [show k_tL b (f + 1) σ = k_tL b f (k_readTarget b σ) from if_pos hL]
      obtain ⟨a1, a2, a3, a4, a5, a6, a7⟩ := k_readTarget_ok hr hb hs
      refine aw_aload_n 97 dX4_readCue_96 rfl rfl ?_
      refine aw_xV 100 (m_isWell hC σ hr.w) mvX4_isWell q2200 (rdl (mh_obj _ _)) rfl rfl rfl (by decide) (by decide) (Nat.le_refl _) (Nat.le_refl _) rfl (Nat.le_of_ble_eq_true rfl) dX4_readCue_97 rfl ?_
      refine aw_if_eqB 119 103 dX4_readCue_100 rfl rfl (fun c_100 => (absurd hL.1 c_100)) (fun c_100 => ?_)
      refine aw_aload_n 104 dX4_readCue_103 rfl rfl ?_
      refine aw_get 107 ci4 18 (by decide) q2049 (Or.inl rfl) (rdl (mh_obj _ _)) rfl dX4_readCue_104 rfl ?_
      refine aw_iconst 108 dX4_readCue_107 rfl ?_
      refine aw_icmp_ne 119 111 (by omega) dX4_readCue_108 rfl rfl (fun c_108 => absurd c_108 (by omega)) (fun c_108 => ?_)
      refine aw_aload_n 112 dX4_readCue_111 rfl rfl ?_
      refine aw_iload_n 113 dX4_readCue_112 rfl rfl ?_
      refine aw_xVv 116 (m_readTarget hC σ _ hr hb hs) mvX4_readTarget q2247 (rdl (mh_obj _ _)) rfl rfl rfl (by decide) (by decide) (Nat.le_refl _) (Nat.le_refl _) rfl (Nat.le_of_ble_eq_true rfl) dX4_readCue_113 rfl ?_
      refine aw_goto 96 dX4_readCue_116 rfl ?_
      exact ih _ a1 a2 (fun z => by have := (a7 z).2; have := hf hL.1; omega)
    · rw [show k_tL b (f + 1) σ = σ from if_neg hL]
      refine aw_aload_n 97 dX4_readCue_96 rfl rfl ?_
      refine aw_xV 100 (m_isWell hC σ hr.w) mvX4_isWell q2200 (rdl (mh_obj _ _)) rfl rfl rfl (by decide) (by decide) (Nat.le_refl _) (Nat.le_refl _) rfl (Nat.le_of_ble_eq_true rfl) dX4_readCue_97 rfl ?_
      refine aw_if_eqB 119 103 dX4_readCue_100 rfl rfl (fun c_100 => ?_) (fun c_100 => ?_)
      · refine aw_aload_n 120 dX4_readCue_119 rfl rfl ?_
        refine aw_get 123 ci4 1 (by decide) q2032 (Or.inl rfl) (rdl (mh_obj _ _)) rfl dX4_readCue_120 rfl ?_
        refine aw_sipush 126 dX4_readCue_123 rfl (by decide) ?_
        refine aw_iload_n 127 dX4_readCue_126 rfl rfl ?_
        refine aw_iconst 128 dX4_readCue_127 rfl ?_
        refine aw_iadd 129 dX4_readCue_128 rfl ?_
        refine aw_iast 130 (mh_1 hC _) (by omega) dX4_readCue_129 rfl (by decide) ?_
        refine aw_h (mhs_1 hC _ _) ?_
        exact aw_xv (rfl) rfl dX4_readCue_130
      · refine aw_aload_n 104 dX4_readCue_103 rfl rfl ?_
        refine aw_get 107 ci4 18 (by decide) q2049 (Or.inl rfl) (rdl (mh_obj _ _)) rfl dX4_readCue_104 rfl ?_
        refine aw_iconst 108 dX4_readCue_107 rfl ?_
        refine aw_icmp_ne 119 111 (by omega) dX4_readCue_108 rfl rfl (fun c_108 => ?_) (fun c_108 => (absurd ⟨c_100, c_108⟩ hL))
        refine aw_aload_n 120 dX4_readCue_119 rfl rfl ?_
        refine aw_get 123 ci4 1 (by decide) q2032 (Or.inl rfl) (rdl (mh_obj _ _)) rfl dX4_readCue_120 rfl ?_
        refine aw_sipush 126 dX4_readCue_123 rfl (by decide) ?_
        refine aw_iload_n 127 dX4_readCue_126 rfl rfl ?_
        refine aw_iconst 128 dX4_readCue_127 rfl ?_
        refine aw_iadd 129 dX4_readCue_128 rfl ?_
        refine aw_iast 130 (mh_1 hC _) (by omega) dX4_readCue_129 rfl (by decide) ?_
        refine aw_h (mhs_1 hC _ _) ?_
        exact aw_xv (rfl) rfl dX4_readCue_130
theorem m_readCue {l : Launch} {g : AG} {C : MCx} (hC : MOK C) (σ : MSt)  (hr : mRd σ): AMx l g miX4_readCue 17 [.ref C.1] (mh C σ) (none) (mh C (k_readCue σ)) := by
  refine aw_start 2 (by decide) rfl (Nat.le_of_ble_eq_true rfl) ?_
  show AWc l g miX4_readCue 17 0 0 _ _ 0 0 (mh C σ) 0 [some (.ref C.1), none, none] []
  obtain ⟨r1, t1, h⟩ := c_4_ok hr
  have h0 := hr.2.2.2.2.2.1.1
  have r0 := k_must_rd hr (bI (σ.2 1 194 < 20))
  refine aw_aload_n 1 dX4_readCue_0 rfl rfl ?_
  refine aw_get 4 ci4 1 (by decide) q2032 (Or.inl rfl) (rdl (mh_obj _ _)) rfl dX4_readCue_1 rfl ?_
  refine aw_sipush 7 dX4_readCue_4 rfl (by decide) ?_
  refine aw_iald 8 (rdl (mh_1 hC _)) (by omega) dX4_readCue_7 rfl (by decide) ?_
  refine aw_st (st' := [iv (σ.2 1 194)]) rfl ?_
  refine aw_istore_n 9 dX4_readCue_8 rfl (as_1 rfl) (by decide) ?_
  refine aw_aload_n 10 dX4_readCue_9 rfl rfl ?_
  refine aw_join (bI (σ.2 1 194 < 20)) 21 ?_ (fun kz1 => ?_)
  · refine aw_xVv 24 (m_must hC σ _ (bI_Rg _) hr.w) mvX4_must q2223 (rdl (mh_obj _ _)) rfl rfl rfl (by decide) (by decide) (Nat.le_refl _) (Nat.le_refl _) rfl (Nat.le_of_ble_eq_true rfl) dX4_readCue_21 rfl ?_
    refine aw_aload_n 25 dX4_readCue_24 rfl rfl ?_
    refine aw_xVv 28 (m_goesOn hC _ r0.tx r0.w) mvX4_goesOn q2227 (rdl (mh_obj _ _)) rfl rfl rfl (by decide) (by decide) (Nat.le_refl _) (Nat.le_refl _) rfl (Nat.le_of_ble_eq_true rfl) dX4_readCue_25 rfl ?_
    refine aw_h (show _ = mh C (c_1 σ) from rfl) ?_
    refine aw_aload_n 29 dX4_readCue_28 rfl rfl ?_
    refine aw_xV 32 (m_isWell hC (c_1 σ) r1.w) mvX4_isWell q2200 (rdl (mh_obj _ _)) rfl rfl rfl (by decide) (by decide) (Nat.le_refl _) (Nat.le_refl _) rfl (Nat.le_of_ble_eq_true rfl) dX4_readCue_29 rfl ?_
    refine aw_if_neB 36 35 dX4_readCue_32 rfl rfl (fun c_32 => ?_) (fun c_32 => ?_)
    · obtain ⟨w0, q5, hb, p1, r2, e2, s1, r3, r4, e4⟩ := h (by assumption); obtain ⟨a1, a2, r5, -⟩ := c_5_ok hr (by assumption); have hb1 := hb.1; have hb2 := hb.2; have eb : 195 + 7 * σ.2 1 194 = c_b σ := rfl
      refine aw_sipush 39 dX4_readCue_36 rfl (by decide) ?_
      refine aw_bipush 41 dX4_readCue_39 rfl (by decide) ?_
      refine aw_iload_n 42 dX4_readCue_41 rfl rfl ?_
      refine aw_imul 43 dX4_readCue_42 rfl ?_
      refine aw_iadd 44 dX4_readCue_43 rfl ?_
      refine aw_st (st' := [iv (c_b σ)]) rfl ?_
      refine aw_istore_n 45 dX4_readCue_44 rfl (as_2 rfl) (by decide) ?_
      refine aw_aload_n 46 dX4_readCue_45 rfl rfl ?_
      refine aw_get 49 ci4 1 (by decide) q2032 (Or.inl rfl) (rdl (mh_obj _ _)) rfl dX4_readCue_46 rfl ?_
      refine aw_iload_n 50 dX4_readCue_49 rfl rfl ?_
      refine aw_aload_n 51 dX4_readCue_50 rfl rfl ?_
      refine aw_iconst 52 dX4_readCue_51 rfl ?_
      refine aw_sipush 55 dX4_readCue_52 rfl (by decide) ?_
      refine aw_xV 58 (m_readValue hC (c_1 σ) _ _ r1 (by decide) (by decide)) mvX4_readValue q2239 (rdl (mh_obj _ _)) rfl rfl rfl (by decide) (by decide) (Nat.le_refl _) (Nat.le_refl _) rfl (Nat.le_of_ble_eq_true rfl) dX4_readCue_55 rfl ?_
      refine aw_h (show _ = mh C (c_p σ).1 from rfl) ?_
      refine aw_iast 59 (mh_1 hC _) (by omega) dX4_readCue_58 rfl (by decide) ?_
      refine aw_h (mhs_1 hC _ _) ?_
      refine aw_h (show _ = mh C (c_2 σ) from rfl) ?_
      refine aw_aload_n 60 dX4_readCue_59 rfl rfl ?_
      refine aw_get 63 ci4 1 (by decide) q2032 (Or.inl rfl) (rdl (mh_obj _ _)) rfl dX4_readCue_60 rfl ?_
      refine aw_iload_n 64 dX4_readCue_63 rfl rfl ?_
      refine aw_iconst 65 dX4_readCue_64 rfl ?_
      refine aw_iadd 66 dX4_readCue_65 rfl ?_
      refine aw_aload_n 67 dX4_readCue_66 rfl rfl ?_
      refine aw_iconst 68 dX4_readCue_67 rfl ?_
      refine aw_sipush 71 dX4_readCue_68 rfl (by decide) ?_
      refine aw_aload_n 72 dX4_readCue_71 rfl rfl ?_
      refine aw_get 75 ci4 1 (by decide) q2032 (Or.inl rfl) (rdl (mh_obj _ _)) rfl dX4_readCue_72 rfl ?_
      refine aw_iload_n 76 dX4_readCue_75 rfl rfl ?_
      refine aw_iald 77 (rdl (mh_1 hC _)) (by omega) dX4_readCue_76 rfl (by decide) ?_
      refine aw_isub 78 dX4_readCue_77 rfl ?_
      refine aw_xV 81 (m_readValue hC (c_2 σ) _ _ r2 (by decide) (by omega)) mvX4_readValue q2239 (rdl (mh_obj _ _)) rfl rfl rfl (by decide) (by decide) (Nat.le_refl _) (Nat.le_refl _) rfl (Nat.le_of_ble_eq_true rfl) dX4_readCue_78 rfl ?_
      refine aw_h (show _ = mh C (c_q σ).1 from rfl) ?_
      refine aw_iast 82 (mh_1 hC _) (by omega) dX4_readCue_81 rfl (by decide) ?_
      refine aw_h (mhs_1 hC _ _) ?_
      refine aw_h (show _ = mh C (c_3 σ) from rfl) ?_
      refine aw_aload_n 83 dX4_readCue_82 rfl rfl ?_
      refine aw_get 86 ci4 1 (by decide) q2032 (Or.inl rfl) (rdl (mh_obj _ _)) rfl dX4_readCue_83 rfl ?_
      refine aw_iload_n 87 dX4_readCue_86 rfl rfl ?_
      refine aw_iconst 88 dX4_readCue_87 rfl ?_
      refine aw_iadd 89 dX4_readCue_88 rfl ?_
      refine aw_iconst 90 dX4_readCue_89 rfl ?_
      refine aw_iast 91 (mh_1 hC _) (by omega) dX4_readCue_90 rfl (by decide) ?_
      refine aw_h (mhs_1 hC _ _) ?_
      refine aw_h (show _ = mh C (c_4 σ) from rfl) ?_
      refine aw_aload_n 92 dX4_readCue_91 rfl rfl ?_
      refine aw_iload_n 93 dX4_readCue_92 rfl rfl ?_
      refine aw_xVv 96 (m_readTarget hC (c_4 σ) _ r4 hb (by rw [e4]; decide)) mvX4_readTarget q2247 (rdl (mh_obj _ _)) rfl rfl rfl (by decide) (by decide) (Nat.le_refl _) (Nat.le_refl _) rfl (Nat.le_of_ble_eq_true rfl) dX4_readCue_93 rfl ?_
      unfold k_readCue; rw [if_pos (by assumption)]; exact l_readCue hC hb (by omega) 17 _ a1 a2 (fun _ => by omega)
    · exact aw_xv (by unfold k_readCue; rw [if_neg (by assumption)]) rfl dX4_readCue_35
  · refine aw_iload_n 11 dX4_readCue_10 rfl rfl ?_
    refine aw_bipush 13 dX4_readCue_11 rfl (by decide) ?_
    refine aw_icmp_ge 20 16 (by omega) dX4_readCue_13 rfl rfl (fun c_13 => ?_) (fun c_13 => ?_)
    · refine aw_iconst 21 dX4_readCue_20 rfl ?_
      exact kz1 _ (by first | exact (bI_t (by first | assumption | omega | (refine ⟨?_, ?_⟩ <;> first | assumption | omega))).symm | exact (bI_f (by first | assumption | omega | (intro z; first | exact absurd z.1 (by assumption) | exact absurd z.2 (by assumption) | omega))).symm)
    · refine aw_iconst 17 dX4_readCue_16 rfl ?_
      refine aw_goto 21 dX4_readCue_17 rfl ?_
      exact kz1 _ (by first | exact (bI_t (by first | assumption | omega | (refine ⟨?_, ?_⟩ <;> first | assumption | omega))).symm | exact (bI_f (by first | assumption | omega | (intro z; first | exact absurd z.1 (by assumption) | exact absurd z.2 (by assumption) | omega))).symm)
/-! a pass -/
noncomputable def p_1 (σ : MSt) : MSt := k_goesOn (k_must (bI (σ.1 25 < 4)) σ)
noncomputable def p_a (σ : MSt) : MSt × Int := k_readValue 1 9 (p_1 σ)
noncomputable def p_b (σ : MSt) : MSt × Int := k_readValue 1 9 (p_a σ).1
noncomputable def p_c (σ : MSt) : MSt × Int := k_readValue 0 500 (p_b σ).1
def p_w (a b c : Int) (τ : MSt) : MSt := sF (sR (sR (sR τ 26 (va_up (τ.2 26) (3 * τ.1 25).toNat a)) 26 (va_up (va_up (τ.2 26) (3 * τ.1 25).toNat a) (3 * τ.1 25 + 1).toNat b)) 26 (va_up (va_up (va_up (τ.2 26) (3 * τ.1 25).toNat a) (3 * τ.1 25 + 1).toNat b) (3 * τ.1 25 + 2).toNat c)) 25 (τ.1 25 + 1)
noncomputable def k_readPass (σ : MSt) : MSt := if wl (p_c σ).1 then p_w (p_a σ).2 (p_b σ).2 (p_c σ).2 (p_c σ).1 else (p_c σ).1
theorem p_c_ok {σ : MSt} (hr : mRd σ) : mRd (p_1 σ) ∧ mRd (p_a σ).1 ∧ mRd (p_b σ).1 ∧ mRd (p_c σ).1 ∧ TM σ (p_c σ).1 ∧ (0 ≤ (p_a σ).2 ∧ (p_a σ).2 ≤ 9999) ∧ (0 ≤ (p_b σ).2 ∧ (p_b σ).2 ≤ 9999) ∧ (0 ≤ (p_c σ).2 ∧ (p_c σ).2 ≤ 9999) ∧ (wl (p_c σ).1 → wl σ ∧ σ.1 25 < 4 ∧ (p_c σ).1.1 25 = σ.1 25) := by
  have r0 := k_must_rd hr (bI (σ.1 25 < 4))
  have r1 : mRd (p_1 σ) := k_goesOn_rd r0
  obtain ⟨a1, a2, a3, a4⟩ := k_readValue_ok r1 1 9
  obtain ⟨b1, b2, b3, b4⟩ := k_readValue_ok (show mRd (p_a σ).1 from a1) 1 9
  obtain ⟨c1, c2, c3, c4⟩ := k_readValue_ok (show mRd (p_b σ).1 from b1) 0 500
  have t : TM σ (p_c σ).1 := (k_must_tm _ σ).tr ((k_goesOn_tm r0).tr (a2.tr (b2.tr c2)))
  refine ⟨r1, a1, b1, c1, t, a3, b3, c3, fun hw => ?_⟩
  have q1 : wl (p_1 σ) := (a4 (b4 (c4 hw).1).1).1
  have q2 : wl (k_must (bI (σ.1 25 < 4)) σ) := (k_goesOn_w r0).symm.trans q1
  obtain ⟨q3, q4⟩ := (k_must_w hr _).mp q2
  refine ⟨q3, ?_, t.2.1 25 (by decide)⟩
  rcases Classical.em (σ.1 25 < 4) with z | z
  · exact z
  · exact absurd (bI_f z) q4
theorem k_readPass_rd {σ : MSt} (hr : mRd σ) : mRd (k_readPass σ) := by
  obtain ⟨-, -, -, r, t, a, b, c, h⟩ := p_c_ok hr
  unfold k_readPass
  split
  · next hw =>
    obtain ⟨-, q5, q6⟩ := h hw
    have h25 := hr.2.2.2.1
    unfold p_w
    refine mRd_F25 (mRd_R26 (mRd_R26 (mRd_R26 r _ _ (by omega)) _ _ (by omega)) _ _ (by omega)) _ (by omega)
  · exact r
theorem m_readPass {l : Launch} {g : AG} {C : MCx} (hC : MOK C) (σ : MSt)  (hr : mRd σ): AMx l g miX4_readPass 16 [.ref C.1] (mh C σ) (none) (mh C (k_readPass σ)) := by
  refine aw_start 3 (by decide) rfl (Nat.le_of_ble_eq_true rfl) ?_
  show AWc l g miX4_readPass 16 0 0 _ _ 0 0 (mh C σ) 0 [some (.ref C.1), none, none, none] []
  obtain ⟨r1, ra, rb, rc, t, va, vb, vc, h⟩ := p_c_ok hr
  have h25 := hr.2.2.2.1
  have r0 := k_must_rd hr (bI (σ.1 25 < 4))
  refine aw_aload_n 1 dX4_readPass_0 rfl rfl ?_
  refine aw_join (bI (σ.1 25 < 4)) 14 ?_ (fun kz1 => ?_)
  · refine aw_xVv 17 (m_must hC σ _ (bI_Rg _) hr.w) mvX4_must q2223 (rdl (mh_obj _ _)) rfl rfl rfl (by decide) (by decide) (Nat.le_refl _) (Nat.le_refl _) rfl (Nat.le_of_ble_eq_true rfl) dX4_readPass_14 rfl ?_
    refine aw_aload_n 18 dX4_readPass_17 rfl rfl ?_
    refine aw_xVv 21 (m_goesOn hC _ r0.tx r0.w) mvX4_goesOn q2227 (rdl (mh_obj _ _)) rfl rfl rfl (by decide) (by decide) (Nat.le_refl _) (Nat.le_refl _) rfl (Nat.le_of_ble_eq_true rfl) dX4_readPass_18 rfl ?_
    refine aw_h (show _ = mh C (p_1 σ) from rfl) ?_
    refine aw_aload_n 22 dX4_readPass_21 rfl rfl ?_
    refine aw_iconst 23 dX4_readPass_22 rfl ?_
    refine aw_bipush 25 dX4_readPass_23 rfl (by decide) ?_
    refine aw_xV 28 (m_readValue hC (p_1 σ) _ _ r1 (by decide) (by decide)) mvX4_readValue q2239 (rdl (mh_obj _ _)) rfl rfl rfl (by decide) (by decide) (Nat.le_refl _) (Nat.le_refl _) rfl (Nat.le_of_ble_eq_true rfl) dX4_readPass_25 rfl ?_
    refine aw_h (show _ = mh C (p_a σ).1 from rfl) ?_
    refine aw_istore_n 29 dX4_readPass_28 rfl (as_1 rfl) (by decide) ?_
    refine aw_aload_n 30 dX4_readPass_29 rfl rfl ?_
    refine aw_iconst 31 dX4_readPass_30 rfl ?_
    refine aw_bipush 33 dX4_readPass_31 rfl (by decide) ?_
    refine aw_xV 36 (m_readValue hC (p_a σ).1 _ _ ra (by decide) (by decide)) mvX4_readValue q2239 (rdl (mh_obj _ _)) rfl rfl rfl (by decide) (by decide) (Nat.le_refl _) (Nat.le_refl _) rfl (Nat.le_of_ble_eq_true rfl) dX4_readPass_33 rfl ?_
    refine aw_h (show _ = mh C (p_b σ).1 from rfl) ?_
    refine aw_istore_n 37 dX4_readPass_36 rfl (as_2 rfl) (by decide) ?_
    refine aw_aload_n 38 dX4_readPass_37 rfl rfl ?_
    refine aw_iconst 39 dX4_readPass_38 rfl ?_
    refine aw_sipush 42 dX4_readPass_39 rfl (by decide) ?_
    refine aw_xV 45 (m_readValue hC (p_b σ).1 _ _ rb (by decide) (by decide)) mvX4_readValue q2239 (rdl (mh_obj _ _)) rfl rfl rfl (by decide) (by decide) (Nat.le_refl _) (Nat.le_refl _) rfl (Nat.le_of_ble_eq_true rfl) dX4_readPass_42 rfl ?_
    refine aw_h (show _ = mh C (p_c σ).1 from rfl) ?_
    refine aw_istore_n 46 dX4_readPass_45 rfl (as_3 rfl) (by decide) ?_
    refine aw_aload_n 47 dX4_readPass_46 rfl rfl ?_
    refine aw_xV 50 (m_isWell hC (p_c σ).1 rc.w) mvX4_isWell q2200 (rdl (mh_obj _ _)) rfl rfl rfl (by decide) (by decide) (Nat.le_refl _) (Nat.le_refl _) rfl (Nat.le_of_ble_eq_true rfl) dX4_readPass_47 rfl ?_
    refine aw_if_neB 54 53 dX4_readPass_50 rfl rfl (fun c_50 => ?_) (fun c_50 => ?_)
    · obtain ⟨w0, q5, q6⟩ := h (by assumption)
      refine aw_aload_n 55 dX4_readPass_54 rfl rfl ?_
      refine aw_get 58 ci4 26 (by decide) q2057 (Or.inl rfl) (rdl (mh_obj _ _)) rfl dX4_readPass_55 rfl ?_
      refine aw_iconst 59 dX4_readPass_58 rfl ?_
      refine aw_aload_n 60 dX4_readPass_59 rfl rfl ?_
      refine aw_get 63 ci4 25 (by decide) q2056 (Or.inl rfl) (rdl (mh_obj _ _)) rfl dX4_readPass_60 rfl ?_
      refine aw_imul 64 dX4_readPass_63 rfl ?_
      refine aw_iload_n 65 dX4_readPass_64 rfl rfl ?_
      refine aw_iast 66 (mh_26 hC _) (by (first | omega | (simp only [sR_1]; omega))) dX4_readPass_65 rfl (by decide) ?_
      refine aw_h (mhs_26 hC _ _) ?_
      refine aw_aload_n 67 dX4_readPass_66 rfl rfl ?_
      refine aw_get 70 ci4 26 (by decide) q2057 (Or.inl rfl) (rdl (mh_obj _ _)) rfl dX4_readPass_67 rfl ?_
      refine aw_iconst 71 dX4_readPass_70 rfl ?_
      refine aw_aload_n 72 dX4_readPass_71 rfl rfl ?_
      refine aw_get 75 ci4 25 (by decide) q2056 (Or.inl rfl) (rdl (mh_obj _ _)) rfl dX4_readPass_72 rfl ?_
      refine aw_imul 76 dX4_readPass_75 rfl ?_
      refine aw_iconst 77 dX4_readPass_76 rfl ?_
      refine aw_iadd 78 dX4_readPass_77 rfl ?_
      refine aw_iload_n 79 dX4_readPass_78 rfl rfl ?_
      refine aw_iast 80 (mh_26 hC _) (by (first | omega | (simp only [sR_1]; omega))) dX4_readPass_79 rfl (by decide) ?_
      refine aw_h (mhs_26 hC _ _) ?_
      refine aw_aload_n 81 dX4_readPass_80 rfl rfl ?_
      refine aw_get 84 ci4 26 (by decide) q2057 (Or.inl rfl) (rdl (mh_obj _ _)) rfl dX4_readPass_81 rfl ?_
      refine aw_iconst 85 dX4_readPass_84 rfl ?_
      refine aw_aload_n 86 dX4_readPass_85 rfl rfl ?_
      refine aw_get 89 ci4 25 (by decide) q2056 (Or.inl rfl) (rdl (mh_obj _ _)) rfl dX4_readPass_86 rfl ?_
      refine aw_imul 90 dX4_readPass_89 rfl ?_
      refine aw_iconst 91 dX4_readPass_90 rfl ?_
      refine aw_iadd 92 dX4_readPass_91 rfl ?_
      refine aw_iload_n 93 dX4_readPass_92 rfl rfl ?_
      refine aw_iast 94 (mh_26 hC _) (by (first | omega | (simp only [sR_1]; omega))) dX4_readPass_93 rfl (by decide) ?_
      refine aw_h (mhs_26 hC _ _) ?_
      refine aw_aload_n 95 dX4_readPass_94 rfl rfl ?_
      refine aw_dup 96 dX4_readPass_95 rfl rfl ?_
      refine aw_get 99 ci4 25 (by decide) q2056 (Or.inl rfl) (rdl (mh_obj _ _)) rfl dX4_readPass_96 rfl ?_
      refine aw_iconst 100 dX4_readPass_99 rfl ?_
      refine aw_iadd 101 dX4_readPass_100 rfl ?_
      refine aw_put 104 ci4 25 (by decide) q2056 (Or.inl rfl) rfl rfl rfl (Nat.le_of_ble_eq_true rfl) (mh_obj _ _) dX4_readPass_101 rfl ?_
      refine aw_h (mhp_25 _ _ _) ?_
      exact aw_xv (by unfold k_readPass; rw [if_pos (by assumption)]; rfl) rfl dX4_readPass_104
    · exact aw_xv (by unfold k_readPass; rw [if_neg (by assumption)]) rfl dX4_readPass_53
  · refine aw_aload_n 2 dX4_readPass_1 rfl rfl ?_
    refine aw_get 5 ci4 25 (by decide) q2056 (Or.inl rfl) (rdl (mh_obj _ _)) rfl dX4_readPass_2 rfl ?_
    refine aw_iconst 6 dX4_readPass_5 rfl ?_
    refine aw_icmp_ge 13 9 (by (first | omega | (simp only [sR_1]; omega))) dX4_readPass_6 rfl rfl (fun c_6 => ?_) (fun c_6 => ?_)
    · refine aw_iconst 14 dX4_readPass_13 rfl ?_
      exact kz1 _ (by first | exact (bI_t (by first | assumption | omega | (refine ⟨?_, ?_⟩ <;> first | assumption | omega))).symm | exact (bI_f (by first | assumption | omega | (intro z; first | exact absurd z.1 (by assumption) | exact absurd z.2 (by assumption) | omega))).symm)
    · refine aw_iconst 10 dX4_readPass_9 rfl ?_
      refine aw_goto 14 dX4_readPass_10 rfl ?_
      exact kz1 _ (by first | exact (bI_t (by first | assumption | omega | (refine ⟨?_, ?_⟩ <;> first | assumption | omega))).symm | exact (bI_f (by first | assumption | omega | (intro z; first | exact absurd z.1 (by assumption) | exact absurd z.2 (by assumption) | omega))).symm)
