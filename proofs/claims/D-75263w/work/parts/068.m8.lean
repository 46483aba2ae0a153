/-! CameraMovesModel: cues, walls, passes -/
set_option maxRecDepth 100000
/-- the bit a of s; s with it; s without it -/
def hb (s a : Int) : Int := ((Int32.ofInt s >>> (Int32.ofInt a &&& 31)) &&& 1).toInt
def ob (s a : Int) : Int := (Int32.ofInt s ||| ((1 : Int32) <<< (Int32.ofInt a &&& 31))).toInt
def cb (s a : Int) : Int := (Int32.ofInt s &&& (((1 : Int32) <<< (Int32.ofInt a &&& 31)) ^^^ (-1))).toInt
theorem hb_all : ∀ s : Fin 16, ∀ a : Fin 4, (hb s.val a.val = 0 ∨ hb s.val a.val = 1) ∧ 0 ≤ ob s.val a.val ∧ ob s.val a.val ≤ 15 ∧ 0 ≤ cb s.val a.val ∧ cb s.val a.val ≤ 15 ∧ hb (ob s.val a.val) a.val = 1 ∧ hb (cb s.val a.val) a.val = 0 ∧ ∀ b : Fin 4, b ≠ a → hb (ob s.val a.val) b.val = hb s.val b.val ∧ hb (cb s.val a.val) b.val = hb s.val b.val := by decide +kernel
theorem hb_f {s a : Int} (hs : 0 ≤ s ∧ s ≤ 15) (ha : 0 ≤ a ∧ a < 4) : (hb s a = 0 ∨ hb s a = 1) ∧ 0 ≤ ob s a ∧ ob s a ≤ 15 ∧ 0 ≤ cb s a ∧ cb s a ≤ 15 ∧ hb (ob s a) a = 1 ∧ hb (cb s a) a = 0 ∧ ∀ b : Int, 0 ≤ b → b < 4 → b ≠ a → hb (ob s a) b = hb s b ∧ hb (cb s a) b = hb s b := by
  obtain ⟨n, rfl⟩ := Int.eq_ofNat_of_zero_le hs.1
  obtain ⟨m, rfl⟩ := Int.eq_ofNat_of_zero_le ha.1
  obtain ⟨h1, h2, h3, h4, h5, h6, h7, h8⟩ := hb_all ⟨n, by omega⟩ ⟨m, by omega⟩
  refine ⟨h1, h2, h3, h4, h5, h6, h7, fun b b0 b4 bn => ?_⟩
  obtain ⟨k, rfl⟩ := Int.eq_ofNat_of_zero_le b0
  exact h8 ⟨k, by omega⟩ (fun z => bn (by simpa using congrArg (fun x : Fin 4 => (x.val : Int)) z))
theorem ob_gtA : ∀ s : Fin 16, ∀ a : Fin 4, hb s.val a.val = 0 → (s.val : Int) < ob s.val a.val := by decide +kernel
theorem ob_gt {s a : Int} (hs : 0 ≤ s ∧ s ≤ 15) (ha : 0 ≤ a ∧ a < 4) (h : hb s a = 0) : s < ob s a := by
  obtain ⟨n, rfl⟩ := Int.eq_ofNat_of_zero_le hs.1
  obtain ⟨m, rfl⟩ := Int.eq_ofNat_of_zero_le ha.1
  exact ob_gtA ⟨n, by omega⟩ ⟨m, by omega⟩ h
theorem hb_e (s a : Int) : Int32.ofInt (Int32.ofInt s >>> (Int32.ofInt a &&& 31)).toInt &&& Int32.ofInt 1 = Int32.ofInt (hb s a) := by
  rw [← i_of]
  exact i_of _
theorem ob_e (s a : Int) : Int32.ofInt s ||| Int32.ofInt (Int32.ofInt 1 <<< (Int32.ofInt a &&& 31)).toInt = Int32.ofInt (ob s a) := by
  rw [← i_of]
  exact i_of _
/-! a target -/
def t_ok (b : Int) (σ : MSt) : Prop := k_axisHere σ ≠ -1 ∧ hb (σ.2 1 (b + 2).toNat) (k_axisHere σ) = 0
noncomputable def t_1 (b : Int) (σ : MSt) : MSt := k_goesOn (k_must (bI (t_ok b σ)) σ)
noncomputable def t_p (b : Int) (σ : MSt) : MSt × Int := k_readSigned (σ.2 24 (3 * k_axisHere σ).toNat) (σ.2 24 (3 * k_axisHere σ + 1).toNat) (t_1 b σ)
def t_w (b a v : Int) (τ : MSt) : MSt := sR (sR τ 1 (va_up (τ.2 1) (b + 2).toNat (ob (τ.2 1 (b + 2).toNat) a))) 1 (va_up (va_up (τ.2 1) (b + 2).toNat (ob (τ.2 1 (b + 2).toNat) a)) (b + 3 + a).toNat v)
noncomputable def k_readTarget (b : Int) (σ : MSt) : MSt := if wl (t_1 b σ) then (if wl (t_p b σ).1 then t_w b (k_axisHere σ) (t_p b σ).2 (t_p b σ).1 else (t_p b σ).1) else t_1 b σ
/-- a cue's place in the trial's row -/
def bOk (b : Int) : Prop := 195 ≤ b ∧ b ≤ 328
theorem t_1_ok {σ : MSt} (hr : mRd σ) (b : Int) : mRd (t_1 b σ) ∧ TM σ (t_1 b σ) ∧ (wl (t_1 b σ) → wl σ ∧ t_ok b σ ∧ 0 ≤ k_axisHere σ ∧ k_axisHere σ < σ.1 22 ∧ k_axisHere σ < 4) := by
  have r0 := k_must_rd hr (bI (t_ok b σ))
  refine ⟨k_goesOn_rd r0, (k_must_tm _ σ).tr (k_goesOn_tm r0), fun hw => ?_⟩
  have q2 : wl (k_must (bI (t_ok b σ)) σ) := (k_goesOn_w r0).symm.trans hw
  obtain ⟨q3, q4⟩ := (k_must_w hr _).mp q2
  have q5 : t_ok b σ := by
    rcases Classical.em (t_ok b σ) with z | z
    · exact z
    · exact absurd (bI_f z) q4
  have g := k_axisHere_rg σ
  have h22 := hr.2.2.1
  have q6 := q5.1
  exact ⟨q3, q5, by omega, by omega, by omega⟩
theorem t_p_ok {σ : MSt} (hr : mRd σ) (b : Int) : mRd (t_p b σ).1 ∧ TM σ (t_p b σ).1 ∧ (-9999 ≤ (t_p b σ).2 ∧ (t_p b σ).2 ≤ 9999) := by
  obtain ⟨r1, t1, -⟩ := t_1_ok hr b
  obtain ⟨a1, a2, a3, -⟩ := k_readSigned_ok r1 (σ.2 24 (3 * k_axisHere σ).toNat) (σ.2 24 (3 * k_axisHere σ + 1).toNat)
  exact ⟨a1, t1.tr a2, a3⟩
/-- a target keeps the reader well, and the row but for this cue's bits and targets -/
theorem k_readTarget_ok {σ : MSt} (hr : mRd σ) {b : Int} (hb : bOk b) (hs : 0 ≤ σ.2 1 (b + 2).toNat ∧ σ.2 1 (b + 2).toNat ≤ 15) : mRd (k_readTarget b σ) ∧ (0 ≤ (k_readTarget b σ).2 1 (b + 2).toNat ∧ (k_readTarget b σ).2 1 (b + 2).toNat ≤ 15) ∧ (∀ j : Nat, ((j : Int) < b + 2 ∨ b + 7 ≤ j) → (k_readTarget b σ).2 1 j = σ.2 1 j) ∧ (∀ k, k ≠ 1 → (k_readTarget b σ).2 k = σ.2 k) ∧ (∀ j, j < 16 ∨ 21 < j → (k_readTarget b σ).1 j = σ.1 j) ∧ NX σ (k_readTarget b σ) ∧ (wl (k_readTarget b σ) → wl σ ∧ σ.2 1 (b + 2).toNat < (k_readTarget b σ).2 1 (b + 2).toNat) := by
  obtain ⟨r1, t1, hw⟩ := t_1_ok hr b
  obtain ⟨p1, p2, p3⟩ := t_p_ok hr b
  have hb1 := hb.1
  have hb2 := hb.2
  unfold k_readTarget
  split
  · next h1 =>
    obtain ⟨w0, q, a0, -, a4⟩ := hw h1
    split
    · next h2 =>
      have e1 : (t_p b σ).1.2 1 = σ.2 1 := congrFun p2.1 1
      have f := hb_f hs ⟨a0, a4⟩
      unfold t_w
      rw [e1]
      refine ⟨?_, ?_, ?_, ?_, ?_, p2.2.2, fun _ => ⟨w0, ?_⟩⟩
      · have z1 := mRd_R1 p1 (b + 2).toNat (ob (σ.2 1 (b + 2).toNat) (k_axisHere σ)) (by omega) (fun z => by omega) (fun z => by omega)
        rw [e1] at z1
        have z2 := mRd_R1 z1 (b + 3 + k_axisHere σ).toNat (t_p b σ).2 (by omega) (fun z => by omega) (fun z => by omega)
        exact z2
      · show 0 ≤ va_up (va_up (σ.2 1) _ _) _ _ (b + 2).toNat ∧ va_up (va_up (σ.2 1) _ _) _ _ (b + 2).toNat ≤ 15
        rw [va_up_at, if_neg (by omega), va_up_at, if_pos rfl]
        omega
      · intro j hj
        show va_up (va_up (σ.2 1) _ _) _ _ j = _
        rw [va_up_at, if_neg (by omega), va_up_at, if_neg (by omega)]
      · intro k hk
        show (if k = 1 then _ else if k = 1 then _ else (t_p b σ).1.2 k) = _
        rw [if_neg hk, if_neg hk]
        exact congrFun p2.1 k
      · intro j hj
        exact p2.2.1 j hj
      · show _ < va_up (va_up (σ.2 1) _ _) _ _ (b + 2).toNat
        rw [va_up_at, if_neg (by omega), va_up_at, if_pos rfl]
        exact ob_gt hs ⟨a0, a4⟩ q.2
    · next h2 =>
      refine ⟨p1, ?_, ?_, ?_, p2.2.1, p2.2.2, fun z => absurd z h2⟩
      · rw [p2.1]; exact hs
      · intro j _
        rw [p2.1]
      · intro k _
        rw [p2.1]
  · next h1 =>
    refine ⟨r1, ?_, ?_, ?_, t1.2.1, t1.2.2, fun z => absurd z h1⟩
    · rw [t1.1]; exact hs
    · intro j _
      rw [t1.1]
    · intro k _
      rw [t1.1]
theorem m_readTarget {l : Launch} {g : AG} {C : MCx} (hC : MOK C) (σ : MSt) (b : Int) (hr : mRd σ) (hbb : bOk b) (hs : 0 ≤ σ.2 1 (b + 2).toNat ∧ σ.2 1 (b + 2).toNat ≤ 15): AMx l g miX4_readTarget 16 [.ref C.1, iv b] (mh C σ) (none) (mh C (k_readTarget b σ)) := by
  refine aw_start 2 (by decide) rfl (Nat.le_of_ble_eq_true rfl) ?_
  show AWc l g miX4_readTarget 16 0 0 _ _ 0 0 (mh C σ) 0 [some (.ref C.1), some (iv b), none, none] []
  obtain ⟨r1, t1, hw⟩ := t_1_ok hr b
  obtain ⟨p1, p2, p3⟩ := t_p_ok hr b
  have hb1 := hbb.1
  have hb2 := hbb.2
  have g := k_axisHere_rg σ
  have h22 := hr.2.2.1
  have r0 := k_must_rd hr (bI (t_ok b σ))
  refine aw_aload_n 1 dX4_readTarget_0 rfl rfl ?_
  refine aw_xV 4 (m_axisHere hC σ hr) mvX4_axisHere q2231 (rdl (mh_obj _ _)) rfl rfl rfl (by decide) (by decide) (Nat.le_refl _) (Nat.le_refl _) rfl (Nat.le_of_ble_eq_true rfl) dX4_readTarget_1 rfl ?_
  refine aw_istore_n 5 dX4_readTarget_4 rfl (as_2 rfl) (by decide) ?_
  refine aw_aload_n 6 dX4_readTarget_5 rfl rfl ?_
  refine aw_join (bI (t_ok b σ)) 31 ?_ (fun kz1 => ?_)
  · refine aw_xVv 34 (m_must hC σ _ (bI_Rg _) hr.w) mvX4_must q2223 (rdl (mh_obj _ _)) rfl rfl rfl (by decide) (by decide) (Nat.le_refl _) (Nat.le_refl _) rfl (Nat.le_of_ble_eq_true rfl) dX4_readTarget_31 rfl ?_
    refine aw_aload_n 35 dX4_readTarget_34 rfl rfl ?_
    refine aw_xVv 38 (m_goesOn hC _ r0.tx r0.w) mvX4_goesOn q2227 (rdl (mh_obj _ _)) rfl rfl rfl (by decide) (by decide) (Nat.le_refl _) (Nat.le_refl _) rfl (Nat.le_of_ble_eq_true rfl) dX4_readTarget_35 rfl ?_
    refine aw_h (show _ = mh C (t_1 b σ) from rfl) ?_
    refine aw_aload_n 39 dX4_readTarget_38 rfl rfl ?_
    refine aw_xV 42 (m_isWell hC (t_1 b σ) r1.w) mvX4_isWell q2200 (rdl (mh_obj _ _)) rfl rfl rfl (by decide) (by decide) (Nat.le_refl _) (Nat.le_refl _) rfl (Nat.le_of_ble_eq_true rfl) dX4_readTarget_39 rfl ?_
    refine aw_if_neB 46 45 dX4_readTarget_42 rfl rfl (fun c_42 => ?_) (fun c_42 => ?_)
    · obtain ⟨w1, q, a0, a5, a4⟩ := hw (by assumption); have f := hb_f hs ⟨a0, a4⟩; have e24 : (t_1 b σ).2 24 = σ.2 24 := congrFun t1.1 24; have e1 : (t_p b σ).1.2 1 = σ.2 1 := congrFun p2.1 1
      refine aw_aload_n 47 dX4_readTarget_46 rfl rfl ?_
      refine aw_aload_n 48 dX4_readTarget_47 rfl rfl ?_
      refine aw_get 51 ci4 24 (by decide) q2055 (Or.inl rfl) (rdl (mh_obj _ _)) rfl dX4_readTarget_48 rfl ?_
      refine aw_iconst 52 dX4_readTarget_51 rfl ?_
      refine aw_iload_n 53 dX4_readTarget_52 rfl rfl ?_
      refine aw_imul 54 dX4_readTarget_53 rfl ?_
      refine aw_iald 55 (rdl (mh_24 hC _)) (by omega) dX4_readTarget_54 rfl (by decide) ?_
      refine aw_aload_n 56 dX4_readTarget_55 rfl rfl ?_
      refine aw_get 59 ci4 24 (by decide) q2055 (Or.inl rfl) (rdl (mh_obj _ _)) rfl dX4_readTarget_56 rfl ?_
      refine aw_iconst 60 dX4_readTarget_59 rfl ?_
      refine aw_iload_n 61 dX4_readTarget_60 rfl rfl ?_
      refine aw_imul 62 dX4_readTarget_61 rfl ?_
      refine aw_iconst 63 dX4_readTarget_62 rfl ?_
      refine aw_iadd 64 dX4_readTarget_63 rfl ?_
      refine aw_iald 65 (rdl (mh_24 hC _)) (by omega) dX4_readTarget_64 rfl (by decide) ?_
      refine aw_xV 68 (m_readSigned hC (t_1 b σ) _ _ r1 (r1.2.2.2.2.2.2.2.1 _) (r1.2.2.2.2.2.2.2.1 _)) mvX4_readSigned q2235 (rdl (mh_obj _ _)) rfl rfl rfl (by decide) (by decide) (Nat.le_refl _) (Nat.le_refl _) rfl (Nat.le_of_ble_eq_true rfl) dX4_readTarget_65 rfl ?_
      refine aw_h (show mh C (k_readSigned ((t_1 b σ).2 24 (3 * k_axisHere σ).toNat) ((t_1 b σ).2 24 (3 * k_axisHere σ + 1).toNat) (t_1 b σ)).1 = mh C (t_p b σ).1 by rw [e24]; rfl) ?_; refine aw_st (st' := [iv (t_p b σ).2]) (by rw [e24]; rfl) ?_
      refine aw_istore_n 69 dX4_readTarget_68 rfl (as_3 rfl) (by decide) ?_
      refine aw_aload_n 70 dX4_readTarget_69 rfl rfl ?_
      refine aw_xV 73 (m_isWell hC (t_p b σ).1 p1.w) mvX4_isWell q2200 (rdl (mh_obj _ _)) rfl rfl rfl (by decide) (by decide) (Nat.le_refl _) (Nat.le_refl _) rfl (Nat.le_of_ble_eq_true rfl) dX4_readTarget_70 rfl ?_
      refine aw_if_neB 77 76 dX4_readTarget_73 rfl rfl (fun c_73 => ?_) (fun c_73 => ?_)
      · refine aw_aload_n 78 dX4_readTarget_77 rfl rfl ?_
        refine aw_get 81 ci4 1 (by decide) q2032 (Or.inl rfl) (rdl (mh_obj _ _)) rfl dX4_readTarget_78 rfl ?_
        refine aw_iload_n 82 dX4_readTarget_81 rfl rfl ?_
        refine aw_iconst 83 dX4_readTarget_82 rfl ?_
        refine aw_iadd 84 dX4_readTarget_83 rfl ?_
        refine aw_dup2 85 dX4_readTarget_84 rfl rfl rfl ?_
        refine aw_iald 86 (rdl (mh_1 hC _)) (by omega) dX4_readTarget_85 rfl (by decide) ?_
        refine aw_iconst 87 dX4_readTarget_86 rfl ?_
        refine aw_iload_n 88 dX4_readTarget_87 rfl rfl ?_
        refine aw_ishl 89 ((1 : Int32) <<< (Int32.ofInt (k_axisHere σ) &&& 31)).toInt dX4_readTarget_88 rfl (by exact i_of _) ?_
        refine aw_ior 90 (ob ((t_p b σ).1.2 1 (b + 2).toNat) (k_axisHere σ)) dX4_readTarget_89 rfl (by exact ob_e _ _) ?_
        refine aw_iast 91 (mh_1 hC _) (by omega) dX4_readTarget_90 rfl (by decide) ?_
        refine aw_h (mhs_1 hC _ _) ?_
        refine aw_aload_n 92 dX4_readTarget_91 rfl rfl ?_
        refine aw_get 95 ci4 1 (by decide) q2032 (Or.inl rfl) (rdl (mh_obj _ _)) rfl dX4_readTarget_92 rfl ?_
        refine aw_iload_n 96 dX4_readTarget_95 rfl rfl ?_
        refine aw_iconst 97 dX4_readTarget_96 rfl ?_
        refine aw_iadd 98 dX4_readTarget_97 rfl ?_
        refine aw_iload_n 99 dX4_readTarget_98 rfl rfl ?_
        refine aw_iadd 100 dX4_readTarget_99 rfl ?_
        refine aw_iload_n 101 dX4_readTarget_100 rfl rfl ?_
        refine aw_iast 102 (mh_1 hC _) (by omega) dX4_readTarget_101 rfl (by decide) ?_
        refine aw_h (mhs_1 hC _ _) ?_
        exact aw_xv (by unfold k_readTarget; rw [if_pos (by assumption), if_pos (by assumption)]; rfl) rfl dX4_readTarget_102
      · exact aw_xv (by unfold k_readTarget; rw [if_pos (by assumption), if_neg (by assumption)]) rfl dX4_readTarget_76
    · exact aw_xv (by unfold k_readTarget; rw [if_neg (by assumption)]) rfl dX4_readTarget_45
  · refine aw_iload_n 7 dX4_readTarget_6 rfl rfl ?_
    refine aw_iconst 8 dX4_readTarget_7 rfl ?_
    refine aw_icmp_eq 30 11 (by omega) dX4_readTarget_8 rfl rfl (fun c_8 => ?_) (fun c_8 => ?_)
    · refine aw_iconst 31 dX4_readTarget_30 rfl ?_
      exact kz1 _ (by first | exact (bI_t ⟨by assumption, by assumption⟩).symm | exact (bI_f (fun z => absurd z.1 (by omega))).symm | exact (bI_f (fun z => absurd z.2 (by assumption))).symm)
    · have f := hb_f hs (show 0 ≤ k_axisHere σ ∧ k_axisHere σ < 4 by omega)
      refine aw_aload_n 12 dX4_readTarget_11 rfl rfl ?_
      refine aw_get 15 ci4 1 (by decide) q2032 (Or.inl rfl) (rdl (mh_obj _ _)) rfl dX4_readTarget_12 rfl ?_
      refine aw_iload_n 16 dX4_readTarget_15 rfl rfl ?_
      refine aw_iconst 17 dX4_readTarget_16 rfl ?_
      refine aw_iadd 18 dX4_readTarget_17 rfl ?_
      refine aw_iald 19 (rdl (mh_1 hC _)) (by omega) dX4_readTarget_18 rfl (by decide) ?_
      refine aw_iload_n 20 dX4_readTarget_19 rfl rfl ?_
      refine aw_ishr 21 (Int32.ofInt (σ.2 1 (b + 2).toNat) >>> (Int32.ofInt (k_axisHere σ) &&& 31)).toInt dX4_readTarget_20 rfl (by exact i_of _) ?_
      refine aw_iconst 22 dX4_readTarget_21 rfl ?_
      refine aw_iand 23 (hb (σ.2 1 (b + 2).toNat) (k_axisHere σ)) dX4_readTarget_22 rfl (by exact hb_e _ _) ?_
      refine aw_if_ne 30 26 (by omega) dX4_readTarget_23 rfl rfl (fun c_23 => ?_) (fun c_23 => ?_)
      · refine aw_iconst 31 dX4_readTarget_30 rfl ?_
        exact kz1 _ (by first | exact (bI_t ⟨by assumption, by assumption⟩).symm | exact (bI_f (fun z => absurd z.1 (by omega))).symm | exact (bI_f (fun z => absurd z.2 (by assumption))).symm)
      · refine aw_iconst 27 dX4_readTarget_26 rfl ?_
        refine aw_goto 31 dX4_readTarget_27 rfl ?_
        exact kz1 _ (by first | exact (bI_t ⟨by assumption, by assumption⟩).symm | exact (bI_f (fun z => absurd z.1 (by omega))).symm | exact (bI_f (fun z => absurd z.2 (by assumption))).symm)
