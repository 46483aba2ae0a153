/-! CameraMovesModel: wall, statement -/
set_option maxRecDepth 100000
noncomputable def w_1 (σ : MSt) : MSt := k_goesOn (k_must (bI (σ.2 1 335 < 6)) σ)
def w_b (σ : MSt) : Int := 336 + 6 * σ.2 1 335
def w_ok (b k : Int) (σ : MSt) : Prop := k_axisHere σ ≠ -1 ∧ (k = 0 ∨ k_axisHere σ ≠ σ.2 1 b.toNat)
noncomputable def w_2 (b k : Int) (σ : MSt) : MSt := k_goesOn (k_must (bI (w_ok b k σ)) σ)
noncomputable def w_3 (b k : Int) (σ : MSt) : MSt := sR (w_2 b k σ) 1 (va_up ((w_2 b k σ).2 1) (b + k).toNat (k_axisHere σ))
noncomputable def w_p (b k : Int) (σ : MSt) : MSt × Int := k_readSigned (-9999) 9999 (w_3 b k σ)
noncomputable def w_4 (b k : Int) (σ : MSt) : MSt := sR (w_p b k σ).1 1 (va_up ((w_p b k σ).1.2 1) (b + k + 1).toNat (w_p b k σ).2)
noncomputable def w_q (b k : Int) (σ : MSt) : MSt × Int := k_readSigned ((w_4 b k σ).2 1 (b + k + 1).toNat) 9999 (w_4 b k σ)
noncomputable def w_B (b k : Int) (σ : MSt) : MSt := sR (w_q b k σ).1 1 (va_up ((w_q b k σ).1.2 1) (b + k + 2).toNat (w_q b k σ).2)
noncomputable def w_5 (b : Int) (σ : MSt) : MSt := if wl (w_B b 0 σ) then w_B b 3 (w_B b 0 σ) else w_B b 0 σ
noncomputable def k_readWall (σ : MSt) : MSt := if wl (w_1 σ) then sR (w_5 (w_b σ) (w_1 σ)) 1 (va_up ((w_5 (w_b σ) (w_1 σ)).2 1) 335 (σ.2 1 335 + 1)) else w_1 σ
/-- a wall's place in the trial's row -/
def bOw (b : Int) : Prop := 336 ≤ b ∧ b ≤ 366
theorem w_1_ok {σ : MSt} (hr : mRd σ) : mRd (w_1 σ) ∧ TM σ (w_1 σ) ∧ (wl (w_1 σ) → wl σ ∧ σ.2 1 335 < 6 ∧ bOw (w_b σ)) := by
  have r0 := k_must_rd hr (bI (σ.2 1 335 < 6))
  refine ⟨k_goesOn_rd r0, (k_must_tm _ σ).tr (k_goesOn_tm r0), fun hw => ?_⟩
  have q2 : wl (k_must (bI (σ.2 1 335 < 6)) σ) := (k_goesOn_w r0).symm.trans hw
  obtain ⟨q3, q4⟩ := (k_must_w hr _).mp q2
  have q5 : σ.2 1 335 < 6 := by
    rcases Classical.em (σ.2 1 335 < 6) with z | z
    · exact z
    · exact absurd (bI_f z) q4
  have h0 := hr.2.2.2.2.2.1.2
  exact ⟨q3, q5, by unfold bOw w_b; omega⟩
theorem w_B_ok {σ : MSt} (hr : mRd σ) {b k : Int} (hb : bOw b) (hk : k = 0 ∨ k = 3) : mRd (w_2 b k σ) ∧ mRd (w_3 b k σ) ∧ mRd (w_p b k σ).1 ∧ (-9999 ≤ (w_p b k σ).2 ∧ (w_p b k σ).2 ≤ 9999) ∧ mRd (w_4 b k σ) ∧ mRd (w_q b k σ).1 ∧ (-9999 ≤ (w_q b k σ).2 ∧ (w_q b k σ).2 ≤ 9999) ∧ mRd (w_B b k σ) ∧ NX σ (w_B b k σ) ∧ (wl (w_B b k σ) → wl σ ∧ w_ok b k σ) := by
  have r0 := k_must_rd hr (bI (w_ok b k σ))
  have r2 : mRd (w_2 b k σ) := k_goesOn_rd r0
  have g := k_axisHere_rg σ
  have h22 := hr.2.2.1
  have hb1 := hb.1
  have hb2 := hb.2
  have r3 : mRd (w_3 b k σ) := mRd_R1 r2 _ _ (by omega) (fun z => by omega) (fun z => by omega)
  obtain ⟨p1, p2, p3, p4⟩ := k_readSigned_ok r3 (-9999) 9999
  have p3 : -9999 ≤ (w_p b k σ).2 ∧ (w_p b k σ).2 ≤ 9999 := p3
  have r4 : mRd (w_4 b k σ) := mRd_R1 p1 _ _ (by omega) (fun z => by omega) (fun z => by omega)
  obtain ⟨q1, q2, q3, q4⟩ := k_readSigned_ok r4 ((w_4 b k σ).2 1 (b + k + 1).toNat) 9999
  have q3 : -9999 ≤ (w_q b k σ).2 ∧ (w_q b k σ).2 ≤ 9999 := q3
  have rB : mRd (w_B b k σ) := mRd_R1 q1 _ _ (by omega) (fun z => by omega) (fun z => by omega)
  refine ⟨r2, r3, p1, p3, r4, q1, q3, rB, ((k_must_tm _ σ).2.2.tr (k_goesOn_tm r0).2.2).tr (NX.tr (show NX (w_3 b k σ) (w_4 b k σ) from p2.2.2) (show NX (w_4 b k σ) (w_B b k σ) from q2.2.2)), fun hw => ?_⟩
  have z1 : wl (w_4 b k σ) := (q4 hw).1
  have z2 : wl (w_3 b k σ) := (p4 z1).1
  have z3 : wl (k_must (bI (w_ok b k σ)) σ) := (k_goesOn_w r0).symm.trans z2
  obtain ⟨q5, q6⟩ := (k_must_w hr _).mp z3
  refine ⟨q5, ?_⟩
  rcases Classical.em (w_ok b k σ) with z | z
  · exact z
  · exact absurd (bI_f z) q6
theorem k_readWall_rd {σ : MSt} (hr : mRd σ) : mRd (k_readWall σ) := by
  obtain ⟨r1, -, h⟩ := w_1_ok hr
  unfold k_readWall
  split
  · next hw =>
    obtain ⟨-, q5, hb⟩ := h hw
    have h0 := hr.2.2.2.2.2.1.2
    obtain ⟨-, -, -, -, -, -, -, rB, -⟩ := w_B_ok r1 hb (Or.inl rfl)
    obtain ⟨-, -, -, -, -, -, -, rC, -⟩ := w_B_ok rB hb (Or.inr rfl)
    have r5 : mRd (w_5 (w_b σ) (w_1 σ)) := by
      unfold w_5
      split
      · exact rC
      · exact rB
    exact mRd_R1 r5 _ _ (by omega) (fun z => by omega) (fun z => by omega)
  · exact r1
theorem l_readWall {l : Launch} {g : AG} {C : MCx} (hC : MOK C) {R : Option Value} {H1 : AH} {b q k : Int} (hb : bOw b) (hk : k = 0 ∨ k = 3) (σ : MSt) (hr : mRd σ) (hw : wl σ) (kk : AWc l g miX4_readWall 17 0 0 (fun r2 h2 => r2 = R ∧ h2 = H1) (fun _ _ _ => False) 0 0 (mh C (w_B b k σ)) 47 [some (.ref C.1), some (iv q), some (iv b), some (iv (k + 3)), some (iv (k_axisHere σ))] []) (o : Option Value) : AWc l g miX4_readWall 17 0 0 (fun r2 h2 => r2 = R ∧ h2 = H1) (fun _ _ _ => False) 0 0 (mh C σ) 47 [some (.ref C.1), some (iv q), some (iv b), some (iv k), o] [] := by
  obtain ⟨r2, r3, rp, p3, r4, rq, q3, rB, -⟩ := w_B_ok hr hb hk
  have g := k_axisHere_rg σ
  have h22 := hr.2.2.1
  have hb1 := hb.1
  have hb2 := hb.2
  have r0 := k_must_rd hr (bI (w_ok b k σ))
  have hb0 := hr.2.2.2.2.2.2.1 b.toNat
  have h4 := r4.2.2.2.2.2.2.1 (b + k + 1).toNat
  refine aw_iload_n 48 dX4_readWall_47 rfl rfl ?_
  refine aw_bipush 50 dX4_readWall_48 rfl (by decide) ?_
  refine aw_icmp_ge 163 53 (by omega) dX4_readWall_50 rfl rfl (fun c_50 => absurd c_50 (by omega)) (fun c_50 => ?_)
  refine aw_aload_n 54 dX4_readWall_53 rfl rfl ?_
  refine aw_xV 57 (m_isWell hC σ hr.w) mvX4_isWell q2200 (rdl (mh_obj _ _)) rfl rfl rfl (by decide) (by decide) (Nat.le_refl _) (Nat.le_refl _) rfl (Nat.le_of_ble_eq_true rfl) dX4_readWall_54 rfl ?_
  refine aw_if_eqB 163 60 dX4_readWall_57 rfl rfl (fun c_57 => (absurd hw c_57)) (fun c_57 => ?_)
  refine aw_aload_n 61 dX4_readWall_60 rfl rfl ?_
  refine aw_xV 64 (m_axisHere hC σ hr) mvX4_axisHere q2231 (rdl (mh_obj _ _)) rfl rfl rfl (by decide) (by decide) (Nat.le_refl _) (Nat.le_refl _) rfl (Nat.le_of_ble_eq_true rfl) dX4_readWall_61 rfl ?_
  refine aw_istore 66 dX4_readWall_64 rfl (as_4 rfl) (by decide) ?_
  refine aw_aload_n 67 dX4_readWall_66 rfl rfl ?_
  refine aw_join (bI (w_ok b k σ)) 93 ?_ (fun kz1 => ?_)
  · refine aw_xVv 96 (m_must hC σ _ (bI_Rg _) hr.w) mvX4_must q2223 (rdl (mh_obj _ _)) rfl rfl rfl (by decide) (by decide) (Nat.le_refl _) (Nat.le_refl _) rfl (Nat.le_of_ble_eq_true rfl) dX4_readWall_93 rfl ?_
    refine aw_aload_n 97 dX4_readWall_96 rfl rfl ?_
    refine aw_xVv 100 (m_goesOn hC _ r0.tx r0.w) mvX4_goesOn q2227 (rdl (mh_obj _ _)) rfl rfl rfl (by decide) (by decide) (Nat.le_refl _) (Nat.le_refl _) rfl (Nat.le_of_ble_eq_true rfl) dX4_readWall_97 rfl ?_
    refine aw_h (show _ = mh C (w_2 b k σ) from rfl) ?_
    refine aw_aload_n 101 dX4_readWall_100 rfl rfl ?_
    refine aw_get 104 ci4 1 (by decide) q2032 (Or.inl rfl) (rdl (mh_obj _ _)) rfl dX4_readWall_101 rfl ?_
    refine aw_iload_n 105 dX4_readWall_104 rfl rfl ?_
    refine aw_iload_n 106 dX4_readWall_105 rfl rfl ?_
    refine aw_iadd 107 dX4_readWall_106 rfl ?_
    refine aw_iload 109 dX4_readWall_107 rfl rfl ?_
    refine aw_iast 110 (mh_1 hC _) (by omega) dX4_readWall_109 rfl (by decide) ?_
    refine aw_h (mhs_1 hC _ _) ?_
    refine aw_h (show _ = mh C (w_3 b k σ) from rfl) ?_
    refine aw_aload_n 111 dX4_readWall_110 rfl rfl ?_
    refine aw_get 114 ci4 1 (by decide) q2032 (Or.inl rfl) (rdl (mh_obj _ _)) rfl dX4_readWall_111 rfl ?_
    refine aw_iload_n 115 dX4_readWall_114 rfl rfl ?_
    refine aw_iload_n 116 dX4_readWall_115 rfl rfl ?_
    refine aw_iadd 117 dX4_readWall_116 rfl ?_
    refine aw_iconst 118 dX4_readWall_117 rfl ?_
    refine aw_iadd 119 dX4_readWall_118 rfl ?_
    refine aw_aload_n 120 dX4_readWall_119 rfl rfl ?_
    refine aw_sipush 123 dX4_readWall_120 rfl (by decide) ?_
    refine aw_sipush 126 dX4_readWall_123 rfl (by decide) ?_
    refine aw_xV 129 (m_readSigned hC (w_3 b k σ) _ _ r3 (by decide) (by decide)) mvX4_readSigned q2235 (rdl (mh_obj _ _)) rfl rfl rfl (by decide) (by decide) (Nat.le_refl _) (Nat.le_refl _) rfl (Nat.le_of_ble_eq_true rfl) dX4_readWall_126 rfl ?_
    refine aw_h (show _ = mh C (w_p b k σ).1 from rfl) ?_
    refine aw_iast 130 (mh_1 hC _) (by omega) dX4_readWall_129 rfl (by decide) ?_
    refine aw_h (mhs_1 hC _ _) ?_
    refine aw_h (show _ = mh C (w_4 b k σ) from rfl) ?_
    refine aw_aload_n 131 dX4_readWall_130 rfl rfl ?_
    refine aw_get 134 ci4 1 (by decide) q2032 (Or.inl rfl) (rdl (mh_obj _ _)) rfl dX4_readWall_131 rfl ?_
    refine aw_iload_n 135 dX4_readWall_134 rfl rfl ?_
    refine aw_iload_n 136 dX4_readWall_135 rfl rfl ?_
    refine aw_iadd 137 dX4_readWall_136 rfl ?_
    refine aw_iconst 138 dX4_readWall_137 rfl ?_
    refine aw_iadd 139 dX4_readWall_138 rfl ?_
    refine aw_aload_n 140 dX4_readWall_139 rfl rfl ?_
    refine aw_aload_n 141 dX4_readWall_140 rfl rfl ?_
    refine aw_get 144 ci4 1 (by decide) q2032 (Or.inl rfl) (rdl (mh_obj _ _)) rfl dX4_readWall_141 rfl ?_
    refine aw_iload_n 145 dX4_readWall_144 rfl rfl ?_
    refine aw_iload_n 146 dX4_readWall_145 rfl rfl ?_
    refine aw_iadd 147 dX4_readWall_146 rfl ?_
    refine aw_iconst 148 dX4_readWall_147 rfl ?_
    refine aw_iadd 149 dX4_readWall_148 rfl ?_
    refine aw_iald 150 (rdl (mh_1 hC _)) (by omega) dX4_readWall_149 rfl (by decide) ?_
    refine aw_sipush 153 dX4_readWall_150 rfl (by decide) ?_
    refine aw_xV 156 (m_readSigned hC (w_4 b k σ) _ _ r4 h4 (by decide)) mvX4_readSigned q2235 (rdl (mh_obj _ _)) rfl rfl rfl (by decide) (by decide) (Nat.le_refl _) (Nat.le_refl _) rfl (Nat.le_of_ble_eq_true rfl) dX4_readWall_153 rfl ?_
    refine aw_h (show _ = mh C (w_q b k σ).1 from rfl) ?_
    refine aw_iast 157 (mh_1 hC _) (by omega) dX4_readWall_156 rfl (by decide) ?_
    refine aw_h (mhs_1 hC _ _) ?_
    refine aw_h (show _ = mh C (w_B b k σ) from rfl) ?_
    refine aw_iinc 160 dX4_readWall_157 rfl rfl (as_3 rfl) (by decide) ?_
    refine aw_goto 47 dX4_readWall_160 rfl ?_
    exact kk
  · refine aw_iload 69 dX4_readWall_67 rfl rfl ?_
    refine aw_iconst 70 dX4_readWall_69 rfl ?_
    refine aw_icmp_eq 92 73 (by omega) dX4_readWall_70 rfl rfl (fun c_70 => ?_) (fun c_70 => ?_)
    · refine aw_iconst 93 dX4_readWall_92 rfl ?_
      exact kz1 _ (by first | exact (bI_t ⟨by omega, by omega⟩).symm | exact (bI_f (fun z => absurd z.1 (by omega))).symm | exact (bI_f (fun z => absurd z.2 (by omega))).symm)
    · refine aw_iload_n 74 dX4_readWall_73 rfl rfl ?_
      refine aw_if_eq 88 77 (by omega) dX4_readWall_74 rfl rfl (fun c_74 => ?_) (fun c_74 => ?_)
      · refine aw_iconst 89 dX4_readWall_88 rfl ?_
        refine aw_goto 93 dX4_readWall_89 rfl ?_
        exact kz1 _ (by first | exact (bI_t ⟨by omega, by omega⟩).symm | exact (bI_f (fun z => absurd z.1 (by omega))).symm | exact (bI_f (fun z => absurd z.2 (by omega))).symm)
      · refine aw_iload 79 dX4_readWall_77 rfl rfl ?_
        refine aw_aload_n 80 dX4_readWall_79 rfl rfl ?_
        refine aw_get 83 ci4 1 (by decide) q2032 (Or.inl rfl) (rdl (mh_obj _ _)) rfl dX4_readWall_80 rfl ?_
        refine aw_iload_n 84 dX4_readWall_83 rfl rfl ?_
        refine aw_iald 85 (rdl (mh_1 hC _)) (by omega) dX4_readWall_84 rfl (by decide) ?_
        refine aw_icmp_eq 92 88 (by omega) dX4_readWall_85 rfl rfl (fun c_85 => ?_) (fun c_85 => ?_)
        · refine aw_iconst 93 dX4_readWall_92 rfl ?_
          exact kz1 _ (by first | exact (bI_t ⟨by omega, by omega⟩).symm | exact (bI_f (fun z => absurd z.1 (by omega))).symm | exact (bI_f (fun z => absurd z.2 (by omega))).symm)
        · refine aw_iconst 89 dX4_readWall_88 rfl ?_
          refine aw_goto 93 dX4_readWall_89 rfl ?_
          exact kz1 _ (by first | exact (bI_t ⟨by omega, by omega⟩).symm | exact (bI_f (fun z => absurd z.1 (by omega))).symm | exact (bI_f (fun z => absurd z.2 (by omega))).symm)
/-- behind the loop -/
theorem l_readWall2 {l : Launch} {g : AG} {C : MCx} (hC : MOK C) {b q k : Int} (hq : 0 ≤ q ∧ q < 6) (σ : MSt) (hr : mRd σ) (hw : ¬ wl σ ∨ k = 6) (hk : 0 ≤ k ∧ k ≤ 6) (o : Option Value) : AWc l g miX4_readWall 17 0 0 (fun r2 h2 => r2 = none ∧ h2 = mh C (sR σ 1 (va_up (σ.2 1) 335 (q + 1)))) (fun _ _ _ => False) 0 0 (mh C σ) 47 [some (.ref C.1), some (iv q), some (iv b), some (iv k), o] [] := by
  refine aw_iload_n 48 dX4_readWall_47 rfl rfl ?_
  refine aw_bipush 50 dX4_readWall_48 rfl (by decide) ?_
  refine aw_icmp_ge 163 53 (by omega) dX4_readWall_50 rfl rfl (fun c_50 => ?_) (fun c_50 => ?_)
  · refine aw_aload_n 164 dX4_readWall_163 rfl rfl ?_
    refine aw_get 167 ci4 1 (by decide) q2032 (Or.inl rfl) (rdl (mh_obj _ _)) rfl dX4_readWall_164 rfl ?_
    refine aw_sipush 170 dX4_readWall_167 rfl (by decide) ?_
    refine aw_iload_n 171 dX4_readWall_170 rfl rfl ?_
    refine aw_iconst 172 dX4_readWall_171 rfl ?_
    refine aw_iadd 173 dX4_readWall_172 rfl ?_
    refine aw_iast 174 (mh_1 hC _) (by omega) dX4_readWall_173 rfl (by decide) ?_
    refine aw_h (mhs_1 hC _ _) ?_
    exact aw_xv (rfl) rfl dX4_readWall_174
  · refine aw_aload_n 54 dX4_readWall_53 rfl rfl ?_
    refine aw_xV 57 (m_isWell hC σ hr.w) mvX4_isWell q2200 (rdl (mh_obj _ _)) rfl rfl rfl (by decide) (by decide) (Nat.le_refl _) (Nat.le_refl _) rfl (Nat.le_of_ble_eq_true rfl) dX4_readWall_54 rfl ?_
    refine aw_if_eqB 163 60 dX4_readWall_57 rfl rfl (fun c_57 => ?_) (fun c_57 => (hw.elim (fun z => absurd c_57 z) (fun z => absurd c_50 (by omega))))
    refine aw_aload_n 164 dX4_readWall_163 rfl rfl ?_
    refine aw_get 167 ci4 1 (by decide) q2032 (Or.inl rfl) (rdl (mh_obj _ _)) rfl dX4_readWall_164 rfl ?_
    refine aw_sipush 170 dX4_readWall_167 rfl (by decide) ?_
    refine aw_iload_n 171 dX4_readWall_170 rfl rfl ?_
    refine aw_iconst 172 dX4_readWall_171 rfl ?_
    refine aw_iadd 173 dX4_readWall_172 rfl ?_
    refine aw_iast 174 (mh_1 hC _) (by omega) dX4_readWall_173 rfl (by decide) ?_
    refine aw_h (mhs_1 hC _ _) ?_
    exact aw_xv (rfl) rfl dX4_readWall_174
theorem m_readWall {l : Launch} {g : AG} {C : MCx} (hC : MOK C) (σ : MSt)  (hr : mRd σ): AMx l g miX4_readWall 17 [.ref C.1] (mh C σ) (none) (mh C (k_readWall σ)) := by
  refine aw_start 4 (by decide) rfl (Nat.le_of_ble_eq_true rfl) ?_
  show AWc l g miX4_readWall 17 0 0 _ _ 0 0 (mh C σ) 0 [some (.ref C.1), none, none, none, none] []
  obtain ⟨r1, t1, h⟩ := w_1_ok hr
  have h0 := hr.2.2.2.2.2.1.2
  have r0 := k_must_rd hr (bI (σ.2 1 335 < 6))
  refine aw_aload_n 1 dX4_readWall_0 rfl rfl ?_
  refine aw_get 4 ci4 1 (by decide) q2032 (Or.inl rfl) (rdl (mh_obj _ _)) rfl dX4_readWall_1 rfl ?_
  refine aw_sipush 7 dX4_readWall_4 rfl (by decide) ?_
  refine aw_iald 8 (rdl (mh_1 hC _)) (by omega) dX4_readWall_7 rfl (by decide) ?_
  refine aw_st (st' := [iv (σ.2 1 335)]) rfl ?_
  refine aw_istore_n 9 dX4_readWall_8 rfl (as_1 rfl) (by decide) ?_
  refine aw_aload_n 10 dX4_readWall_9 rfl rfl ?_
  refine aw_join (bI (σ.2 1 335 < 6)) 21 ?_ (fun kz1 => ?_)
  · refine aw_xVv 24 (m_must hC σ _ (bI_Rg _) hr.w) mvX4_must q2223 (rdl (mh_obj _ _)) rfl rfl rfl (by decide) (by decide) (Nat.le_refl _) (Nat.le_refl _) rfl (Nat.le_of_ble_eq_true rfl) dX4_readWall_21 rfl ?_
    refine aw_aload_n 25 dX4_readWall_24 rfl rfl ?_
    refine aw_xVv 28 (m_goesOn hC _ r0.tx r0.w) mvX4_goesOn q2227 (rdl (mh_obj _ _)) rfl rfl rfl (by decide) (by decide) (Nat.le_refl _) (Nat.le_refl _) rfl (Nat.le_of_ble_eq_true rfl) dX4_readWall_25 rfl ?_
    refine aw_h (show _ = mh C (w_1 σ) from rfl) ?_
    refine aw_aload_n 29 dX4_readWall_28 rfl rfl ?_
    refine aw_xV 32 (m_isWell hC (w_1 σ) r1.w) mvX4_isWell q2200 (rdl (mh_obj _ _)) rfl rfl rfl (by decide) (by decide) (Nat.le_refl _) (Nat.le_refl _) rfl (Nat.le_of_ble_eq_true rfl) dX4_readWall_29 rfl ?_
    refine aw_if_neB 36 35 dX4_readWall_32 rfl rfl (fun c_32 => ?_) (fun c_32 => ?_)
    · refine aw_sipush 39 dX4_readWall_36 rfl (by decide) ?_
      refine aw_bipush 41 dX4_readWall_39 rfl (by decide) ?_
      refine aw_iload_n 42 dX4_readWall_41 rfl rfl ?_
      refine aw_imul 43 dX4_readWall_42 rfl ?_
      refine aw_iadd 44 dX4_readWall_43 rfl ?_
      refine aw_st (st' := [iv (w_b σ)]) rfl ?_
      refine aw_istore_n 45 dX4_readWall_44 rfl (as_2 rfl) (by decide) ?_
      refine aw_iconst 46 dX4_readWall_45 rfl ?_
      refine aw_istore_n 47 dX4_readWall_46 rfl (as_3 rfl) (by decide) ?_
      obtain ⟨w0, q5, hb⟩ := h (by assumption); obtain ⟨-, -, -, -, -, -, -, rB, -⟩ := w_B_ok r1 hb (Or.inl rfl); obtain ⟨-, -, -, -, -, -, -, rC, -⟩ := w_B_ok rB hb (Or.inr rfl); unfold k_readWall; rw [if_pos (by assumption)]; refine l_readWall hC hb (Or.inl rfl) (w_1 σ) r1 (by assumption) ?_ none; unfold w_5; split; exact l_readWall hC hb (Or.inr rfl) _ rB (by assumption) (l_readWall2 hC (by omega) _ rC (Or.inr rfl) (by decide) _) _; exact l_readWall2 hC (by omega) _ rB (Or.inl (by assumption)) (by decide) _
    · exact aw_xv (by unfold k_readWall; rw [if_neg (by assumption)]) rfl dX4_readWall_35
  · refine aw_iload_n 11 dX4_readWall_10 rfl rfl ?_
    refine aw_bipush 13 dX4_readWall_11 rfl (by decide) ?_
    refine aw_icmp_ge 20 16 (by omega) dX4_readWall_13 rfl rfl (fun c_13 => ?_) (fun c_13 => ?_)
    · refine aw_iconst 21 dX4_readWall_20 rfl ?_
      exact kz1 _ (by first | exact (bI_t (by first | assumption | omega | (refine ⟨?_, ?_⟩ <;> first | assumption | omega))).symm | exact (bI_f (by first | assumption | omega | (intro z; first | exact absurd z.1 (by assumption) | exact absurd z.2 (by assumption) | omega))).symm)
    · refine aw_iconst 17 dX4_readWall_16 rfl ?_
      refine aw_goto 21 dX4_readWall_17 rfl ?_
      exact kz1 _ (by first | exact (bI_t (by first | assumption | omega | (refine ⟨?_, ?_⟩ <;> first | assumption | omega))).symm | exact (bI_f (by first | assumption | omega | (intro z; first | exact absurd z.1 (by assumption) | exact absurd z.2 (by assumption) | omega))).symm)
/-! a statement -/
def wAxis : Int := k_spelled 97 120 105 115 0 0 0
def wCue : Int := k_spelled 99 117 101 0 0 0 0
def wWall : Int := k_spelled 119 97 108 108 0 0 0
def wPass : Int := k_spelled 112 97 115 115 0 0 0
noncomputable def k_st (σ : MSt) : MSt := if σ.1 18 = 1 ∧ σ.1 20 = wAxis then k_readAxis σ else if σ.1 18 = 1 ∧ σ.1 20 = wCue then k_readCue σ else if σ.1 18 = 1 ∧ σ.1 20 = wWall then k_readWall σ else if σ.1 18 = 1 ∧ σ.1 20 = wPass then k_readPass σ else k_must 0 σ
noncomputable def k_readStatement (σ : MSt) : MSt := k_goesOn (k_must (bI ((k_st σ).1 18 = 3)) (k_st σ))
theorem k_st_rd {σ : MSt} (hr : mRd σ) : mRd (k_st σ) := by
  unfold k_st
  split
  · exact k_readAxis_rd hr
  · split
    · exact k_readCue_rd hr
    · split
      · exact k_readWall_rd hr
      · split
        · exact k_readPass_rd hr
        · exact k_must_rd hr _
theorem k_readStatement_rd {σ : MSt} (hr : mRd σ) : mRd (k_readStatement σ) := k_goesOn_rd (k_must_rd (k_st_rd hr) _)
theorem m_readStatement {l : Launch} {g : AG} {C : MCx} (hC : MOK C) (σ : MSt)  (hr : mRd σ): AMx l g miX4_readStatement 18 [.ref C.1] (mh C σ) (none) (mh C (k_readStatement σ)) := by
  refine aw_start 0 (by decide) rfl (Nat.le_of_ble_eq_true rfl) ?_
  show AWc l g miX4_readStatement 18 0 0 _ _ 0 0 (mh C σ) 0 [some (.ref C.1)] []
  have h18 := hr.1.2.1
  have h20 := hr.1.2.2.2.1
  have r1 := k_st_rd hr
  have u := r1.1.2.1
  have r2 := k_must_rd r1 (bI ((k_st σ).1 18 = 3))
  refine aw_joinH (mh C (k_st σ)) 116 ?_ (fun kz1 => ?_)
  · refine aw_aload_n 117 dX4_readStatement_116 rfl rfl ?_
    refine aw_join (bI ((k_st σ).1 18 = 3)) 130 ?_ (fun kz2 => ?_)
    · refine aw_xVv 133 (m_must hC (k_st σ) _ (bI_Rg _) r1.w) mvX4_must q2223 (rdl (mh_obj _ _)) rfl rfl rfl (by decide) (by decide) (Nat.le_refl _) (Nat.le_refl _) rfl (Nat.le_of_ble_eq_true rfl) dX4_readStatement_130 rfl ?_
      refine aw_aload_n 134 dX4_readStatement_133 rfl rfl ?_
      refine aw_xVv 137 (m_goesOn hC _ r2.tx r2.w) mvX4_goesOn q2227 (rdl (mh_obj _ _)) rfl rfl rfl (by decide) (by decide) (Nat.le_refl _) (Nat.le_refl _) rfl (Nat.le_of_ble_eq_true rfl) dX4_readStatement_134 rfl ?_
      exact aw_xv (rfl) rfl dX4_readStatement_137
    · refine aw_aload_n 118 dX4_readStatement_117 rfl rfl ?_
      refine aw_get 121 ci4 18 (by decide) q2049 (Or.inl rfl) (rdl (mh_obj _ _)) rfl dX4_readStatement_118 rfl ?_
      refine aw_iconst 122 dX4_readStatement_121 rfl ?_
      refine aw_icmp_ne 129 125 (by omega) dX4_readStatement_122 rfl rfl (fun c_122 => ?_) (fun c_122 => ?_)
      · refine aw_iconst 130 dX4_readStatement_129 rfl ?_
        exact kz2 _ (by first | exact (bI_t (by first | assumption | omega | (refine ⟨?_, ?_⟩ <;> first | assumption | omega))).symm | exact (bI_f (by first | assumption | omega | (intro z; first | exact absurd z.1 (by assumption) | exact absurd z.2 (by assumption) | omega))).symm)
      · refine aw_iconst 126 dX4_readStatement_125 rfl ?_
        refine aw_goto 130 dX4_readStatement_126 rfl ?_
        exact kz2 _ (by first | exact (bI_t (by first | assumption | omega | (refine ⟨?_, ?_⟩ <;> first | assumption | omega))).symm | exact (bI_f (by first | assumption | omega | (intro z; first | exact absurd z.1 (by assumption) | exact absurd z.2 (by assumption) | omega))).symm)
  · refine aw_aload_n 1 dX4_readStatement_0 rfl rfl ?_
    refine aw_bipush 3 dX4_readStatement_1 rfl (by decide) ?_
    refine aw_bipush 5 dX4_readStatement_3 rfl (by decide) ?_
    refine aw_bipush 7 dX4_readStatement_5 rfl (by decide) ?_
    refine aw_bipush 9 dX4_readStatement_7 rfl (by decide) ?_
    refine aw_iconst 10 dX4_readStatement_9 rfl ?_
    refine aw_iconst 11 dX4_readStatement_10 rfl ?_
    refine aw_iconst 12 dX4_readStatement_11 rfl ?_
    refine aw_xS 15 (m_spelled _ _ _ _ _ _ _ (by decide) (by decide) (by decide) (by decide) (by decide) (by decide) (by decide)) msX4_spelled q2208 rfl (by decide) (by decide) (Nat.le_refl _) (Nat.le_refl _) rfl (Nat.le_of_ble_eq_true rfl) dX4_readStatement_12 rfl ?_
    refine aw_xV 18 (m_isWord hC σ _ (by omega) (by omega) (by decide)) mvX4_isWord q2215 (rdl (mh_obj _ _)) rfl rfl rfl (by decide) (by decide) (Nat.le_refl _) (Nat.le_refl _) rfl (Nat.le_of_ble_eq_true rfl) dX4_readStatement_15 rfl ?_
    refine aw_if_eqB 28 21 dX4_readStatement_18 rfl rfl (fun c_18 => ?_) (fun c_18 => ?_)
    · refine aw_aload_n 29 dX4_readStatement_28 rfl rfl ?_
      refine aw_bipush 31 dX4_readStatement_29 rfl (by decide) ?_
      refine aw_bipush 33 dX4_readStatement_31 rfl (by decide) ?_
      refine aw_bipush 35 dX4_readStatement_33 rfl (by decide) ?_
      refine aw_iconst 36 dX4_readStatement_35 rfl ?_
      refine aw_iconst 37 dX4_readStatement_36 rfl ?_
      refine aw_iconst 38 dX4_readStatement_37 rfl ?_
      refine aw_iconst 39 dX4_readStatement_38 rfl ?_
      refine aw_xS 42 (m_spelled _ _ _ _ _ _ _ (by decide) (by decide) (by decide) (by decide) (by decide) (by decide) (by decide)) msX4_spelled q2208 rfl (by decide) (by decide) (Nat.le_refl _) (Nat.le_refl _) rfl (Nat.le_of_ble_eq_true rfl) dX4_readStatement_39 rfl ?_
      refine aw_xV 45 (m_isWord hC σ _ (by omega) (by omega) (by decide)) mvX4_isWord q2215 (rdl (mh_obj _ _)) rfl rfl rfl (by decide) (by decide) (Nat.le_refl _) (Nat.le_refl _) rfl (Nat.le_of_ble_eq_true rfl) dX4_readStatement_42 rfl ?_
      refine aw_if_eqB 55 48 dX4_readStatement_45 rfl rfl (fun c_45 => ?_) (fun c_45 => ?_)
      · refine aw_aload_n 56 dX4_readStatement_55 rfl rfl ?_
        refine aw_bipush 58 dX4_readStatement_56 rfl (by decide) ?_
        refine aw_bipush 60 dX4_readStatement_58 rfl (by decide) ?_
        refine aw_bipush 62 dX4_readStatement_60 rfl (by decide) ?_
        refine aw_bipush 64 dX4_readStatement_62 rfl (by decide) ?_
        refine aw_iconst 65 dX4_readStatement_64 rfl ?_
        refine aw_iconst 66 dX4_readStatement_65 rfl ?_
        refine aw_iconst 67 dX4_readStatement_66 rfl ?_
        refine aw_xS 70 (m_spelled _ _ _ _ _ _ _ (by decide) (by decide) (by decide) (by decide) (by decide) (by decide) (by decide)) msX4_spelled q2208 rfl (by decide) (by decide) (Nat.le_refl _) (Nat.le_refl _) rfl (Nat.le_of_ble_eq_true rfl) dX4_readStatement_67 rfl ?_
        refine aw_xV 73 (m_isWord hC σ _ (by omega) (by omega) (by decide)) mvX4_isWord q2215 (rdl (mh_obj _ _)) rfl rfl rfl (by decide) (by decide) (Nat.le_refl _) (Nat.le_refl _) rfl (Nat.le_of_ble_eq_true rfl) dX4_readStatement_70 rfl ?_
        refine aw_if_eqB 83 76 dX4_readStatement_73 rfl rfl (fun c_73 => ?_) (fun c_73 => ?_)
        · refine aw_aload_n 84 dX4_readStatement_83 rfl rfl ?_
          refine aw_bipush 86 dX4_readStatement_84 rfl (by decide) ?_
          refine aw_bipush 88 dX4_readStatement_86 rfl (by decide) ?_
          refine aw_bipush 90 dX4_readStatement_88 rfl (by decide) ?_
          refine aw_bipush 92 dX4_readStatement_90 rfl (by decide) ?_
          refine aw_iconst 93 dX4_readStatement_92 rfl ?_
          refine aw_iconst 94 dX4_readStatement_93 rfl ?_
          refine aw_iconst 95 dX4_readStatement_94 rfl ?_
          refine aw_xS 98 (m_spelled _ _ _ _ _ _ _ (by decide) (by decide) (by decide) (by decide) (by decide) (by decide) (by decide)) msX4_spelled q2208 rfl (by decide) (by decide) (Nat.le_refl _) (Nat.le_refl _) rfl (Nat.le_of_ble_eq_true rfl) dX4_readStatement_95 rfl ?_
          refine aw_xV 101 (m_isWord hC σ _ (by omega) (by omega) (by decide)) mvX4_isWord q2215 (rdl (mh_obj _ _)) rfl rfl rfl (by decide) (by decide) (Nat.le_refl _) (Nat.le_refl _) rfl (Nat.le_of_ble_eq_true rfl) dX4_readStatement_98 rfl ?_
          refine aw_if_eqB 111 104 dX4_readStatement_101 rfl rfl (fun c_101 => ?_) (fun c_101 => ?_)
          · refine aw_aload_n 112 dX4_readStatement_111 rfl rfl ?_
            refine aw_iconst 113 dX4_readStatement_112 rfl ?_
            refine aw_xVv 116 (m_must hC σ _ (by decide) hr.w) mvX4_must q2223 (rdl (mh_obj _ _)) rfl rfl rfl (by decide) (by decide) (Nat.le_refl _) (Nat.le_refl _) rfl (Nat.le_of_ble_eq_true rfl) dX4_readStatement_113 rfl ?_
            exact kz1 _ (by unfold k_st; first | exact congrArg (mh C) (if_pos (by assumption)).symm | (rw [if_neg (by assumption)]; exact congrArg (mh C) (if_pos (by assumption)).symm) | (rw [if_neg (by assumption), if_neg (by assumption)]; exact congrArg (mh C) (if_pos (by assumption)).symm) | (rw [if_neg (by assumption), if_neg (by assumption), if_neg (by assumption)]; exact congrArg (mh C) (if_pos (by assumption)).symm) | (rw [if_neg (by assumption), if_neg (by assumption), if_neg (by assumption), if_neg (by assumption)]))
          · refine aw_aload_n 105 dX4_readStatement_104 rfl rfl ?_
            refine aw_xVv 108 (m_readPass hC _ (by assumption)) mvX4_readPass q2255 (rdl (mh_obj _ _)) rfl rfl rfl (by decide) (by decide) (Nat.le_refl _) (Nat.le_refl _) rfl (Nat.le_of_ble_eq_true rfl) dX4_readStatement_105 rfl ?_
            refine aw_goto 116 dX4_readStatement_108 rfl ?_
            exact kz1 _ (by unfold k_st; first | exact congrArg (mh C) (if_pos (by assumption)).symm | (rw [if_neg (by assumption)]; exact congrArg (mh C) (if_pos (by assumption)).symm) | (rw [if_neg (by assumption), if_neg (by assumption)]; exact congrArg (mh C) (if_pos (by assumption)).symm) | (rw [if_neg (by assumption), if_neg (by assumption), if_neg (by assumption)]; exact congrArg (mh C) (if_pos (by assumption)).symm) | (rw [if_neg (by assumption), if_neg (by assumption), if_neg (by assumption), if_neg (by assumption)]))
        · refine aw_aload_n 77 dX4_readStatement_76 rfl rfl ?_
          refine aw_xVv 80 (m_readWall hC _ (by assumption)) mvX4_readWall q2251 (rdl (mh_obj _ _)) rfl rfl rfl (by decide) (by decide) (Nat.le_refl _) (Nat.le_refl _) rfl (Nat.le_of_ble_eq_true rfl) dX4_readStatement_77 rfl ?_
          refine aw_goto 116 dX4_readStatement_80 rfl ?_
          exact kz1 _ (by unfold k_st; first | exact congrArg (mh C) (if_pos (by assumption)).symm | (rw [if_neg (by assumption)]; exact congrArg (mh C) (if_pos (by assumption)).symm) | (rw [if_neg (by assumption), if_neg (by assumption)]; exact congrArg (mh C) (if_pos (by assumption)).symm) | (rw [if_neg (by assumption), if_neg (by assumption), if_neg (by assumption)]; exact congrArg (mh C) (if_pos (by assumption)).symm) | (rw [if_neg (by assumption), if_neg (by assumption), if_neg (by assumption), if_neg (by assumption)]))
      · refine aw_aload_n 49 dX4_readStatement_48 rfl rfl ?_
        refine aw_xVv 52 (m_readCue hC _ (by assumption)) mvX4_readCue q2243 (rdl (mh_obj _ _)) rfl rfl rfl (by decide) (by decide) (Nat.le_refl _) (Nat.le_refl _) rfl (Nat.le_of_ble_eq_true rfl) dX4_readStatement_49 rfl ?_
        refine aw_goto 116 dX4_readStatement_52 rfl ?_
        exact kz1 _ (by unfold k_st; first | exact congrArg (mh C) (if_pos (by assumption)).symm | (rw [if_neg (by assumption)]; exact congrArg (mh C) (if_pos (by assumption)).symm) | (rw [if_neg (by assumption), if_neg (by assumption)]; exact congrArg (mh C) (if_pos (by assumption)).symm) | (rw [if_neg (by assumption), if_neg (by assumption), if_neg (by assumption)]; exact congrArg (mh C) (if_pos (by assumption)).symm) | (rw [if_neg (by assumption), if_neg (by assumption), if_neg (by assumption), if_neg (by assumption)]))
    · refine aw_aload_n 22 dX4_readStatement_21 rfl rfl ?_
      refine aw_xVv 25 (m_readAxis hC _ (by assumption)) mvX4_readAxis q2219 (rdl (mh_obj _ _)) rfl rfl rfl (by decide) (by decide) (Nat.le_refl _) (Nat.le_refl _) rfl (Nat.le_of_ble_eq_true rfl) dX4_readStatement_22 rfl ?_
      refine aw_goto 116 dX4_readStatement_25 rfl ?_
      exact kz1 _ (by unfold k_st; first | exact congrArg (mh C) (if_pos (by assumption)).symm | (rw [if_neg (by assumption)]; exact congrArg (mh C) (if_pos (by assumption)).symm) | (rw [if_neg (by assumption), if_neg (by assumption)]; exact congrArg (mh C) (if_pos (by assumption)).symm) | (rw [if_neg (by assumption), if_neg (by assumption), if_neg (by assumption)]; exact congrArg (mh C) (if_pos (by assumption)).symm) | (rw [if_neg (by assumption), if_neg (by assumption), if_neg (by assumption), if_neg (by assumption)]))
