/-! CameraMovesModel: load, whole -/
set_option maxRecDepth 100000
/-- the first n of s, written -/
def cpA (f s : Nat → Int) : Nat → (Nat → Int)
  | 0 => f
  | n + 1 => va_up (cpA f s n) n (s n)
theorem cpA_at (f s : Nat → Int) : ∀ (n j : Nat), cpA f s n j = if j < n then s j else f j := by
  intro n
  induction n with
  | zero => intro j; rw [if_neg (by omega)]; rfl
  | succ n ih =>
    intro j
    show va_up (cpA f s n) n (s n) j = _
    rw [va_up_at, ih]
    by_cases hj : j = n
    · subst hj
      rw [if_pos rfl, if_pos (by omega)]
    · rw [if_neg hj]
      by_cases h2 : j < n
      · rw [if_pos h2, if_pos (by omega)]
      · rw [if_neg h2, if_neg (by omega)]
theorem sR_4 (σ : MSt) {j k : Nat} (a b a' b' : Nat → Int) (n : j ≠ k) : sR (sR (sR (sR σ j a) k b) j a') k b' = sR (sR σ j a') k b' := by
  apply mst_ext
  · intro i; rfl
  · intro i x
    show (if i = k then b' else if i = j then a' else if i = k then b else if i = j then a else σ.2 i) x = (if i = k then b' else if i = j then a' else σ.2 i) x
    by_cases h1 : i = k
    · rw [if_pos h1, if_pos h1]
    · rw [if_neg h1, if_neg h1]
      by_cases h2 : i = j
      · simp [h1, h2, n]
      · simp [h1, h2]
def g_1 (σ : MSt) : MSt := sF (sR (sF σ 5 (σ.1 22)) 6 (cpA (σ.2 6) (σ.2 23) (σ.1 22).toNat)) 8 (σ.1 25)
def g_2 (σ : MSt) : MSt := sR (sR (g_1 σ) 7 (cpA (σ.2 7) (σ.2 24) 12)) 9 (cpA (σ.2 9) (σ.2 26) 12)
def k_keepReading (σ : MSt) : MSt := sF (sF (k_copyRow 1 0 (g_2 σ)) 3 0) 4 0
theorem l_keep2 {l : Launch} {g : AG} {C : MCx} (hC : MOK C) {R : Option Value} {H1 : AH} (σ : MSt) (f7 f9 s7 s9 : Nat → Int) (h7 : σ.2 24 = s7) (h9 : σ.2 26 = s9)
    (kk : AWc l g miX4_keepReading 11 0 0 (fun r2 h2 => r2 = R ∧ h2 = H1) (fun _ _ _ => False) 0 0 (mh C (sR (sR σ 7 (cpA f7 s7 12)) 9 (cpA f9 s9 12))) 82 [some (.ref C.1), some (iv 12)] []) : ∀ (n i : Nat), i + n = 12 → AWc l g miX4_keepReading 11 0 0 (fun r2 h2 => r2 = R ∧ h2 = H1) (fun _ _ _ => False) 0 0 (mh C (sR (sR σ 7 (cpA f7 s7 i)) 9 (cpA f9 s9 i))) 46 [some (.ref C.1), some (iv (i : Int))] [] := by
  intro n
  induction n with
  | zero =>
    intro i hi
    have hi : i = 12 := by omega
    subst hi
    refine aw_iload_n 47 dX4_keepReading_46 rfl rfl ?_
    refine aw_bipush 49 dX4_keepReading_47 rfl (by decide) ?_
    refine aw_icmp_ge 82 52 (by omega) dX4_keepReading_49 rfl rfl (fun c_49 => ?_) (fun c_49 => absurd c_49 (by omega))
    exact kk
  | succ n ih =>
    intro i hi
    have e7 : cpA f7 s7 (i + 1) = va_up (cpA f7 s7 i) (i : Int).toNat (σ.2 24 (i : Int).toNat) := by rw [h7]; rfl
    have e9 : cpA f9 s9 (i + 1) = va_up (cpA f9 s9 i) (i : Int).toNat (σ.2 26 (i : Int).toNat) := by rw [h9]; rfl
    have ih := ih (i + 1) (by omega)
    rw [e7, e9, ← sR_4 σ (cpA f7 s7 i) (cpA f9 s9 i) _ _ (by decide)] at ih
    refine aw_iload_n 47 dX4_keepReading_46 rfl rfl ?_
    refine aw_bipush 49 dX4_keepReading_47 rfl (by decide) ?_
    refine aw_icmp_ge 82 52 (by omega) dX4_keepReading_49 rfl rfl (fun c_49 => absurd c_49 (by omega)) (fun c_49 => ?_)
    refine aw_aload_n 53 dX4_keepReading_52 rfl rfl ?_
    refine aw_get 56 ci4 7 (by decide) q2038 (Or.inl rfl) (rdl (mh_obj _ _)) rfl dX4_keepReading_53 rfl ?_
    refine aw_iload_n 57 dX4_keepReading_56 rfl rfl ?_
    refine aw_aload_n 58 dX4_keepReading_57 rfl rfl ?_
    refine aw_get 61 ci4 24 (by decide) q2055 (Or.inl rfl) (rdl (mh_obj _ _)) rfl dX4_keepReading_58 rfl ?_
    refine aw_iload_n 62 dX4_keepReading_61 rfl rfl ?_
    refine aw_iald 63 (rdl (mh_24 hC _)) (by omega) dX4_keepReading_62 rfl (by decide) ?_
    refine aw_iast 64 (mh_7 hC _) (by omega) dX4_keepReading_63 rfl (by decide) ?_
    refine aw_h (mhs_7 hC _ _) ?_
    refine aw_aload_n 65 dX4_keepReading_64 rfl rfl ?_
    refine aw_get 68 ci4 9 (by decide) q2040 (Or.inl rfl) (rdl (mh_obj _ _)) rfl dX4_keepReading_65 rfl ?_
    refine aw_iload_n 69 dX4_keepReading_68 rfl rfl ?_
    refine aw_aload_n 70 dX4_keepReading_69 rfl rfl ?_
    refine aw_get 73 ci4 26 (by decide) q2057 (Or.inl rfl) (rdl (mh_obj _ _)) rfl dX4_keepReading_70 rfl ?_
    refine aw_iload_n 74 dX4_keepReading_73 rfl rfl ?_
    refine aw_iald 75 (rdl (mh_26 hC _)) (by omega) dX4_keepReading_74 rfl (by decide) ?_
    refine aw_iast 76 (mh_9 hC _) (by omega) dX4_keepReading_75 rfl (by decide) ?_
    refine aw_h (mhs_9 hC _ _) ?_
    refine aw_iinc 79 dX4_keepReading_76 rfl rfl (as_1 rfl) (by decide) ?_
    refine aw_goto 46 dX4_keepReading_79 rfl ?_
    exact ih
theorem l_keep1 {l : Launch} {g : AG} {C : MCx} (hC : MOK C) {R : Option Value} {H1 : AH} (σ : MSt) (f6 s6 : Nat → Int) (h6 : σ.2 23 = s6) (hn : 0 ≤ σ.1 5 ∧ σ.1 5 ≤ 4)
    (kk : AWc l g miX4_keepReading 11 0 0 (fun r2 h2 => r2 = R ∧ h2 = H1) (fun _ _ _ => False) 0 0 (mh C (sR σ 6 (cpA f6 s6 (σ.1 5).toNat))) 36 [some (.ref C.1), some (iv (σ.1 5))] []) : ∀ (n i : Nat), (i : Int) + n = σ.1 5 → AWc l g miX4_keepReading 11 0 0 (fun r2 h2 => r2 = R ∧ h2 = H1) (fun _ _ _ => False) 0 0 (mh C (sR σ 6 (cpA f6 s6 i))) 10 [some (.ref C.1), some (iv (i : Int))] [] := by
  intro n
  induction n with
  | zero =>
    intro i hi
    have hi : (i : Int) = σ.1 5 := by omega
    have hi2 : (σ.1 5).toNat = i := by omega
    rw [hi2, ← hi] at kk
    refine aw_iload_n 11 dX4_keepReading_10 rfl rfl ?_
    refine aw_aload_n 12 dX4_keepReading_11 rfl rfl ?_
    refine aw_get 15 ci4 5 (by decide) q2036 (Or.inl rfl) (rdl (mh_obj _ _)) rfl dX4_keepReading_12 rfl ?_
    refine aw_icmp_ge 36 18 (by (first | omega | (show Rg (i : Int) ∧ Rg (σ.1 5); omega))) dX4_keepReading_15 rfl rfl (fun c_15 => ?_) (fun c_15 => absurd c_15 (by (have : (i : Int) < σ.1 5 := c_15); omega))
    exact kk
  | succ n ih =>
    intro i hi
    have e6 : cpA f6 s6 (i + 1) = va_up (cpA f6 s6 i) (i : Int).toNat (σ.2 23 (i : Int).toNat) := by rw [h6]; rfl
    have ih := ih (i + 1) (by omega)
    rw [e6, ← sR_sR σ 6 (cpA f6 s6 i)] at ih
    refine aw_iload_n 11 dX4_keepReading_10 rfl rfl ?_
    refine aw_aload_n 12 dX4_keepReading_11 rfl rfl ?_
    refine aw_get 15 ci4 5 (by decide) q2036 (Or.inl rfl) (rdl (mh_obj _ _)) rfl dX4_keepReading_12 rfl ?_
    refine aw_icmp_ge 36 18 (by (first | omega | (show Rg (i : Int) ∧ Rg (σ.1 5); omega))) dX4_keepReading_15 rfl rfl (fun c_15 => absurd c_15 (by (have : σ.1 5 ≤ (i : Int) := c_15); omega)) (fun c_15 => ?_)
    refine aw_aload_n 19 dX4_keepReading_18 rfl rfl ?_
    refine aw_get 22 ci4 6 (by decide) q2037 (Or.inl rfl) (rdl (mh_obj _ _)) rfl dX4_keepReading_19 rfl ?_
    refine aw_iload_n 23 dX4_keepReading_22 rfl rfl ?_
    refine aw_aload_n 24 dX4_keepReading_23 rfl rfl ?_
    refine aw_get 27 ci4 23 (by decide) q2054 (Or.inl rfl) (rdl (mh_obj _ _)) rfl dX4_keepReading_24 rfl ?_
    refine aw_iload_n 28 dX4_keepReading_27 rfl rfl ?_
    refine aw_lald 29 (rdl (mh_23 hC _)) (by (first | omega | (show Rg (i : Int) ∧ Rg (σ.1 5); omega))) dX4_keepReading_28 rfl (by decide) ?_
    refine aw_last 30 (mh_6 hC _) (by (first | omega | (show Rg (i : Int) ∧ Rg (σ.1 5); omega))) dX4_keepReading_29 rfl (by decide) ?_
    refine aw_h (mhs_6 hC _ _) ?_
    refine aw_iinc 33 dX4_keepReading_30 rfl rfl (as_1 rfl) (by decide) ?_
    refine aw_goto 10 dX4_keepReading_33 rfl ?_
    exact ih
theorem m_keepReading {l : Launch} {g : AG} {C : MCx} (hC : MOK C) (σ : MSt)  (h22 : 0 ≤ σ.1 22 ∧ σ.1 22 ≤ 4): AMx l g miX4_keepReading 11 [.ref C.1] (mh C σ) (none) (mh C (k_keepReading σ)) := by
  refine aw_start 1 (by decide) rfl (Nat.le_of_ble_eq_true rfl) ?_
  show AWc l g miX4_keepReading 11 0 0 _ _ 0 0 (mh C σ) 0 [some (.ref C.1), none] []
  refine aw_aload_n 1 dX4_keepReading_0 rfl rfl ?_
  refine aw_aload_n 2 dX4_keepReading_1 rfl rfl ?_
  refine aw_get 5 ci4 22 (by decide) q2053 (Or.inl rfl) (rdl (mh_obj _ _)) rfl dX4_keepReading_2 rfl ?_
  refine aw_put 8 ci4 5 (by decide) q2036 (Or.inl rfl) rfl rfl rfl (Nat.le_of_ble_eq_true rfl) (mh_obj _ _) dX4_keepReading_5 rfl ?_
  refine aw_h (mhp_5 _ _ _) ?_
  refine aw_iconst 9 dX4_keepReading_8 rfl ?_
  refine aw_istore_n 10 dX4_keepReading_9 rfl (as_1 rfl) (by decide) ?_
  refine aw_h (congrArg (mh C) (sR_id (k := 6) rfl).symm) ?_; refine l_keep1 hC (sF σ 5 (σ.1 22)) (σ.2 6) (σ.2 23) rfl h22 ?_ (σ.1 22).toNat 0 (show ((0 : Nat) : Int) + ((σ.1 22).toNat : Int) = σ.1 22 by omega)
  refine aw_aload_n 37 dX4_keepReading_36 rfl rfl ?_
  refine aw_aload_n 38 dX4_keepReading_37 rfl rfl ?_
  refine aw_get 41 ci4 25 (by decide) q2056 (Or.inl rfl) (rdl (mh_obj _ _)) rfl dX4_keepReading_38 rfl ?_
  refine aw_put 44 ci4 8 (by decide) q2039 (Or.inl rfl) rfl rfl rfl (Nat.le_of_ble_eq_true rfl) (mh_obj _ _) dX4_keepReading_41 rfl ?_
  refine aw_h (mhp_8 _ _ _) ?_
  refine aw_iconst 45 dX4_keepReading_44 rfl ?_
  refine aw_istore_n 46 dX4_keepReading_45 rfl (as_1 rfl) (by decide) ?_
  refine aw_h (show mh C (g_1 σ) = _ from (congrArg (mh C) ((congrArg (fun z => sR z 9 (cpA (σ.2 9) (σ.2 26) 0)) (sR_id (σ := g_1 σ) (k := 7) (f := cpA (σ.2 7) (σ.2 24) 0) rfl)).trans (sR_id (k := 9) rfl))).symm) ?_; refine l_keep2 hC (g_1 σ) (σ.2 7) (σ.2 9) (σ.2 24) (σ.2 26) rfl rfl ?_ 12 0 rfl
  refine aw_aload_n 83 dX4_keepReading_82 rfl rfl ?_
  refine aw_iconst 84 dX4_keepReading_83 rfl ?_
  refine aw_iconst 85 dX4_keepReading_84 rfl ?_
  refine aw_xVv 88 (m_copyRow hC (g_2 σ) _ _ (by decide) (by decide)) mvX4_copyRow q2027 (rdl (mh_obj _ _)) rfl rfl rfl (by decide) (by decide) (Nat.le_refl _) (Nat.le_refl _) rfl (Nat.le_of_ble_eq_true rfl) dX4_keepReading_85 rfl ?_
  refine aw_aload_n 89 dX4_keepReading_88 rfl rfl ?_
  refine aw_iconst 90 dX4_keepReading_89 rfl ?_
  refine aw_put 93 ci4 3 (by decide) q2034 (Or.inl rfl) rfl rfl rfl (Nat.le_of_ble_eq_true rfl) (mh_obj _ _) dX4_keepReading_90 rfl ?_
  refine aw_h (mhp_3 _ _ _) ?_
  refine aw_aload_n 94 dX4_keepReading_93 rfl rfl ?_
  refine aw_iconst 95 dX4_keepReading_94 rfl ?_
  refine aw_put 98 ci4 4 (by decide) q2035 (Or.inl rfl) rfl rfl rfl (Nat.le_of_ble_eq_true rfl) (mh_obj _ _) dX4_keepReading_95 rfl ?_
  refine aw_h (mhp_4 _ _ _) ?_
  exact aw_xv (rfl) rfl dX4_keepReading_98
/-- what the model keeps between calls, as far as reading needs it -/
def mQ (σ : MSt) : Prop := (0 ≤ σ.1 11 ∧ σ.1 11 ≤ 600) ∧ (∀ k, -128 ≤ σ.2 10 k ∧ σ.2 10 k ≤ 127) ∧ (0 ≤ σ.1 18 ∧ σ.1 18 ≤ 5) ∧ (0 ≤ σ.1 19 ∧ σ.1 19 ≤ 9999) ∧ (0 ≤ σ.1 20 ∧ σ.1 20 < 1099511627776) ∧ (0 ≤ σ.1 17 ∧ σ.1 17 ≤ 600) ∧ (∀ k, 0 ≤ σ.2 23 k ∧ σ.2 23 k < 1099511627776) ∧ (∀ k, Rg (σ.2 1 k)) ∧ (∀ k, Rg (σ.2 24 k)) ∧ ∀ k, Rg (σ.2 26 k)
def d_0 (σ : MSt) : MSt := sF (sF (sF (sF (sF σ 0 0) 15 (σ.1 11)) 11 0) 16 0) 21 (-1)
def d_1 (σ : MSt) : MSt := k_readToken (k_beginReading (d_0 σ))
noncomputable def d_2 (σ : MSt) : MSt := k_lL 602 (d_1 σ)
noncomputable def d_3 (σ : MSt) : MSt := sF (d_2 σ) 12 ((d_2 σ).1 21)
noncomputable def k_load (σ : MSt) : MSt × Int := if wl (d_2 σ) then (k_keepReading (d_3 σ), rw_ (k_keepReading (d_3 σ)) 8) else (sF (d_3 σ) 0 1, 0)
theorem d_1_ok {σ : MSt} (h : mQ σ) : mRd (k_beginReading (d_0 σ)) ∧ mRd (d_1 σ) ∧ wl (d_1 σ) := by
  obtain ⟨h1, h2, h3, h4, h5, h6, h7, h8, h9, h10⟩ := h
  have r : mRd (k_beginReading (d_0 σ)) := by
    refine ⟨⟨⟨⟨Int.le_refl 0, h1.1⟩, h1, h2⟩, h3, h4, h5, h6⟩, ⟨Int.le_refl (-1), (by decide : (-1 : Int) ≤ 600)⟩, ⟨Int.le_refl 0, (by decide : (0 : Int) ≤ 4)⟩, ⟨Int.le_refl 0, (by decide : (0 : Int) ≤ 4)⟩, h7, ⟨?_, ?_⟩, ?_, h9, h10⟩
    · show 0 ≤ zfR (σ.2 1) 186 186 194 ∧ zfR (σ.2 1) 186 186 194 ≤ 20
      rw [zfR_at _ (by decide), if_pos (by decide)]
      decide
    · show 0 ≤ zfR (σ.2 1) 186 186 335 ∧ zfR (σ.2 1) 186 186 335 ≤ 6
      rw [zfR_at _ (by decide), if_pos (by decide)]
      decide
    · intro k
      show Rg (zfR (σ.2 1) 186 186 k)
      rw [zfR_at _ (by decide)]
      split
      · decide
      · exact h8 k
  exact ⟨r, k_readToken_rd r, k_readToken_wl r⟩
theorem l_load {l : Launch} {g : AG} {C : MCx} (hC : MOK C) {R : Option Value} {H1 : AH} (τ : MSt)
    (kk : mRd τ → AWc l g miX4_load 19 0 0 (fun r2 h2 => r2 = R ∧ h2 = H1) (fun _ _ _ => False) 0 0 (mh C τ) 57 [some (.ref C.1)] []) : ∀ (f : Nat) (σ : MSt), mRd σ → (wl σ → σ.1 15 - σ.1 16 < f) → k_lL f σ = τ → AWc l g miX4_load 19 0 0 (fun r2 h2 => r2 = R ∧ h2 = H1) (fun _ _ _ => False) 0 0 (mh C σ) 36 [some (.ref C.1)] [] := by
  intro f
  induction f with
  | zero =>
    intro σ hr hf e
    have h18 := hr.1.2.1
    have h16 := hr.1.1.1
    have e : σ = τ := e
    subst e
    refine aw_aload_n 37 dX4_load_36 rfl rfl ?_
    refine aw_xV 40 (m_isWell hC σ hr.w) mvX4_isWell q2200 (rdl (mh_obj _ _)) rfl rfl rfl (by decide) (by decide) (Nat.le_refl _) (Nat.le_refl _) rfl (Nat.le_of_ble_eq_true rfl) dX4_load_37 rfl ?_
    refine aw_if_eqB 57 43 dX4_load_40 rfl rfl (fun c_40 => ?_) (fun c_40 => (absurd (hf c_40) (by omega)))
    exact kk hr
  | succ f ih =>
    intro σ hr hf e
    have h18 := hr.1.2.1
    by_cases hL : wl σ ∧ ¬ σ.1 18 = 0
    · rw [show k_lL (f + 1) σ = k_lL f (k_readStatement σ) from if_pos hL] at e
      have t := k_readStatement_rx hr
      have e15 := t.1.2.2.1 15 (by decide)
      refine aw_aload_n 37 dX4_load_36 rfl rfl ?_
      refine aw_xV 40 (m_isWell hC σ hr.w) mvX4_isWell q2200 (rdl (mh_obj _ _)) rfl rfl rfl (by decide) (by decide) (Nat.le_refl _) (Nat.le_refl _) rfl (Nat.le_of_ble_eq_true rfl) dX4_load_37 rfl ?_
      refine aw_if_eqB 57 43 dX4_load_40 rfl rfl (fun c_40 => (absurd hL.1 c_40)) (fun c_40 => ?_)
      refine aw_aload_n 44 dX4_load_43 rfl rfl ?_
      refine aw_get 47 ci4 18 (by decide) q2049 (Or.inl rfl) (rdl (mh_obj _ _)) rfl dX4_load_44 rfl ?_
      refine aw_if_eq 57 50 (by omega) dX4_load_47 rfl rfl (fun c_47 => (absurd c_47 hL.2)) (fun c_47 => ?_)
      refine aw_aload_n 51 dX4_load_50 rfl rfl ?_
      refine aw_xVv 54 (m_readStatement hC σ hr) mvX4_readStatement q2204 (rdl (mh_obj _ _)) rfl rfl rfl (by decide) (by decide) (Nat.le_refl _) (Nat.le_refl _) rfl (Nat.le_of_ble_eq_true rfl) dX4_load_51 rfl ?_
      refine aw_goto 36 dX4_load_54 rfl ?_
      exact ih _ (k_readStatement_rd hr) (fun z => by have := t.2 z; have := hf hL.1; omega) e
    · rw [show k_lL (f + 1) σ = σ from if_neg hL] at e
      subst e
      refine aw_aload_n 37 dX4_load_36 rfl rfl ?_
      refine aw_xV 40 (m_isWell hC σ hr.w) mvX4_isWell q2200 (rdl (mh_obj _ _)) rfl rfl rfl (by decide) (by decide) (Nat.le_refl _) (Nat.le_refl _) rfl (Nat.le_of_ble_eq_true rfl) dX4_load_37 rfl ?_
      refine aw_if_eqB 57 43 dX4_load_40 rfl rfl (fun c_40 => ?_) (fun c_40 => ?_)
      · exact kk hr
      · refine aw_aload_n 44 dX4_load_43 rfl rfl ?_
        refine aw_get 47 ci4 18 (by decide) q2049 (Or.inl rfl) (rdl (mh_obj _ _)) rfl dX4_load_44 rfl ?_
        refine aw_if_eq 57 50 (by omega) dX4_load_47 rfl rfl (fun c_47 => ?_) (fun c_47 => (absurd ⟨c_40, c_47⟩ hL))
        exact kk hr
theorem m_load {l : Launch} {g : AG} {C : MCx} (hC : MOK C) (σ : MSt)  (hq : mQ σ) (ha : σ.1 2 = 0): AMx l g miX4_load 19 [.ref C.1] (mh C σ) (some (iv (k_load σ).2)) (mh C (k_load σ).1) := by
  refine aw_start 0 (by decide) rfl (Nat.le_of_ble_eq_true rfl) ?_
  show AWc l g miX4_load 19 0 0 _ _ 0 0 (mh C σ) 0 [some (.ref C.1)] []
  obtain ⟨r0, r1, w1⟩ := d_1_ok hq
  have h11 := hq.1
  have r2 := k_lL_ok 602 _ r1
  have e2 : (k_keepReading (d_3 σ)).1 2 = 0 := by
    show (d_2 σ).1 2 = 0
    refine (r2.2.2.2.1 2 (by decide)).trans ?_
    exact ((k_readToken_tm r0).2.1 2 (by decide)).trans ha
  refine aw_aload_n 1 dX4_load_0 rfl rfl ?_
  refine aw_iconst 2 dX4_load_1 rfl ?_
  refine aw_put 5 ci4 0 (by decide) q2031 (Or.inl rfl) rfl rfl rfl (Nat.le_of_ble_eq_true rfl) (mh_obj _ _) dX4_load_2 rfl ?_
  refine aw_h (mhp_0 _ _ _) ?_
  refine aw_aload_n 6 dX4_load_5 rfl rfl ?_
  refine aw_aload_n 7 dX4_load_6 rfl rfl ?_
  refine aw_get 10 ci4 11 (by decide) q2042 (Or.inl rfl) (rdl (mh_obj _ _)) rfl dX4_load_7 rfl ?_
  refine aw_put 13 ci4 15 (by decide) q2046 (Or.inl rfl) rfl rfl rfl (Nat.le_of_ble_eq_true rfl) (mh_obj _ _) dX4_load_10 rfl ?_
  refine aw_h (mhp_15 _ _ _) ?_
  refine aw_aload_n 14 dX4_load_13 rfl rfl ?_
  refine aw_iconst 15 dX4_load_14 rfl ?_
  refine aw_put 18 ci4 11 (by decide) q2042 (Or.inl rfl) rfl rfl rfl (Nat.le_of_ble_eq_true rfl) (mh_obj _ _) dX4_load_15 rfl ?_
  refine aw_h (mhp_11 _ _ _) ?_
  refine aw_aload_n 19 dX4_load_18 rfl rfl ?_
  refine aw_iconst 20 dX4_load_19 rfl ?_
  refine aw_put 23 ci4 16 (by decide) q2047 (Or.inl rfl) rfl rfl rfl (Nat.le_of_ble_eq_true rfl) (mh_obj _ _) dX4_load_20 rfl ?_
  refine aw_h (mhp_16 _ _ _) ?_
  refine aw_aload_n 24 dX4_load_23 rfl rfl ?_
  refine aw_iconst 25 dX4_load_24 rfl ?_
  refine aw_put 28 ci4 21 (by decide) q2052 (Or.inl rfl) rfl rfl rfl (Nat.le_of_ble_eq_true rfl) (mh_obj _ _) dX4_load_25 rfl ?_
  refine aw_h (mhp_21 _ _ _) ?_
  refine aw_h (show _ = mh C (d_0 σ) from rfl) ?_
  refine aw_aload_n 29 dX4_load_28 rfl rfl ?_
  refine aw_xVv 32 (m_beginReading hC _) mvX4_beginReading q2019 (rdl (mh_obj _ _)) rfl rfl rfl (by decide) (by decide) (Nat.le_refl _) (Nat.le_refl _) rfl (Nat.le_of_ble_eq_true rfl) dX4_load_29 rfl ?_
  refine aw_aload_n 33 dX4_load_32 rfl rfl ?_
  refine aw_xVv 36 (m_readToken hC _ r0.tx) mvX4_readToken q2170 (rdl (mh_obj _ _)) rfl rfl rfl (by decide) (by decide) (Nat.le_refl _) (Nat.le_refl _) rfl (Nat.le_of_ble_eq_true rfl) dX4_load_33 rfl ?_
  refine l_load hC (d_2 σ) (fun r3 => ?_) 602 (d_1 σ) r1 (fun _ => by have := r1.1.1.1; have := r1.1.1.2.1; omega) rfl
  refine aw_aload_n 58 dX4_load_57 rfl rfl ?_
  refine aw_aload_n 59 dX4_load_58 rfl rfl ?_
  refine aw_get 62 ci4 21 (by decide) q2052 (Or.inl rfl) (rdl (mh_obj _ _)) rfl dX4_load_59 rfl ?_
  refine aw_put 65 ci4 12 (by decide) q2043 (Or.inl rfl) rfl rfl rfl (Nat.le_of_ble_eq_true rfl) (mh_obj _ _) dX4_load_62 rfl ?_
  refine aw_h (mhp_12 _ _ _) ?_
  refine aw_h (show _ = mh C (d_3 σ) from rfl) ?_
  refine aw_aload_n 66 dX4_load_65 rfl rfl ?_
  refine aw_xV 69 (m_isWell hC (d_3 σ) r3.w) mvX4_isWell q2200 (rdl (mh_obj _ _)) rfl rfl rfl (by decide) (by decide) (Nat.le_refl _) (Nat.le_refl _) rfl (Nat.le_of_ble_eq_true rfl) dX4_load_66 rfl ?_
  refine aw_if_neB 78 72 dX4_load_69 rfl rfl (fun c_69 => ?_) (fun c_69 => ?_)
  · refine aw_aload_n 79 dX4_load_78 rfl rfl ?_
    refine aw_xVv 82 (m_keepReading hC (d_3 σ) r3.2.2.1) mvX4_keepReading q2023 (rdl (mh_obj _ _)) rfl rfl rfl (by decide) (by decide) (Nat.le_refl _) (Nat.le_refl _) rfl (Nat.le_of_ble_eq_true rfl) dX4_load_79 rfl ?_
    refine aw_aload_n 83 dX4_load_82 rfl rfl ?_
    refine aw_xV 86 (m_cueMany hC _ (Or.inl e2)) mvX4_cueMany q2259 (rdl (mh_obj _ _)) rfl rfl rfl (by decide) (by decide) (Nat.le_refl _) (Nat.le_refl _) rfl (Nat.le_of_ble_eq_true rfl) dX4_load_83 rfl ?_
    exact aw_xi (by unfold k_load; rw [if_pos (by assumption)]) (by unfold k_load; rw [if_pos (by assumption)]) rfl dX4_load_86
  · refine aw_aload_n 73 dX4_load_72 rfl rfl ?_
    refine aw_iconst 74 dX4_load_73 rfl ?_
    refine aw_xV 77 (m_fails hC (d_3 σ) _) mvX4_fails q2151 (rdl (mh_obj _ _)) rfl rfl rfl (by decide) (by decide) (Nat.le_refl _) (Nat.le_refl _) rfl (Nat.le_of_ble_eq_true rfl) dX4_load_74 rfl ?_
    exact aw_xi (by unfold k_load; rw [if_neg (by assumption)]) (by unfold k_load; rw [if_neg (by assumption)]) rfl dX4_load_77
