/-! CameraMovesModel: a move that is looked at -/
set_option maxRecDepth 100000
/-- the first peak from p on that is enough -/
def pkF (r g f : Int) : Nat → Int → Int
  | 0, p => p
  | n + 1, p => if g ≤ sm p r f then p else pkF r g f n (p + 1)
/-- the least peak for a distance g in f frames -/
def pk (r g f : Int) : Int := pkF r g f 100 0
theorem pkF_spec (r g f : Int) : ∀ (n : Nat) (p v : Int), g ≤ sm v r f → p ≤ v → v < p + n → g ≤ sm (pkF r g f n p) r f ∧ p ≤ pkF r g f n p ∧ pkF r g f n p ≤ v ∧ ∀ j, p ≤ j → j < pkF r g f n p → sm j r f < g := by
  intro n
  induction n with
  | zero => intro p v _ _ _; omega
  | succ n ih =>
    intro p v h h1 h2
    simp only [pkF]
    split
    · exact ⟨by assumption, by omega, by omega, fun j a b => by omega⟩
    · have : p ≠ v := by
        intro z
        subst z
        exact absurd h (by assumption)
      obtain ⟨a1, a2, a3, a4⟩ := ih (p + 1) v h (by omega) (by omega)
      refine ⟨a1, by omega, by omega, fun j b1 b2 => ?_⟩
      rcases (by omega : j = p ∨ p + 1 ≤ j) with z | z
      · subst z; omega
      · exact a4 j z b2
def sgn1 (d : Int) : Int := if d < 0 then -1 else 1
def k_looksAt (a d f : Int) (σ : MSt) : MSt := sF (sF (sF (sF (sF σ 29 (r_rp (rw_ σ) a)) 30 f) 31 (sgn1 d)) 27 (pk (r_rp (rw_ σ) a) (ab d) f)) 28 (sm (pk (r_rp (rw_ σ) a) (ab d) f) (r_rp (rw_ σ) a) f - ab d)
theorem l_looksAt {l : Launch} {g : AG} {C : MCx} (hC : MOK C) (σ : MSt) {a d f v : Int} (h29 : 1 ≤ σ.1 29 ∧ σ.1 29 ≤ 20) (hd : 0 ≤ ab d ∧ ab d ≤ 19998) (hf : 0 ≤ f ∧ f ≤ 20000) (hv : v ≤ 99) (hg : ab d ≤ sm v (σ.1 29) f) : ∀ (n : Nat) (p : Int), 0 ≤ p → p ≤ v → v < p + n → AWc l g miX4_looksAt 12 0 0 (fun r2 h2 => r2 = none ∧ h2 = mh C (sF (sF σ 27 (pkF (σ.1 29) (ab d) f n p)) 28 (sm (pkF (σ.1 29) (ab d) f n p) (σ.1 29) f - ab d))) (fun _ _ _ => False) 0 0 (mh C (sF σ 27 p)) 40 [some (.ref C.1), some (iv a), some (iv d), some (iv f), some (iv (ab d))] [] := by
  intro n
  induction n with
  | zero => intro p _ _ _; omega
  | succ n ih =>
    intro p h0 h1 h2
    have hs := sm_rg (v := p) (r := σ.1 29) (f := f) (by omega) (by omega) hf
    by_cases hL : ab d ≤ sm p (σ.1 29) f
    · rw [show pkF (σ.1 29) (ab d) f (n + 1) p = p from if_pos hL]
      refine aw_aload_n 41 dX4_looksAt_40 rfl rfl ?_
      refine aw_get 44 ci4 27 (by decide) q2058 (Or.inl rfl) (rdl (mh_obj _ _)) rfl dX4_looksAt_41 rfl ?_
      refine aw_aload_n 45 dX4_looksAt_44 rfl rfl ?_
      refine aw_get 48 ci4 29 (by decide) q2060 (Or.inl rfl) (rdl (mh_obj _ _)) rfl dX4_looksAt_45 rfl ?_
      refine aw_iload_n 49 dX4_looksAt_48 rfl rfl ?_
      refine aw_xS 52 (m_sumOf p (σ.1 29) f (by omega) h29 hf) msX4_sumOf q2334 rfl (by decide) (by decide) (Nat.le_refl _) (Nat.le_refl _) rfl (Nat.le_of_ble_eq_true rfl) dX4_looksAt_49 rfl ?_
      refine aw_iload 54 dX4_looksAt_52 rfl rfl ?_
      refine aw_icmp_ge 70 57 (by omega) dX4_looksAt_54 rfl rfl (fun c_54 => ?_) (fun c_54 => absurd c_54 (by omega))
      refine aw_aload_n 71 dX4_looksAt_70 rfl rfl ?_
      refine aw_aload_n 72 dX4_looksAt_71 rfl rfl ?_
      refine aw_get 75 ci4 27 (by decide) q2058 (Or.inl rfl) (rdl (mh_obj _ _)) rfl dX4_looksAt_72 rfl ?_
      refine aw_aload_n 76 dX4_looksAt_75 rfl rfl ?_
      refine aw_get 79 ci4 29 (by decide) q2060 (Or.inl rfl) (rdl (mh_obj _ _)) rfl dX4_looksAt_76 rfl ?_
      refine aw_iload_n 80 dX4_looksAt_79 rfl rfl ?_
      refine aw_xS 83 (m_sumOf p (σ.1 29) f (by omega) h29 hf) msX4_sumOf q2334 rfl (by decide) (by decide) (Nat.le_refl _) (Nat.le_refl _) rfl (Nat.le_of_ble_eq_true rfl) dX4_looksAt_80 rfl ?_
      refine aw_iload 85 dX4_looksAt_83 rfl rfl ?_
      refine aw_isub 86 dX4_looksAt_85 rfl ?_
      refine aw_put 89 ci4 28 (by decide) q2059 (Or.inl rfl) rfl rfl rfl (Nat.le_of_ble_eq_true rfl) (mh_obj _ _) dX4_looksAt_86 rfl ?_
      refine aw_h (mhp_28 _ _ _) ?_
      exact aw_xv (rfl) rfl dX4_looksAt_89
    · rw [show pkF (σ.1 29) (ab d) f (n + 1) p = pkF (σ.1 29) (ab d) f n (p + 1) from if_neg hL]
      have hne : p ≠ v := by
        intro z
        subst z
        exact absurd hg hL
      refine aw_aload_n 41 dX4_looksAt_40 rfl rfl ?_
      refine aw_get 44 ci4 27 (by decide) q2058 (Or.inl rfl) (rdl (mh_obj _ _)) rfl dX4_looksAt_41 rfl ?_
      refine aw_aload_n 45 dX4_looksAt_44 rfl rfl ?_
      refine aw_get 48 ci4 29 (by decide) q2060 (Or.inl rfl) (rdl (mh_obj _ _)) rfl dX4_looksAt_45 rfl ?_
      refine aw_iload_n 49 dX4_looksAt_48 rfl rfl ?_
      refine aw_xS 52 (m_sumOf p (σ.1 29) f (by omega) h29 hf) msX4_sumOf q2334 rfl (by decide) (by decide) (Nat.le_refl _) (Nat.le_refl _) rfl (Nat.le_of_ble_eq_true rfl) dX4_looksAt_49 rfl ?_
      refine aw_iload 54 dX4_looksAt_52 rfl rfl ?_
      refine aw_icmp_ge 70 57 (by omega) dX4_looksAt_54 rfl rfl (fun c_54 => absurd c_54 (by omega)) (fun c_54 => ?_)
      refine aw_aload_n 58 dX4_looksAt_57 rfl rfl ?_
      refine aw_dup 59 dX4_looksAt_58 rfl rfl ?_
      refine aw_get 62 ci4 27 (by decide) q2058 (Or.inl rfl) (rdl (mh_obj _ _)) rfl dX4_looksAt_59 rfl ?_
      refine aw_iconst 63 dX4_looksAt_62 rfl ?_
      refine aw_iadd 64 dX4_looksAt_63 rfl ?_
      refine aw_put 67 ci4 27 (by decide) q2058 (Or.inl rfl) rfl rfl rfl (Nat.le_of_ble_eq_true rfl) (mh_obj _ _) dX4_looksAt_64 rfl ?_
      refine aw_h (mhp_27 _ _ _) ?_
      refine aw_goto 40 dX4_looksAt_67 rfl ?_
      rw [sF_sF]; exact ih (p + 1) (by omega) (by omega) (by omega)
theorem m_looksAt {l : Launch} {g : AG} {C : MCx} (hC : MOK C) (σ : MSt) (a d f : Int) (hr : mR σ) (ha : isAx σ a) (hd : -19998 ≤ d ∧ d ≤ 19998) (hf : 0 ≤ f ∧ f ≤ 20000) (hg : ab d ≤ sm (r_sp (rw_ σ) a) (r_rp (rw_ σ) a) f): AMx l g miX4_looksAt 12 [.ref C.1, iv a, iv d, iv f] (mh C σ) (none) (mh C (k_looksAt a d f σ)) := by
  refine aw_start 1 (by decide) rfl (Nat.le_of_ble_eq_true rfl) ?_
  show AWc l g miX4_looksAt 12 0 0 _ _ 0 0 (mh C σ) 0 [some (.ref C.1), some (iv a), some (iv d), some (iv f), none] []
  obtain ⟨h1, h2, h3, h4⟩ := sm_v hr ha
  have h5 := hr.ax ha.1 ha.2
  have hab : ab d = (d.natAbs : Int) := rfl
  refine aw_iload_n 1 dX4_looksAt_0 rfl rfl ?_
  refine aw_xS 4 (m_plain _ (by omega)) msX4_plain q2327 rfl (by decide) (by decide) (Nat.le_refl _) (Nat.le_refl _) rfl (Nat.le_of_ble_eq_true rfl) dX4_looksAt_1 rfl ?_
  refine aw_istore 6 dX4_looksAt_4 rfl (as_4 rfl) (by decide) ?_
  refine aw_aload_n 7 dX4_looksAt_6 rfl rfl ?_
  refine aw_aload_n 8 dX4_looksAt_7 rfl rfl ?_
  refine aw_iconst 9 dX4_looksAt_8 rfl ?_
  refine aw_iload_n 10 dX4_looksAt_9 rfl rfl ?_
  refine aw_iadd 11 dX4_looksAt_10 rfl ?_
  refine aw_xV 14 (m_getR hC _ _ hr.1 h4) mvX4_get q2263 (rdl (mh_obj _ _)) rfl rfl rfl (by decide) (by decide) (Nat.le_refl _) (Nat.le_refl _) rfl (Nat.le_of_ble_eq_true rfl) dX4_looksAt_11 rfl ?_
  refine aw_put 17 ci4 29 (by decide) q2060 (Or.inl rfl) rfl rfl rfl (Nat.le_of_ble_eq_true rfl) (mh_obj _ _) dX4_looksAt_14 rfl ?_
  refine aw_h (mhp_29 _ _ _) ?_
  refine aw_aload_n 18 dX4_looksAt_17 rfl rfl ?_
  refine aw_iload_n 19 dX4_looksAt_18 rfl rfl ?_
  refine aw_put 22 ci4 30 (by decide) q2061 (Or.inl rfl) rfl rfl rfl (Nat.le_of_ble_eq_true rfl) (mh_obj _ _) dX4_looksAt_19 rfl ?_
  refine aw_h (mhp_30 _ _ _) ?_
  refine aw_aload_n 23 dX4_looksAt_22 rfl rfl ?_
  refine aw_join (sgn1 d) 32 ?_ (fun kz1 => ?_)
  · refine aw_put 35 ci4 31 (by decide) q2062 (Or.inl rfl) rfl rfl rfl (Nat.le_of_ble_eq_true rfl) (mh_obj _ _) dX4_looksAt_32 rfl ?_
    refine aw_h (mhp_31 _ _ _) ?_
    refine aw_aload_n 36 dX4_looksAt_35 rfl rfl ?_
    refine aw_iconst 37 dX4_looksAt_36 rfl ?_
    refine aw_put 40 ci4 27 (by decide) q2058 (Or.inl rfl) rfl rfl rfl (Nat.le_of_ble_eq_true rfl) (mh_obj _ _) dX4_looksAt_37 rfl ?_
    refine aw_h (mhp_27 _ _ _) ?_
    exact l_looksAt hC (sF (sF (sF σ 29 (r_rp (rw_ σ) a)) 30 f) 31 (sgn1 d)) (v := r_sp (rw_ σ) a) h2 (by omega) hf (by omega) hg 100 0 (by omega) (by omega) (by omega)
  · refine aw_iload_n 24 dX4_looksAt_23 rfl rfl ?_
    refine aw_if_ge 31 27 (by omega) dX4_looksAt_24 rfl rfl (fun c_24 => ?_) (fun c_24 => ?_)
    · refine aw_iconst 32 dX4_looksAt_31 rfl ?_
      exact kz1 _ (by unfold sgn1; first | exact (if_pos (by assumption)).symm | exact (if_neg (by omega)).symm)
    · refine aw_iconst 28 dX4_looksAt_27 rfl ?_
      refine aw_goto 32 dX4_looksAt_28 rfl ?_
      exact kz1 _ (by unfold sgn1; first | exact (if_pos (by assumption)).symm | exact (if_neg (by omega)).symm)
/-- the smallest of the peak and the ramps at both ends, in frame k of f -/
def rs (p r f k : Int) : Int := if r * (if k < f + 1 - k then k else f + 1 - k) < p then r * (if k < f + 1 - k then k else f + 1 - k) else p
/-- what a move that is looked at keeps -/
def mLk (σ : MSt) : Prop := (0 ≤ σ.1 27 ∧ σ.1 27 ≤ 99) ∧ (1 ≤ σ.1 29 ∧ σ.1 29 ≤ 20) ∧ (0 ≤ σ.1 30 ∧ σ.1 30 ≤ 999) ∧ (-1 ≤ σ.1 31 ∧ σ.1 31 ≤ 1) ∧ Rg (σ.1 28)
theorem m_rawSpeed {l : Launch} {g : AG} {C : MCx} (hC : MOK C) (σ : MSt) (k : Int) (hm : mLk σ) (hk : 1 ≤ k ∧ k ≤ σ.1 30): AMx l g miX4_rawSpeed 10 [.ref C.1, iv k] (mh C σ) (some (iv (rs (σ.1 27) (σ.1 29) (σ.1 30) k))) (mh C σ) := by
  refine aw_start 1 (by decide) rfl (Nat.le_of_ble_eq_true rfl) ?_
  show AWc l g miX4_rawSpeed 10 0 0 _ _ 0 0 (mh C σ) 0 [some (.ref C.1), some (iv k), none] []
  obtain ⟨h1, h2, h3, h4⟩ := hm
  have h5 := mul_rg 20 1000 (a := σ.1 29) (b := if k < σ.1 30 + 1 - k then k else σ.1 30 + 1 - k) (by omega) (by omega) (by split <;> omega) (by split <;> omega)
  refine aw_join ((if k < σ.1 30 + 1 - k then k else σ.1 30 + 1 - k)) 24 ?_ (fun kz1 => ?_)
  · refine aw_istore_n 25 dX4_rawSpeed_24 rfl (as_2 rfl) (by decide) ?_
    refine aw_aload_n 26 dX4_rawSpeed_25 rfl rfl ?_
    refine aw_get 29 ci4 29 (by decide) q2060 (Or.inl rfl) (rdl (mh_obj _ _)) rfl dX4_rawSpeed_26 rfl ?_
    refine aw_iload_n 30 dX4_rawSpeed_29 rfl rfl ?_
    refine aw_imul 31 dX4_rawSpeed_30 rfl ?_
    refine aw_aload_n 32 dX4_rawSpeed_31 rfl rfl ?_
    refine aw_get 35 ci4 27 (by decide) q2058 (Or.inl rfl) (rdl (mh_obj _ _)) rfl dX4_rawSpeed_32 rfl ?_
    refine aw_icmp_ge 47 38 (by omega) dX4_rawSpeed_35 rfl rfl (fun c_35 => ?_) (fun c_35 => ?_)
    · refine aw_aload_n 48 dX4_rawSpeed_47 rfl rfl ?_
      refine aw_get 51 ci4 27 (by decide) q2058 (Or.inl rfl) (rdl (mh_obj _ _)) rfl dX4_rawSpeed_48 rfl ?_
      exact aw_xi (by unfold rs; first | exact (if_pos (by assumption)).symm | exact (if_neg (by omega)).symm) (rfl) rfl dX4_rawSpeed_51
    · refine aw_aload_n 39 dX4_rawSpeed_38 rfl rfl ?_
      refine aw_get 42 ci4 29 (by decide) q2060 (Or.inl rfl) (rdl (mh_obj _ _)) rfl dX4_rawSpeed_39 rfl ?_
      refine aw_iload_n 43 dX4_rawSpeed_42 rfl rfl ?_
      refine aw_imul 44 dX4_rawSpeed_43 rfl ?_
      refine aw_goto 51 dX4_rawSpeed_44 rfl ?_
      exact aw_xi (by unfold rs; first | exact (if_pos (by assumption)).symm | exact (if_neg (by omega)).symm) (rfl) rfl dX4_rawSpeed_51
  · refine aw_iload_n 1 dX4_rawSpeed_0 rfl rfl ?_
    refine aw_aload_n 2 dX4_rawSpeed_1 rfl rfl ?_
    refine aw_get 5 ci4 30 (by decide) q2061 (Or.inl rfl) (rdl (mh_obj _ _)) rfl dX4_rawSpeed_2 rfl ?_
    refine aw_iconst 6 dX4_rawSpeed_5 rfl ?_
    refine aw_iadd 7 dX4_rawSpeed_6 rfl ?_
    refine aw_iload_n 8 dX4_rawSpeed_7 rfl rfl ?_
    refine aw_isub 9 dX4_rawSpeed_8 rfl ?_
    refine aw_icmp_ge 16 12 (by omega) dX4_rawSpeed_9 rfl rfl (fun c_9 => ?_) (fun c_9 => ?_)
    · refine aw_aload_n 17 dX4_rawSpeed_16 rfl rfl ?_
      refine aw_get 20 ci4 30 (by decide) q2061 (Or.inl rfl) (rdl (mh_obj _ _)) rfl dX4_rawSpeed_17 rfl ?_
      refine aw_iconst 21 dX4_rawSpeed_20 rfl ?_
      refine aw_iadd 22 dX4_rawSpeed_21 rfl ?_
      refine aw_iload_n 23 dX4_rawSpeed_22 rfl rfl ?_
      refine aw_isub 24 dX4_rawSpeed_23 rfl ?_
      exact kz1 _ (by first | exact (if_pos (by assumption)).symm | exact (if_neg (by omega)).symm)
    · refine aw_iload_n 13 dX4_rawSpeed_12 rfl rfl ?_
      refine aw_goto 24 dX4_rawSpeed_13 rfl ?_
      exact kz1 _ (by first | exact (if_pos (by assumption)).symm | exact (if_neg (by omega)).symm)
theorem rs_rg {p r f k : Int} (hp : 0 ≤ p ∧ p ≤ 99) (hr : 1 ≤ r ∧ r ≤ 20) (hk : 1 ≤ k ∧ k ≤ f) : 0 ≤ rs p r f k ∧ rs p r f k ≤ p := by
  unfold rs
  have h0 : 0 ≤ (if k < f + 1 - k then k else f + 1 - k) := by split <;> omega
  generalize (if k < f + 1 - k then k else f + 1 - k) = x at h0
  have h5 := Int.mul_nonneg (a := r) (b := x) (by omega) h0
  split <;> omega
/-- how many of the first n frames have the peak as their speed -/
def pc (p r f : Int) : Nat → Int
  | 0 => 0
  | n + 1 => pc p r f n + (if rs p r f ((n : Int) + 1) = p then 1 else 0)
theorem pc_rg (p r f : Int) : ∀ n : Nat, 0 ≤ pc p r f n ∧ pc p r f n ≤ n := by
  intro n
  induction n with
  | zero => exact ⟨Int.le_refl 0, Int.le_refl 0⟩
  | succ n ih =>
    simp only [pc]
    split <;> omega
theorem l_peaks {l : Launch} {g : AG} {C : MCx} (hC : MOK C) (σ : MSt) (hm : mLk σ) {k : Int} (hk : 0 ≤ k ∧ k ≤ σ.1 30) : ∀ (n i : Nat), (i : Int) + n = k → AWc l g miX4_peaksUpTo 11 0 0 (fun r2 h2 => r2 = some (iv (pc (σ.1 27) (σ.1 29) (σ.1 30) k.toNat)) ∧ h2 = mh C σ) (fun _ _ _ => False) 0 0 (mh C σ) 4 [some (.ref C.1), some (iv k), some (iv (pc (σ.1 27) (σ.1 29) (σ.1 30) i)), some (iv ((i : Int) + 1))] [] := by
  obtain ⟨h1, h2, h3, h4⟩ := id hm
  intro n
  induction n with
  | zero =>
    intro i hi
    have e : k.toNat = i := by omega
    rw [e]
    refine aw_iload_n 5 dX4_peaksUpTo_4 rfl rfl ?_
    refine aw_iload_n 6 dX4_peaksUpTo_5 rfl rfl ?_
    refine aw_icmp_gt 30 9 (by omega) dX4_peaksUpTo_6 rfl rfl (fun c_6 => ?_) (fun c_6 => absurd c_6 (by omega))
    refine aw_iload_n 31 dX4_peaksUpTo_30 rfl rfl ?_
    exact aw_xi (by rfl) (rfl) rfl dX4_peaksUpTo_31
  | succ n ih =>
    intro i hi
    have hs := rs_rg (p := σ.1 27) (r := σ.1 29) (f := σ.1 30) (k := (i : Int) + 1) h1 h2 (by omega)
    have ih := ih (i + 1) (by omega)
    refine aw_iload_n 5 dX4_peaksUpTo_4 rfl rfl ?_
    refine aw_iload_n 6 dX4_peaksUpTo_5 rfl rfl ?_
    refine aw_icmp_gt 30 9 (by omega) dX4_peaksUpTo_6 rfl rfl (fun c_6 => absurd c_6 (by omega)) (fun c_6 => ?_)
    refine aw_aload_n 10 dX4_peaksUpTo_9 rfl rfl ?_
    refine aw_iload_n 11 dX4_peaksUpTo_10 rfl rfl ?_
    refine aw_xV 14 (m_rawSpeed hC _ _ hm (by omega)) mvX4_rawSpeed q2349 (rdl (mh_obj _ _)) rfl rfl rfl (by decide) (by decide) (Nat.le_refl _) (Nat.le_refl _) rfl (Nat.le_of_ble_eq_true rfl) dX4_peaksUpTo_11 rfl ?_
    refine aw_aload_n 15 dX4_peaksUpTo_14 rfl rfl ?_
    refine aw_get 18 ci4 27 (by decide) q2058 (Or.inl rfl) (rdl (mh_obj _ _)) rfl dX4_peaksUpTo_15 rfl ?_
    refine aw_icmp_ne 24 21 (by omega) dX4_peaksUpTo_18 rfl rfl (fun c_18 => ?_) (fun c_18 => ?_)
    · refine aw_iinc 27 dX4_peaksUpTo_24 rfl rfl (as_3 rfl) (by decide) ?_
      refine aw_goto 4 dX4_peaksUpTo_27 rfl ?_
      first | (rw [show pc (σ.1 27) (σ.1 29) (σ.1 30) (i + 1) = pc (σ.1 27) (σ.1 29) (σ.1 30) i + 1 from congrArg _ (if_pos (by assumption))] at ih; exact ih) | (rw [show pc (σ.1 27) (σ.1 29) (σ.1 30) (i + 1) = pc (σ.1 27) (σ.1 29) (σ.1 30) i from (congrArg _ (if_neg (by assumption))).trans (Int.add_zero _)] at ih; exact ih)
    · refine aw_iinc 24 dX4_peaksUpTo_21 rfl rfl (as_2 rfl) (by decide) ?_
      refine aw_iinc 27 dX4_peaksUpTo_24 rfl rfl (as_3 rfl) (by decide) ?_
      refine aw_goto 4 dX4_peaksUpTo_27 rfl ?_
      first | (rw [show pc (σ.1 27) (σ.1 29) (σ.1 30) (i + 1) = pc (σ.1 27) (σ.1 29) (σ.1 30) i + 1 from congrArg _ (if_pos (by assumption))] at ih; exact ih) | (rw [show pc (σ.1 27) (σ.1 29) (σ.1 30) (i + 1) = pc (σ.1 27) (σ.1 29) (σ.1 30) i from (congrArg _ (if_neg (by assumption))).trans (Int.add_zero _)] at ih; exact ih)
theorem m_peaksUpTo {l : Launch} {g : AG} {C : MCx} (hC : MOK C) (σ : MSt) (k : Int) (hm : mLk σ) (hk : 0 ≤ k ∧ k ≤ σ.1 30): AMx l g miX4_peaksUpTo 11 [.ref C.1, iv k] (mh C σ) (some (iv (pc (σ.1 27) (σ.1 29) (σ.1 30) k.toNat))) (mh C σ) := by
  refine aw_start 2 (by decide) rfl (Nat.le_of_ble_eq_true rfl) ?_
  show AWc l g miX4_peaksUpTo 11 0 0 _ _ 0 0 (mh C σ) 0 [some (.ref C.1), some (iv k), none, none] []
  refine aw_iconst 1 dX4_peaksUpTo_0 rfl ?_
  refine aw_istore_n 2 dX4_peaksUpTo_1 rfl (as_2 rfl) (by decide) ?_
  refine aw_iconst 3 dX4_peaksUpTo_2 rfl ?_
  refine aw_istore_n 4 dX4_peaksUpTo_3 rfl (as_3 rfl) (by decide) ?_
  exact l_peaks hC σ hm hk k.toNat 0 (by omega)
/-- the speed in frame k -/
def spd (p r f e sg k : Int) : Int := sg * (if rs p r f k = p ∧ pc p r f k.toNat ≤ e then p - 1 else rs p r f k)
theorem m_speedIn {l : Launch} {g : AG} {C : MCx} (hC : MOK C) (σ : MSt) (k : Int) (hm : mLk σ) (hk : 1 ≤ k ∧ k ≤ σ.1 30): AMx l g miX4_speedIn 12 [.ref C.1, iv k] (mh C σ) (some (iv (spd (σ.1 27) (σ.1 29) (σ.1 30) (σ.1 28) (σ.1 31) k))) (mh C σ) := by
  refine aw_start 1 (by decide) rfl (Nat.le_of_ble_eq_true rfl) ?_
  show AWc l g miX4_speedIn 12 0 0 _ _ 0 0 (mh C σ) 0 [some (.ref C.1), some (iv k), none] []
  obtain ⟨h1, h2, h3, h4, h5⟩ := id hm
  have hs := rs_rg (p := σ.1 27) (r := σ.1 29) (f := σ.1 30) (k := k) h1 h2 hk
  have hp := pc_rg (σ.1 27) (σ.1 29) (σ.1 30) k.toNat
  refine aw_join (bI (rs (σ.1 27) (σ.1 29) (σ.1 30) k = σ.1 27 ∧ pc (σ.1 27) (σ.1 29) (σ.1 30) k.toNat ≤ σ.1 28)) 29 ?_ (fun kz1 => ?_)
  · refine aw_istore_n 30 dX4_speedIn_29 rfl (as_2 rfl) (by decide) ?_
    refine aw_aload_n 31 dX4_speedIn_30 rfl rfl ?_
    refine aw_get 34 ci4 31 (by decide) q2062 (Or.inl rfl) (rdl (mh_obj _ _)) rfl dX4_speedIn_31 rfl ?_
    refine aw_join ((if rs (σ.1 27) (σ.1 29) (σ.1 30) k = σ.1 27 ∧ pc (σ.1 27) (σ.1 29) (σ.1 30) k.toNat ≤ σ.1 28 then σ.1 27 - 1 else rs (σ.1 27) (σ.1 29) (σ.1 30) k)) 52 ?_ (fun kz2 => ?_)
    · refine aw_imul 53 dX4_speedIn_52 rfl ?_
      exact aw_xi (by rfl) (rfl) rfl dX4_speedIn_53
    · refine aw_iload_n 35 dX4_speedIn_34 rfl rfl ?_
      refine aw_if_eqB 47 38 dX4_speedIn_35 rfl rfl (fun c_35 => ?_) (fun c_35 => ?_)
      · refine aw_aload_n 48 dX4_speedIn_47 rfl rfl ?_
        refine aw_iload_n 49 dX4_speedIn_48 rfl rfl ?_
        refine aw_xV 52 (m_rawSpeed hC _ _ hm (by omega)) mvX4_rawSpeed q2349 (rdl (mh_obj _ _)) rfl rfl rfl (by decide) (by decide) (Nat.le_refl _) (Nat.le_refl _) rfl (Nat.le_of_ble_eq_true rfl) dX4_speedIn_49 rfl ?_
        exact kz2 _ (by first | exact (if_pos (by assumption)).symm | exact (if_neg (by assumption)).symm)
      · refine aw_aload_n 39 dX4_speedIn_38 rfl rfl ?_
        refine aw_get 42 ci4 27 (by decide) q2058 (Or.inl rfl) (rdl (mh_obj _ _)) rfl dX4_speedIn_39 rfl ?_
        refine aw_iconst 43 dX4_speedIn_42 rfl ?_
        refine aw_isub 44 dX4_speedIn_43 rfl ?_
        refine aw_goto 52 dX4_speedIn_44 rfl ?_
        exact kz2 _ (by first | exact (if_pos (by assumption)).symm | exact (if_neg (by assumption)).symm)
  · refine aw_aload_n 1 dX4_speedIn_0 rfl rfl ?_
    refine aw_iload_n 2 dX4_speedIn_1 rfl rfl ?_
    refine aw_xV 5 (m_rawSpeed hC _ _ hm (by omega)) mvX4_rawSpeed q2349 (rdl (mh_obj _ _)) rfl rfl rfl (by decide) (by decide) (Nat.le_refl _) (Nat.le_refl _) rfl (Nat.le_of_ble_eq_true rfl) dX4_speedIn_2 rfl ?_
    refine aw_aload_n 6 dX4_speedIn_5 rfl rfl ?_
    refine aw_get 9 ci4 27 (by decide) q2058 (Or.inl rfl) (rdl (mh_obj _ _)) rfl dX4_speedIn_6 rfl ?_
    refine aw_icmp_ne 28 12 (by omega) dX4_speedIn_9 rfl rfl (fun c_9 => ?_) (fun c_9 => ?_)
    · refine aw_iconst 29 dX4_speedIn_28 rfl ?_
      exact kz1 _ (by first | exact (bI_t (by first | assumption | omega | (refine ⟨?_, ?_⟩ <;> first | assumption | omega))).symm | exact (bI_f (by first | assumption | omega | (intro z; first | exact absurd z.1 (by assumption) | exact absurd z.2 (by assumption) | omega))).symm)
    · refine aw_aload_n 13 dX4_speedIn_12 rfl rfl ?_
      refine aw_iload_n 14 dX4_speedIn_13 rfl rfl ?_
      refine aw_xV 17 (m_peaksUpTo hC _ _ hm (by omega)) mvX4_peaksUpTo q2353 (rdl (mh_obj _ _)) rfl rfl rfl (by decide) (by decide) (Nat.le_refl _) (Nat.le_refl _) rfl (Nat.le_of_ble_eq_true rfl) dX4_speedIn_14 rfl ?_
      refine aw_aload_n 18 dX4_speedIn_17 rfl rfl ?_
      refine aw_get 21 ci4 28 (by decide) q2059 (Or.inl rfl) (rdl (mh_obj _ _)) rfl dX4_speedIn_18 rfl ?_
      refine aw_icmp_gt 28 24 (by omega) dX4_speedIn_21 rfl rfl (fun c_21 => ?_) (fun c_21 => ?_)
      · refine aw_iconst 29 dX4_speedIn_28 rfl ?_
        exact kz1 _ (by first | exact (bI_t (by first | assumption | omega | (refine ⟨?_, ?_⟩ <;> first | assumption | omega))).symm | exact (bI_f (by first | assumption | omega | (intro z; first | exact absurd z.1 (by assumption) | exact absurd z.2 (by assumption) | omega))).symm)
      · refine aw_iconst 25 dX4_speedIn_24 rfl ?_
        refine aw_goto 29 dX4_speedIn_25 rfl ?_
        exact kz1 _ (by first | exact (bI_t (by first | assumption | omega | (refine ⟨?_, ?_⟩ <;> first | assumption | omega))).symm | exact (bI_f (by first | assumption | omega | (intro z; first | exact absurd z.1 (by assumption) | exact absurd z.2 (by assumption) | omega))).symm)
