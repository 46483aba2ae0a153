/-! CameraMovesModel: the reader -/
set_option maxRecDepth 100000
abbrev wl (σ : MSt) : Prop := σ.1 21 = -1
theorem m_isWell {l : Launch} {g : AG} {C : MCx} (hC : MOK C) (σ : MSt)  (hw : Rg (σ.1 21)): AMx l g miX4_isWell 10 [.ref C.1] (mh C σ) (some (iv (bI (wl σ)))) (mh C σ) := by
  refine aw_start 0 (by decide) rfl (Nat.le_of_ble_eq_true rfl) ?_
  show AWc l g miX4_isWell 10 0 0 _ _ 0 0 (mh C σ) 0 [some (.ref C.1)] []
  refine aw_aload_n 1 dX4_isWell_0 rfl rfl ?_
  refine aw_get 4 ci4 21 (by decide) q2052 (Or.inl rfl) (rdl (mh_obj _ _)) rfl dX4_isWell_1 rfl ?_
  refine aw_iconst 5 dX4_isWell_4 rfl ?_
  refine aw_icmp_ne 12 8 (by omega) dX4_isWell_5 rfl rfl (fun c_5 => ?_) (fun c_5 => ?_)
  · refine aw_iconst 13 dX4_isWell_12 rfl ?_
    exact aw_xz0 (by omega) (rfl) rfl dX4_isWell_13
  · refine aw_iconst 9 dX4_isWell_8 rfl ?_
    refine aw_goto 13 dX4_isWell_9 rfl ?_
    exact aw_xz1 (by omega) (rfl) rfl dX4_isWell_13
def k_must (z : Int) (σ : MSt) : MSt := if z = 0 ∧ σ.1 21 = -1 then sF σ 21 (σ.1 17) else σ
theorem m_must {l : Launch} {g : AG} {C : MCx} (hC : MOK C) (σ : MSt) (z : Int) (hz : Rg z) (hw : Rg (σ.1 21)): AMx l g miX4_must 10 [.ref C.1, iv z] (mh C σ) (none) (mh C (k_must z σ)) := by
  refine aw_start 0 (by decide) rfl (Nat.le_of_ble_eq_true rfl) ?_
  show AWc l g miX4_must 10 0 0 _ _ 0 0 (mh C σ) 0 [some (.ref C.1), some (iv z)] []
  refine aw_iload_n 1 dX4_must_0 rfl rfl ?_
  refine aw_if_ne 20 4 (by omega) dX4_must_1 rfl rfl (fun c_1 => ?_) (fun c_1 => ?_)
  · exact aw_xv (by unfold k_must; first | rw [if_pos (by omega)] | rw [if_neg (by omega)]) rfl dX4_must_20
  · refine aw_aload_n 5 dX4_must_4 rfl rfl ?_
    refine aw_get 8 ci4 21 (by decide) q2052 (Or.inl rfl) (rdl (mh_obj _ _)) rfl dX4_must_5 rfl ?_
    refine aw_iconst 9 dX4_must_8 rfl ?_
    refine aw_icmp_ne 20 12 (by omega) dX4_must_9 rfl rfl (fun c_9 => ?_) (fun c_9 => ?_)
    · exact aw_xv (by unfold k_must; first | rw [if_pos (by omega)] | rw [if_neg (by omega)]) rfl dX4_must_20
    · refine aw_aload_n 13 dX4_must_12 rfl rfl ?_
      refine aw_aload_n 14 dX4_must_13 rfl rfl ?_
      refine aw_get 17 ci4 17 (by decide) q2048 (Or.inl rfl) (rdl (mh_obj _ _)) rfl dX4_must_14 rfl ?_
      refine aw_put 20 ci4 21 (by decide) q2052 (Or.inl rfl) rfl rfl rfl (Nat.le_of_ble_eq_true rfl) (mh_obj _ _) dX4_must_17 rfl ?_
      refine aw_h (mhp_21 _ _ _) ?_
      exact aw_xv (by unfold k_must; first | rw [if_pos (by omega)] | rw [if_neg (by omega)]) rfl dX4_must_20
def k_goesOn (σ : MSt) : MSt := if wl σ then k_readToken σ else σ
theorem m_goesOn {l : Launch} {g : AG} {C : MCx} (hC : MOK C) (σ : MSt)  (ht : mTx σ) (hw : Rg (σ.1 21)): AMx l g miX4_goesOn 14 [.ref C.1] (mh C σ) (none) (mh C (k_goesOn σ)) := by
  refine aw_start 0 (by decide) rfl (Nat.le_of_ble_eq_true rfl) ?_
  show AWc l g miX4_goesOn 14 0 0 _ _ 0 0 (mh C σ) 0 [some (.ref C.1)] []
  refine aw_aload_n 1 dX4_goesOn_0 rfl rfl ?_
  refine aw_xV 4 (m_isWell hC _ (by omega)) mvX4_isWell q2200 (rdl (mh_obj _ _)) rfl rfl rfl (by decide) (by decide) (Nat.le_refl _) (Nat.le_refl _) rfl (Nat.le_of_ble_eq_true rfl) dX4_goesOn_1 rfl ?_
  refine aw_if_eqB 11 7 dX4_goesOn_4 rfl rfl (fun c_4 => ?_) (fun c_4 => ?_)
  · exact aw_xv (by unfold k_goesOn; first | rw [if_pos (by assumption)] | rw [if_neg (by assumption)]) rfl dX4_goesOn_11
  · refine aw_aload_n 8 dX4_goesOn_7 rfl rfl ?_
    refine aw_xVv 11 (m_readToken hC _ (by assumption)) mvX4_readToken q2170 (rdl (mh_obj _ _)) rfl rfl rfl (by decide) (by decide) (Nat.le_refl _) (Nat.le_refl _) rfl (Nat.le_of_ble_eq_true rfl) dX4_goesOn_8 rfl ?_
    exact aw_xv (by unfold k_goesOn; first | rw [if_pos (by assumption)] | rw [if_neg (by assumption)]) rfl dX4_goesOn_11
def k_more (w z : Int) : Int := if z = 0 then w else 32 * w + z - 96
theorem m_more {l : Launch} {g : AG} {h : AH} (w z : Int) (hz : Rg z): AMx l g miX4_more 10 [jv w, iv z] h (some (jv (k_more w z))) h := by
  refine aw_start 0 (by decide) rfl (Nat.le_of_ble_eq_true rfl) ?_
  show AWc l g miX4_more 10 0 0 _ _ 0 0 h 0 [some (jv w), none, some (iv z)] []
  refine aw_iload_n 1 dX4_more_0 rfl rfl ?_
  refine aw_if_ne 8 4 (by omega) dX4_more_1 rfl rfl (fun c_1 => ?_) (fun c_1 => ?_)
  · refine aw_ldc2 11 (32) q2190 (by decide) dX4_more_8 rfl ?_
    refine aw_lload_n 12 dX4_more_11 rfl rfl ?_
    refine aw_lmul 13 dX4_more_12 rfl ?_
    refine aw_iload_n 14 dX4_more_13 rfl rfl ?_
    refine aw_i2l 15 dX4_more_14 rfl (by exact i2l_ok (by omega)) ?_
    refine aw_ladd 16 dX4_more_15 rfl ?_
    refine aw_ldc2 19 (96) q2214 (by decide) dX4_more_16 rfl ?_
    refine aw_lsub 20 dX4_more_19 rfl ?_
    exact aw_xj (by unfold k_more; first | rw [if_pos (by omega)] | rw [if_neg (by omega)]) (rfl) rfl dX4_more_20
  · refine aw_lload_n 5 dX4_more_4 rfl rfl ?_
    refine aw_goto 20 dX4_more_5 rfl ?_
    exact aw_xj (by unfold k_more; first | rw [if_pos (by omega)] | rw [if_neg (by omega)]) (rfl) rfl dX4_more_20
def k_spelled (a b c e f i j : Int) : Int := k_more (k_more (k_more (k_more (k_more (k_more (k_more 0 a) b) c) e) f) i) j
theorem m_spelled {l : Launch} {g : AG} {h : AH} (a b c e f i j : Int) (h1 : Rg a) (h2 : Rg b) (h3 : Rg c) (h4 : Rg e) (h5 : Rg f) (h6 : Rg i) (h7 : Rg j): AMx l g miX4_spelled 11 [iv a, iv b, iv c, iv e, iv f, iv i, iv j] h (some (jv (k_spelled a b c e f i j))) h := by
  refine aw_start 2 (by decide) rfl (Nat.le_of_ble_eq_true rfl) ?_
  show AWc l g miX4_spelled 11 0 0 _ _ 0 0 h 0 [some (iv a), some (iv b), some (iv c), some (iv e), some (iv f), some (iv i), some (iv j), none, none] []
  refine aw_lconst 1 0 dX4_spelled_0 rfl (by decide) ?_
  refine aw_iload_n 2 dX4_spelled_1 rfl rfl ?_
  refine aw_xS 5 (m_more _ _ (by omega)) msX4_more q2211 rfl (by decide) (by decide) (Nat.le_refl _) (Nat.le_refl _) rfl (Nat.le_of_ble_eq_true rfl) dX4_spelled_2 rfl ?_
  refine aw_iload_n 6 dX4_spelled_5 rfl rfl ?_
  refine aw_xS 9 (m_more _ _ (by omega)) msX4_more q2211 rfl (by decide) (by decide) (Nat.le_refl _) (Nat.le_refl _) rfl (Nat.le_of_ble_eq_true rfl) dX4_spelled_6 rfl ?_
  refine aw_iload_n 10 dX4_spelled_9 rfl rfl ?_
  refine aw_xS 13 (m_more _ _ (by omega)) msX4_more q2211 rfl (by decide) (by decide) (Nat.le_refl _) (Nat.le_refl _) rfl (Nat.le_of_ble_eq_true rfl) dX4_spelled_10 rfl ?_
  refine aw_iload_n 14 dX4_spelled_13 rfl rfl ?_
  refine aw_xS 17 (m_more _ _ (by omega)) msX4_more q2211 rfl (by decide) (by decide) (Nat.le_refl _) (Nat.le_refl _) rfl (Nat.le_of_ble_eq_true rfl) dX4_spelled_14 rfl ?_
  refine aw_lstore 19 dX4_spelled_17 rfl (as2_7 rfl) (by decide) ?_
  refine aw_lload 21 dX4_spelled_19 rfl rfl ?_
  refine aw_iload 23 dX4_spelled_21 rfl rfl ?_
  refine aw_xS 26 (m_more _ _ (by omega)) msX4_more q2211 rfl (by decide) (by decide) (Nat.le_refl _) (Nat.le_refl _) rfl (Nat.le_of_ble_eq_true rfl) dX4_spelled_23 rfl ?_
  refine aw_iload 28 dX4_spelled_26 rfl rfl ?_
  refine aw_xS 31 (m_more _ _ (by omega)) msX4_more q2211 rfl (by decide) (by decide) (Nat.le_refl _) (Nat.le_refl _) rfl (Nat.le_of_ble_eq_true rfl) dX4_spelled_28 rfl ?_
  refine aw_iload 33 dX4_spelled_31 rfl rfl ?_
  refine aw_xS 36 (m_more _ _ (by omega)) msX4_more q2211 rfl (by decide) (by decide) (Nat.le_refl _) (Nat.le_refl _) rfl (Nat.le_of_ble_eq_true rfl) dX4_spelled_33 rfl ?_
  exact aw_xj (by rfl) (rfl) rfl dX4_spelled_36
theorem m_isWord {l : Launch} {g : AG} {C : MCx} (hC : MOK C) (σ : MSt) (w : Int) (ht : Rg (σ.1 18)) (hw : Rj (σ.1 20)) (hw2 : Rj w): AMx l g miX4_isWord 10 [.ref C.1, jv w] (mh C σ) (some (iv (bI (σ.1 18 = 1 ∧ σ.1 20 = w)))) (mh C σ) := by
  refine aw_start 0 (by decide) rfl (Nat.le_of_ble_eq_true rfl) ?_
  show AWc l g miX4_isWord 10 0 0 _ _ 0 0 (mh C σ) 0 [some (.ref C.1), some (jv w), none] []
  refine aw_aload_n 1 dX4_isWord_0 rfl rfl ?_
  refine aw_get 4 ci4 18 (by decide) q2049 (Or.inl rfl) (rdl (mh_obj _ _)) rfl dX4_isWord_1 rfl ?_
  refine aw_iconst 5 dX4_isWord_4 rfl ?_
  refine aw_icmp_ne 21 8 (by omega) dX4_isWord_5 rfl rfl (fun c_5 => ?_) (fun c_5 => ?_)
  · refine aw_iconst 22 dX4_isWord_21 rfl ?_
    exact aw_xz0 (by omega) (rfl) rfl dX4_isWord_22
  · refine aw_aload_n 9 dX4_isWord_8 rfl rfl ?_
    refine aw_get 12 ci4 20 (by decide) q2051 (Or.inl rfl) (rdl (mh_obj _ _)) rfl dX4_isWord_9 rfl ?_
    refine aw_lload_n 13 dX4_isWord_12 rfl rfl ?_
    refine aw_lcmp 14 (by omega) dX4_isWord_13 rfl ?_
    refine aw_if_neC 21 17 dX4_isWord_14 rfl rfl (fun c_14 => ?_) (fun c_14 => ?_)
    · refine aw_iconst 22 dX4_isWord_21 rfl ?_
      exact aw_xz0 (by omega) (rfl) rfl dX4_isWord_22
    · refine aw_iconst 18 dX4_isWord_17 rfl ?_
      refine aw_goto 22 dX4_isWord_18 rfl ?_
      exact aw_xz1 (by omega) (rfl) rfl dX4_isWord_22
/-- n numbers from place d on, out of those from place s on -/
def cpR (f : Nat → Int) (s d : Int) : Nat → (Nat → Int)
  | 0 => f
  | n + 1 => va_up (cpR f s d n) (d + n).toNat (cpR f s d n (s + n).toNat)
theorem cpR_at (f : Nat → Int) {s d : Int} (hs : 0 ≤ s) (hd : 0 ≤ d) : ∀ (n : Nat) (j : Nat), (s + n ≤ d ∨ d + n ≤ s) → cpR f s d n j = if d ≤ j ∧ (j : Int) < d + n then f (s + (j - d)).toNat else f j := by
  intro n
  induction n with
  | zero => intro j _; rw [if_neg (by omega)]; rfl
  | succ n ih =>
    intro j hx
    show va_up (cpR f s d n) (d + n).toNat (cpR f s d n (s + n).toNat) j = _
    rw [va_up_at]
    by_cases hj : j = (d + n).toNat
    · rw [if_pos hj, if_pos (by omega), ih _ (by omega), if_neg (by omega)]
      congr 1
      omega
    · rw [if_neg hj, ih _ (by omega)]
      by_cases h2 : d ≤ j ∧ (j : Int) < d + n
      · rw [if_pos h2, if_pos (by omega)]
      · rw [if_neg h2, if_neg (by omega)]
def k_copyRow (x y : Int) (σ : MSt) : MSt := sR σ 1 (cpR (σ.2 1) (186 * x) (186 * y) 186)
theorem l_copyRow {l : Launch} {g : AG} {C : MCx} (hC : MOK C) (σ : MSt) (x y : Int) (hx : 0 ≤ x ∧ x < 12) (hy : 0 ≤ y ∧ y < 12) : ∀ (n i : Nat), i + n = 186 → AWc l g miX4_copyRow 10 0 0 (fun r2 h2 => r2 = none ∧ h2 = mh C (k_copyRow x y σ)) (fun _ _ _ => False) 0 0 (mh C (sR σ 1 (cpR (σ.2 1) (186 * x) (186 * y) i))) 2 [some (.ref C.1), some (iv x), some (iv y), some (iv (i : Int))] [] := by
  intro n
  induction n with
  | zero =>
    intro i hi
    have hi : i = 186 := by omega
    subst hi
    refine aw_iload_n 3 dX4_copyRow_2 rfl rfl ?_
    refine aw_sipush 6 dX4_copyRow_3 rfl (by decide) ?_
    refine aw_icmp_ge 39 9 (by omega) dX4_copyRow_6 rfl rfl (fun c_6 => ?_) (fun c_6 => absurd c_6 (by omega))
    exact aw_xv (rfl) rfl dX4_copyRow_39
  | succ n ih =>
    intro i hi
    refine aw_iload_n 3 dX4_copyRow_2 rfl rfl ?_
    refine aw_sipush 6 dX4_copyRow_3 rfl (by decide) ?_
    refine aw_icmp_ge 39 9 (by omega) dX4_copyRow_6 rfl rfl (fun c_6 => absurd c_6 (by omega)) (fun c_6 => ?_)
    refine aw_aload_n 10 dX4_copyRow_9 rfl rfl ?_
    refine aw_get 13 ci4 1 (by decide) q2032 (Or.inl rfl) (rdl (mh_obj _ _)) rfl dX4_copyRow_10 rfl ?_
    refine aw_sipush 16 dX4_copyRow_13 rfl (by decide) ?_
    refine aw_iload_n 17 dX4_copyRow_16 rfl rfl ?_
    refine aw_imul 18 dX4_copyRow_17 rfl ?_
    refine aw_iload_n 19 dX4_copyRow_18 rfl rfl ?_
    refine aw_iadd 20 dX4_copyRow_19 rfl ?_
    refine aw_aload_n 21 dX4_copyRow_20 rfl rfl ?_
    refine aw_get 24 ci4 1 (by decide) q2032 (Or.inl rfl) (rdl (mh_obj _ _)) rfl dX4_copyRow_21 rfl ?_
    refine aw_sipush 27 dX4_copyRow_24 rfl (by decide) ?_
    refine aw_iload_n 28 dX4_copyRow_27 rfl rfl ?_
    refine aw_imul 29 dX4_copyRow_28 rfl ?_
    refine aw_iload_n 30 dX4_copyRow_29 rfl rfl ?_
    refine aw_iadd 31 dX4_copyRow_30 rfl ?_
    refine aw_iald 32 (rdl (mh_1 hC _)) (by omega) dX4_copyRow_31 rfl (by decide) ?_
    refine aw_iast 33 (mh_1 hC _) (by omega) dX4_copyRow_32 rfl (by decide) ?_
    refine aw_h (mhs_1 hC _ _) ?_
    refine aw_iinc 36 dX4_copyRow_33 rfl rfl (as_3 rfl) (by decide) ?_
    refine aw_goto 2 dX4_copyRow_36 rfl ?_
    rw [sR_sR]; exact ih (i + 1) (by omega)
theorem m_copyRow {l : Launch} {g : AG} {C : MCx} (hC : MOK C) (σ : MSt) (x y : Int) (hx : 0 ≤ x ∧ x < 12) (hy : 0 ≤ y ∧ y < 12): AMx l g miX4_copyRow 10 [.ref C.1, iv x, iv y] (mh C σ) (none) (mh C (k_copyRow x y σ)) := by
  refine aw_start 1 (by decide) rfl (Nat.le_of_ble_eq_true rfl) ?_
  show AWc l g miX4_copyRow 10 0 0 _ _ 0 0 (mh C σ) 0 [some (.ref C.1), some (iv x), some (iv y), none] []
  refine aw_iconst 1 dX4_copyRow_0 rfl ?_
  refine aw_istore_n 2 dX4_copyRow_1 rfl (as_3 rfl) (by decide) ?_
  exact aw_h (congrArg (mh C) (sR_id rfl).symm) (l_copyRow hC σ x y hx hy 186 0 rfl)
