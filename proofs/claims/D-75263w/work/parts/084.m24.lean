/-! CameraMovesModel: what moves, travels, is fastest -/
set_option maxRecDepth 100000
theorem ob_Rg (s a : Int) : Rg (ob s a) := by
  have h := Int32.toInt_lt (Int32.ofInt s ||| ((1 : Int32) <<< (Int32.ofInt a &&& 31)))
  have h2 := Int32.le_toInt (Int32.ofInt s ||| ((1 : Int32) <<< (Int32.ofInt a &&& 31)))
  unfold ob
  omega
/-- which of the first n axes move -/
def mvm (σ : MSt) (f : Int) : Nat → Int
  | 0 => 0
  | n + 1 => if spA σ n f = 0 then mvm σ f n else ob (mvm σ f n) n
theorem mvm_Rg (σ : MSt) (f : Int) : ∀ n, Rg (mvm σ f n) := by
  intro n
  induction n with
  | zero => exact ⟨(by decide : (-2147483648 : Int) ≤ 0), (by decide : (0 : Int) ≤ 2147483647)⟩
  | succ n ih =>
    simp only [mvm]
    split
    · exact ih
    · exact ob_Rg _ _
def mvF (σ : MSt) (f : Int) : Int := mvm σ f (σ.1 5).toNat
theorem l_movingAt {l : Launch} {g : AG} {C : MCx} (hC : MOK C) {σ : MSt} (τ : MSt) (f : Int) (hr : mR σ) (hl : LD σ τ) (hf : 0 ≤ f ∧ f ≤ 999) : ∀ (n i : Nat), (i : Int) + n = σ.1 5 → AWc l g miX4_movingAt 12 0 0 (fun r2 h2 => r2 = some (iv (mvF σ f)) ∧ h2 = mh C τ) (fun _ _ _ => False) 0 0 (mh C τ) 4 [some (.ref C.1), some (iv f), some (iv (mvm σ f i)), some (iv i)] [] := by
  have h5 := hr.2.1
  have ht5 := hl.1.1 5 (by decide)
  intro n
  induction n with
  | zero =>
    intro i hi
    have e : (σ.1 5).toNat = i := by omega
    unfold mvF
    rw [e]
    refine aw_iload_n 5 dX4_movingAt_4 rfl rfl ?_
    refine aw_aload_n 6 dX4_movingAt_5 rfl rfl ?_
    refine aw_get 9 ci4 5 (by decide) q2036 (Or.inl rfl) (rdl (mh_obj _ _)) rfl dX4_movingAt_6 rfl ?_
    refine aw_icmp_ge 33 12 (by omega) dX4_movingAt_9 rfl rfl (fun c_9 => ?_) (fun c_9 => absurd c_9 (by omega))
    refine aw_iload_n 34 dX4_movingAt_33 rfl rfl ?_
    exact aw_xi (by rfl) (rfl) rfl dX4_movingAt_34
  | succ n ih =>
    intro i hi
    have ih := ih (i + 1) (by omega)
    have hs := spA_rg hr (a := (i : Int)) ⟨by omega, by omega⟩ hf.1 hf.2
    refine aw_iload_n 5 dX4_movingAt_4 rfl rfl ?_
    refine aw_aload_n 6 dX4_movingAt_5 rfl rfl ?_
    refine aw_get 9 ci4 5 (by decide) q2036 (Or.inl rfl) (rdl (mh_obj _ _)) rfl dX4_movingAt_6 rfl ?_
    refine aw_icmp_ge 33 12 (by omega) dX4_movingAt_9 rfl rfl (fun c_9 => absurd c_9 (by omega)) (fun c_9 => ?_)
    refine aw_aload_n 13 dX4_movingAt_12 rfl rfl ?_
    refine aw_iload_n 14 dX4_movingAt_13 rfl rfl ?_
    refine aw_iload_n 15 dX4_movingAt_14 rfl rfl ?_
    refine aw_xV 18 (m_speedAt hC τ _ _ (hl.2 i ⟨by omega, by omega⟩) (by omega) (by omega)) mvX4_speedAt q2420 (rdl (mh_obj _ _)) rfl rfl rfl (by decide) (by decide) (Nat.le_refl _) (Nat.le_refl _) rfl (Nat.le_of_ble_eq_true rfl) dX4_movingAt_15 rfl ?_
    refine aw_if_eq 27 21 (by omega) dX4_movingAt_18 rfl rfl (fun c_18 => ?_) (fun c_18 => ?_)
    · refine aw_iinc 30 dX4_movingAt_27 rfl rfl (as_3 rfl) (by decide) ?_
      refine aw_goto 4 dX4_movingAt_30 rfl ?_
      first | (rw [show mvm σ f (i + 1) = mvm σ f i from if_pos (by assumption)] at ih; exact ih) | (rw [show mvm σ f (i + 1) = ob (mvm σ f i) i from if_neg (by assumption)] at ih; exact ih)
    · refine aw_iload_n 22 dX4_movingAt_21 rfl rfl ?_
      refine aw_iconst 23 dX4_movingAt_22 rfl ?_
      refine aw_iload_n 24 dX4_movingAt_23 rfl rfl ?_
      refine aw_ishl 25 ((1 : Int32) <<< (Int32.ofInt (i : Int) &&& 31)).toInt dX4_movingAt_24 rfl (by exact i_of _) ?_
      refine aw_ior 26 (ob (mvm σ f i) i) dX4_movingAt_25 rfl (by exact ob_e _ _) ?_
      refine aw_istore_n 27 dX4_movingAt_26 rfl (as_2 rfl) (by decide) ?_
      refine aw_iinc 30 dX4_movingAt_27 rfl rfl (as_3 rfl) (by decide) ?_
      refine aw_goto 4 dX4_movingAt_30 rfl ?_
      first | (rw [show mvm σ f (i + 1) = mvm σ f i from if_pos (by assumption)] at ih; exact ih) | (rw [show mvm σ f (i + 1) = ob (mvm σ f i) i from if_neg (by assumption)] at ih; exact ih)
theorem m_movingAt {l : Launch} {g : AG} {C : MCx} (hC : MOK C) {σ : MSt} (τ : MSt) (f : Int) (hr : mR σ) (hl : LD σ τ) (hf : 0 ≤ f ∧ f ≤ 999) : AMx l g miX4_movingAt 12 [.ref C.1, iv f] (mh C τ) (some (iv (mvF σ f))) (mh C τ) := by
  have h5 := hr.2.1
  refine aw_start 2 (by decide) rfl (Nat.le_of_ble_eq_true rfl) ?_
  show AWc l g miX4_movingAt 12 0 0 _ _ 0 0 (mh C τ) 0 [some (.ref C.1), some (iv f), none, none] []
  refine aw_iconst 1 dX4_movingAt_0 rfl ?_
  refine aw_istore_n 2 dX4_movingAt_1 rfl (as_2 rfl) (by decide) ?_
  refine aw_iconst 3 dX4_movingAt_2 rfl ?_
  refine aw_istore_n 4 dX4_movingAt_3 rfl (as_3 rfl) (by decide) ?_
  exact l_movingAt hC τ f hr hl hf (σ.1 5).toNat 0 (by omega)
def o_moving (f : Int) (σ : MSt) : Int × Int := if isFr f then (0, mvF σ f) else (1, 0)
def k_onFr (f : Int) (σ : MSt) : MSt := if isFr f then k_laysAll σ else σ
/-- what was thrown stays -/
theorem LD.th {σ τ : MSt} (h : LD σ τ) : τ.1 0 = σ.1 0 := h.1.1 0 (by decide)
theorem m_moving {l : Launch} {g : AG} {C : MCx} (hC : MOK C) (σ : MSt) (f : Int) (hr : mR σ) (hT : mT σ) (hf : Rg f): AMx l g miX4_moving 17 [.ref C.1, iv f] (mh C σ) (some (iv (o_moving f (sF σ 0 0)).2)) (mh C (sF (k_onFr f (sF σ 0 0)) 0 (o_moving f (sF σ 0 0)).1)) := by
  refine aw_start 0 (by decide) rfl (Nat.le_of_ble_eq_true rfl) ?_
  show AWc l g miX4_moving 17 0 0 _ _ 0 0 (mh C σ) 0 [some (.ref C.1), some (iv f)] []
  have h0 : (sF σ 0 0).1 0 = 0 := rfl
  have hr : mR (sF σ 0 0) := hr
  have hT : mT (sF σ 0 0) := hT
  refine aw_aload_n 1 dX4_moving_0 rfl rfl ?_
  refine aw_iconst 2 dX4_moving_1 rfl ?_
  refine aw_put 5 ci4 0 (by decide) q2031 (Or.inl rfl) rfl rfl rfl (Nat.le_of_ble_eq_true rfl) (mh_obj _ _) dX4_moving_2 rfl ?_
  refine aw_h (mhp_0 _ _ _) ?_
  generalize sF σ 0 0 = σ at h0 hr hT ⊢
  have hl := k_laysAll_ok hr
  refine aw_iload_n 6 dX4_moving_5 rfl rfl ?_
  refine aw_xS 9 (m_isFrame _ (by omega)) msX4_isFrame q2401 rfl (by decide) (by decide) (Nat.le_refl _) (Nat.le_refl _) rfl (Nat.le_of_ble_eq_true rfl) dX4_moving_6 rfl ?_
  refine aw_if_neB 18 12 dX4_moving_9 rfl rfl (fun c_9 => ?_) (fun c_9 => ?_)
  · refine aw_aload_n 19 dX4_moving_18 rfl rfl ?_
    refine aw_xVv 22 (m_laysAll hC _ hr hT) mvX4_laysAll q2428 (rdl (mh_obj _ _)) rfl rfl rfl (by decide) (by decide) (Nat.le_refl _) (Nat.le_refl _) rfl (Nat.le_of_ble_eq_true rfl) dX4_moving_19 rfl ?_
    refine aw_aload_n 23 dX4_moving_22 rfl rfl ?_
    refine aw_iload_n 24 dX4_moving_23 rfl rfl ?_
    refine aw_xV 27 (m_movingAt hC _ _ hr hl (by omega)) mvX4_movingAt q2432 (rdl (mh_obj _ _)) rfl rfl rfl (by decide) (by decide) (Nat.le_refl _) (Nat.le_refl _) rfl (Nat.le_of_ble_eq_true rfl) dX4_moving_24 rfl ?_
    exact aw_xi (by unfold o_moving; first | (rw [if_pos (by assumption)]) | (rw [if_neg (by assumption)])) (by unfold o_moving k_onFr; rw [if_pos (by assumption), if_pos (by assumption)]; exact congrArg (mh C) (sF_id (hl.th.trans h0)).symm) rfl dX4_moving_27
  · refine aw_aload_n 13 dX4_moving_12 rfl rfl ?_
    refine aw_iconst 14 dX4_moving_13 rfl ?_
    refine aw_xV 17 (m_fails hC _ _) mvX4_fails q2151 (rdl (mh_obj _ _)) rfl rfl rfl (by decide) (by decide) (Nat.le_refl _) (Nat.le_refl _) rfl (Nat.le_of_ble_eq_true rfl) dX4_moving_14 rfl ?_
    exact aw_xi (by unfold o_moving; first | (rw [if_pos (by assumption)]) | (rw [if_neg (by assumption)])) (by unfold o_moving k_onFr; rw [if_neg (by assumption), if_neg (by assumption)]) rfl dX4_moving_17
/-- the last frame, up to n, in which something moves -/
def lmN (σ : MSt) : Nat → Nat
  | 0 => 0
  | n + 1 => if mvF σ ((n : Int) + 1) = 0 then lmN σ n else n + 1
theorem lmN_le (σ : MSt) : ∀ n, lmN σ n ≤ n := by
  intro n
  induction n with
  | zero => exact Nat.le_refl 0
  | succ n ih =>
    simp only [lmN]
    split <;> omega
theorem l_last {l : Launch} {g : AG} {C : MCx} (hC : MOK C) {σ : MSt} (τ : MSt) (hr : mR σ) (hl : LD σ τ) : ∀ (n : Nat), n ≤ 999 → AWc l g miX4_lastMoving 13 0 0 (fun r2 h2 => r2 = some (iv (lmN σ n)) ∧ h2 = mh C τ) (fun _ _ _ => False) 0 0 (mh C τ) 4 [some (.ref C.1), some (iv n)] [] := by
  intro n
  induction n with
  | zero =>
    intro hn
    refine aw_iload_n 5 dX4_lastMoving_4 rfl rfl ?_
    refine aw_if_le 22 8 (by omega) dX4_lastMoving_5 rfl rfl (fun c_5 => ?_) (fun c_5 => absurd c_5 (by omega))
    refine aw_iload_n 23 dX4_lastMoving_22 rfl rfl ?_
    exact aw_xi (by rfl) (rfl) rfl dX4_lastMoving_23
  | succ n ih =>
    intro hn
    have ih := ih (by omega)
    have hm := mvm_Rg σ ((n : Int) + 1) (σ.1 5).toNat
    have hm2 : mvF σ ((n : Int) + 1) = mvm σ ((n : Int) + 1) (σ.1 5).toNat := rfl
    refine aw_iload_n 5 dX4_lastMoving_4 rfl rfl ?_
    refine aw_if_le 22 8 (by omega) dX4_lastMoving_5 rfl rfl (fun c_5 => absurd c_5 (by omega)) (fun c_5 => ?_)
    refine aw_aload_n 9 dX4_lastMoving_8 rfl rfl ?_
    refine aw_iload_n 10 dX4_lastMoving_9 rfl rfl ?_
    refine aw_xV 13 (m_movingAt hC τ ((n : Int) + 1) hr hl (by omega)) mvX4_movingAt q2432 (rdl (mh_obj _ _)) rfl rfl rfl (by decide) (by decide) (Nat.le_refl _) (Nat.le_refl _) rfl (Nat.le_of_ble_eq_true rfl) dX4_lastMoving_10 rfl ?_
    refine aw_if_ne 22 16 (by omega) dX4_lastMoving_13 rfl rfl (fun c_13 => ?_) (fun c_13 => ?_)
    · refine aw_iload_n 23 dX4_lastMoving_22 rfl rfl ?_
      exact aw_xi (by exact (congrArg (fun x : Nat => (x : Int)) (show lmN σ (n + 1) = n + 1 from if_neg (by assumption))).symm) (rfl) rfl dX4_lastMoving_23
    · refine aw_iinc 19 dX4_lastMoving_16 rfl rfl (as_1 rfl) (by decide) ?_
      refine aw_goto 4 dX4_lastMoving_19 rfl ?_
      rw [show lmN σ (n + 1) = lmN σ n from if_pos (by assumption)]; refine aw_ls (ls' := [some (.ref C.1), some (iv (n : Int))]) (fun j v hv => ?_) ih; rw [show ((n + 1 : Nat) : Int) + -1 = n by omega]; exact hv
theorem m_lastMoving {l : Launch} {g : AG} {C : MCx} (hC : MOK C) {σ : MSt} (τ : MSt) (hr : mR σ) (hl : LD σ τ) : AMx l g miX4_lastMoving 13 [.ref C.1] (mh C τ) (some (iv (lmN σ 999))) (mh C τ) := by
  refine aw_start 1 (by decide) rfl (Nat.le_of_ble_eq_true rfl) ?_
  show AWc l g miX4_lastMoving 13 0 0 _ _ 0 0 (mh C τ) 0 [some (.ref C.1), none] []
  refine aw_sipush 3 dX4_lastMoving_0 rfl (by decide) ?_
  refine aw_istore_n 4 dX4_lastMoving_3 rfl (as_1 rfl) (by decide) ?_
  exact l_last hC τ hr hl 999 (by decide)
theorem m_end {l : Launch} {g : AG} {C : MCx} (hC : MOK C) (σ : MSt)  (hr : mR σ) (hT : mT σ): AMx l g miX4_end 17 [.ref C.1] (mh C σ) (some (iv (lmN (sF σ 0 0) 999))) (mh C (k_laysAll (sF σ 0 0))) := by
  refine aw_start 0 (by decide) rfl (Nat.le_of_ble_eq_true rfl) ?_
  show AWc l g miX4_end 17 0 0 _ _ 0 0 (mh C σ) 0 [some (.ref C.1)] []
  have hr : mR (sF σ 0 0) := hr
  have hT : mT (sF σ 0 0) := hT
  have hl := k_laysAll_ok hr
  refine aw_aload_n 1 dX4_end_0 rfl rfl ?_
  refine aw_iconst 2 dX4_end_1 rfl ?_
  refine aw_put 5 ci4 0 (by decide) q2031 (Or.inl rfl) rfl rfl rfl (Nat.le_of_ble_eq_true rfl) (mh_obj _ _) dX4_end_2 rfl ?_
  refine aw_h (mhp_0 _ _ _) ?_
  refine aw_aload_n 6 dX4_end_5 rfl rfl ?_
  refine aw_xVv 9 (m_laysAll hC _ hr hT) mvX4_laysAll q2428 (rdl (mh_obj _ _)) rfl rfl rfl (by decide) (by decide) (Nat.le_refl _) (Nat.le_refl _) rfl (Nat.le_of_ble_eq_true rfl) dX4_end_6 rfl ?_
  refine aw_aload_n 10 dX4_end_9 rfl rfl ?_
  refine aw_xV 13 (m_lastMoving hC _ hr hl) mvX4_lastMoving q2440 (rdl (mh_obj _ _)) rfl rfl rfl (by decide) (by decide) (Nat.le_refl _) (Nat.le_refl _) rfl (Nat.le_of_ble_eq_true rfl) dX4_end_10 rfl ?_
  exact aw_xi (by rfl) (rfl) rfl dX4_end_13
/-- how many of the first n frames nothing moves in -/
def stF (σ : MSt) : Nat → Int := sof (fun k => if mvF σ ((k : Int) + 1) = 0 then 1 else 0)
theorem stF_rg (σ : MSt) (n : Nat) : 0 ≤ stF σ n ∧ stF σ n ≤ n := by
  have := sof_rg (f := fun k => if mvF σ ((k : Int) + 1) = 0 then 1 else 0) (B := 1) (fun k => if01 _) n
  unfold stF
  omega
theorem l_still {l : Launch} {g : AG} {C : MCx} (hC : MOK C) {σ : MSt} (τ : MSt) (hr : mR σ) (hl : LD σ τ) : ∀ (n i : Nat), i + n = lmN σ 999 → AWc l g miX4_stillFrames 17 0 0 (fun r2 h2 => r2 = some (iv (stF σ (lmN σ 999))) ∧ h2 = mh C τ) (fun _ _ _ => False) 0 0 (mh C τ) 13 [some (.ref C.1), some (iv (stF σ i)), some (iv ((i : Int) + 1))] [] := by
  have hle := lmN_le σ 999
  intro n
  induction n with
  | zero =>
    intro i hi
    refine aw_iload_n 14 dX4_stillFrames_13 rfl rfl ?_
    refine aw_aload_n 15 dX4_stillFrames_14 rfl rfl ?_
    refine aw_xV 18 (m_lastMoving hC _ hr hl) mvX4_lastMoving q2440 (rdl (mh_obj _ _)) rfl rfl rfl (by decide) (by decide) (Nat.le_refl _) (Nat.le_refl _) rfl (Nat.le_of_ble_eq_true rfl) dX4_stillFrames_15 rfl ?_
    refine aw_icmp_gt 38 21 (by omega) dX4_stillFrames_18 rfl rfl (fun c_18 => ?_) (fun c_18 => absurd c_18 (by omega))
    refine aw_iload_n 39 dX4_stillFrames_38 rfl rfl ?_
    exact aw_xi (by rw [← hi]; rfl) (rfl) rfl dX4_stillFrames_39
  | succ n ih =>
    intro i hi
    have ih := ih (i + 1) (by omega)
    have hm := mvm_Rg σ ((i : Int) + 1) (σ.1 5).toNat
    have hm2 : mvF σ ((i : Int) + 1) = mvm σ ((i : Int) + 1) (σ.1 5).toNat := rfl
    refine aw_iload_n 14 dX4_stillFrames_13 rfl rfl ?_
    refine aw_aload_n 15 dX4_stillFrames_14 rfl rfl ?_
    refine aw_xV 18 (m_lastMoving hC _ hr hl) mvX4_lastMoving q2440 (rdl (mh_obj _ _)) rfl rfl rfl (by decide) (by decide) (Nat.le_refl _) (Nat.le_refl _) rfl (Nat.le_of_ble_eq_true rfl) dX4_stillFrames_15 rfl ?_
    refine aw_icmp_gt 38 21 (by omega) dX4_stillFrames_18 rfl rfl (fun c_18 => absurd c_18 (by omega)) (fun c_18 => ?_)
    refine aw_aload_n 22 dX4_stillFrames_21 rfl rfl ?_
    refine aw_iload_n 23 dX4_stillFrames_22 rfl rfl ?_
    refine aw_xV 26 (m_movingAt hC τ ((i : Int) + 1) hr hl (by omega)) mvX4_movingAt q2432 (rdl (mh_obj _ _)) rfl rfl rfl (by decide) (by decide) (Nat.le_refl _) (Nat.le_refl _) rfl (Nat.le_of_ble_eq_true rfl) dX4_stillFrames_23 rfl ?_
    refine aw_if_ne 32 29 (by omega) dX4_stillFrames_26 rfl rfl (fun c_26 => ?_) (fun c_26 => ?_)
    · refine aw_iinc 35 dX4_stillFrames_32 rfl rfl (as_2 rfl) (by decide) ?_
      refine aw_goto 13 dX4_stillFrames_35 rfl ?_
      first | (rw [show stF σ (i + 1) = stF σ i + 1 from congrArg (stF σ i + ·) (if_pos (by assumption))] at ih; exact ih) | (rw [show stF σ (i + 1) = stF σ i from (congrArg (stF σ i + ·) (if_neg (by assumption))).trans (Int.add_zero _)] at ih; exact ih)
    · refine aw_iinc 32 dX4_stillFrames_29 rfl rfl (as_1 rfl) (by decide) ?_
      refine aw_iinc 35 dX4_stillFrames_32 rfl rfl (as_2 rfl) (by decide) ?_
      refine aw_goto 13 dX4_stillFrames_35 rfl ?_
      first | (rw [show stF σ (i + 1) = stF σ i + 1 from congrArg (stF σ i + ·) (if_pos (by assumption))] at ih; exact ih) | (rw [show stF σ (i + 1) = stF σ i from (congrArg (stF σ i + ·) (if_neg (by assumption))).trans (Int.add_zero _)] at ih; exact ih)
theorem m_stillFrames {l : Launch} {g : AG} {C : MCx} (hC : MOK C) (σ : MSt)  (hr : mR σ) (hT : mT σ): AMx l g miX4_stillFrames 17 [.ref C.1] (mh C σ) (some (iv (stF (sF σ 0 0) (lmN (sF σ 0 0) 999)))) (mh C (k_laysAll (sF σ 0 0))) := by
  refine aw_start 2 (by decide) rfl (Nat.le_of_ble_eq_true rfl) ?_
  show AWc l g miX4_stillFrames 17 0 0 _ _ 0 0 (mh C σ) 0 [some (.ref C.1), none, none] []
  have hr : mR (sF σ 0 0) := hr
  have hT : mT (sF σ 0 0) := hT
  have hl := k_laysAll_ok hr
  refine aw_aload_n 1 dX4_stillFrames_0 rfl rfl ?_
  refine aw_iconst 2 dX4_stillFrames_1 rfl ?_
  refine aw_put 5 ci4 0 (by decide) q2031 (Or.inl rfl) rfl rfl rfl (Nat.le_of_ble_eq_true rfl) (mh_obj _ _) dX4_stillFrames_2 rfl ?_
  refine aw_h (mhp_0 _ _ _) ?_
  refine aw_aload_n 6 dX4_stillFrames_5 rfl rfl ?_
  refine aw_xVv 9 (m_laysAll hC _ hr hT) mvX4_laysAll q2428 (rdl (mh_obj _ _)) rfl rfl rfl (by decide) (by decide) (Nat.le_refl _) (Nat.le_refl _) rfl (Nat.le_of_ble_eq_true rfl) dX4_stillFrames_6 rfl ?_
  refine aw_iconst 10 dX4_stillFrames_9 rfl ?_
  refine aw_istore_n 11 dX4_stillFrames_10 rfl (as_1 rfl) (by decide) ?_
  refine aw_iconst 12 dX4_stillFrames_11 rfl ?_
  refine aw_istore_n 13 dX4_stillFrames_12 rfl (as_2 rfl) (by decide) ?_
  exact l_still hC _ hr hl (lmN (sF σ 0 0) 999) 0 (by omega)
/-- how far an axis travels in its first n frames -/
def trF (σ : MSt) (a : Int) : Nat → Int := sof (fun k => ab (spA σ a ((k : Int) + 1)))
theorem trF_rg {σ : MSt} (hr : mR σ) {a : Int} (ha : isAx σ a) : ∀ n : Nat, n ≤ 999 → 0 ≤ trF σ a n ∧ trF σ a n ≤ 99 * n := by
  intro n
  induction n with
  | zero => intro _; exact ⟨Int.le_refl 0, Int.le_refl 0⟩
  | succ n ih =>
    intro h
    have i := ih (by omega)
    have hs := spA_rg hr ha (f := (n : Int) + 1) (by omega) (by omega)
    have e : trF σ a (n + 1) = trF σ a n + ((spA σ a ((n : Int) + 1)).natAbs : Int) := rfl
    omega
theorem l_trav {l : Launch} {g : AG} {C : MCx} (hC : MOK C) {σ : MSt} (τ : MSt) (a : Int) (hr : mR σ) (ha : isAx σ a) (hl : LA σ τ a) : ∀ (n i : Nat), i + n = 999 → AWc l g miX4_travelledBy 16 0 0 (fun r2 h2 => r2 = some (iv (trF σ a 999)) ∧ h2 = mh C τ) (fun _ _ _ => False) 0 0 (mh C τ) 9 [some (.ref C.1), some (iv a), some (iv (trF σ a i)), some (iv ((i : Int) + 1))] [] := by
  have h5 := hr.2.1
  have ha1 := ha.1
  have ha2 := ha.2
  intro n
  induction n with
  | zero =>
    intro i hi
    have e : i = 999 := by omega
    subst e
    refine aw_iload_n 10 dX4_travelledBy_9 rfl rfl ?_
    refine aw_sipush 13 dX4_travelledBy_10 rfl (by decide) ?_
    refine aw_icmp_ge 34 16 (by omega) dX4_travelledBy_13 rfl rfl (fun c_13 => ?_) (fun c_13 => absurd c_13 (by omega))
    refine aw_iload_n 35 dX4_travelledBy_34 rfl rfl ?_
    exact aw_xi (by rfl) (rfl) rfl dX4_travelledBy_35
  | succ n ih =>
    intro i hi
    have ih := ih (i + 1) (by omega)
    have hs := spA_rg hr ha (f := (i : Int) + 1) (by omega) (by omega)
    refine aw_iload_n 10 dX4_travelledBy_9 rfl rfl ?_
    refine aw_sipush 13 dX4_travelledBy_10 rfl (by decide) ?_
    refine aw_icmp_ge 34 16 (by omega) dX4_travelledBy_13 rfl rfl (fun c_13 => absurd c_13 (by omega)) (fun c_13 => ?_)
    refine aw_iload_n 17 dX4_travelledBy_16 rfl rfl ?_
    refine aw_aload_n 18 dX4_travelledBy_17 rfl rfl ?_
    refine aw_iload_n 19 dX4_travelledBy_18 rfl rfl ?_
    refine aw_iload_n 20 dX4_travelledBy_19 rfl rfl ?_
    refine aw_xV 23 (m_speedAt hC _ _ _ hl (by omega) (by omega)) mvX4_speedAt q2420 (rdl (mh_obj _ _)) rfl rfl rfl (by decide) (by decide) (Nat.le_refl _) (Nat.le_refl _) rfl (Nat.le_of_ble_eq_true rfl) dX4_travelledBy_20 rfl ?_
    refine aw_xS 26 (m_plain _ (by omega)) msX4_plain q2327 rfl (by decide) (by decide) (Nat.le_refl _) (Nat.le_refl _) rfl (Nat.le_of_ble_eq_true rfl) dX4_travelledBy_23 rfl ?_
    refine aw_iadd 27 dX4_travelledBy_26 rfl ?_
    refine aw_istore_n 28 dX4_travelledBy_27 rfl (as_2 rfl) (by decide) ?_
    refine aw_iinc 31 dX4_travelledBy_28 rfl rfl (as_3 rfl) (by decide) ?_
    refine aw_goto 9 dX4_travelledBy_31 rfl ?_
    exact ih
theorem m_travelledBy {l : Launch} {g : AG} {C : MCx} (hC : MOK C) (σ : MSt) (a : Int) (hr : mR σ) (hT : mT σ) (ha : isAx σ a): AMx l g miX4_travelledBy 16 [.ref C.1, iv a] (mh C σ) (some (iv (trF σ a 999))) (mh C (k_lays a σ)) := by
  refine aw_start 2 (by decide) rfl (Nat.le_of_ble_eq_true rfl) ?_
  show AWc l g miX4_travelledBy 16 0 0 _ _ 0 0 (mh C σ) 0 [some (.ref C.1), some (iv a), none, none] []
  refine aw_aload_n 1 dX4_travelledBy_0 rfl rfl ?_
  refine aw_iload_n 2 dX4_travelledBy_1 rfl rfl ?_
  refine aw_xVv 5 (m_lays hC _ _ hr hT (by omega)) mvX4_lays q2404 (rdl (mh_obj _ _)) rfl rfl rfl (by decide) (by decide) (Nat.le_refl _) (Nat.le_refl _) rfl (Nat.le_of_ble_eq_true rfl) dX4_travelledBy_2 rfl ?_
  refine aw_iconst 6 dX4_travelledBy_5 rfl ?_
  refine aw_istore_n 7 dX4_travelledBy_6 rfl (as_2 rfl) (by decide) ?_
  refine aw_iconst 8 dX4_travelledBy_7 rfl ?_
  refine aw_istore_n 9 dX4_travelledBy_8 rfl (as_3 rfl) (by decide) ?_
  exact l_trav hC _ a hr ha (k_lays_la hr ha) 999 0 rfl
def o_travelled (a : Int) (σ : MSt) : Int × Int := if isAx σ a then (0, trF σ a 999) else (1, 0)
def k_onAx (a : Int) (σ : MSt) : MSt := if isAx σ a then k_lays a σ else σ
theorem k_lays_th {σ : MSt} (hr : mR σ) {a : Int} (ha : isAx σ a) : (k_lays a σ).1 0 = σ.1 0 := (k_lays_ok hr ha).1.1 0 (by decide)
theorem m_travelled {l : Launch} {g : AG} {C : MCx} (hC : MOK C) (σ : MSt) (a : Int) (hr : mR σ) (hT : mT σ) (ha : Rg a): AMx l g miX4_travelled 17 [.ref C.1, iv a] (mh C σ) (some (iv (o_travelled a (sF σ 0 0)).2)) (mh C (sF (k_onAx a (sF σ 0 0)) 0 (o_travelled a (sF σ 0 0)).1)) := by
  refine aw_start 0 (by decide) rfl (Nat.le_of_ble_eq_true rfl) ?_
  show AWc l g miX4_travelled 17 0 0 _ _ 0 0 (mh C σ) 0 [some (.ref C.1), some (iv a)] []
  have h0 : (sF σ 0 0).1 0 = 0 := rfl
  have hr : mR (sF σ 0 0) := hr
  have hT : mT (sF σ 0 0) := hT
  refine aw_aload_n 1 dX4_travelled_0 rfl rfl ?_
  refine aw_iconst 2 dX4_travelled_1 rfl ?_
  refine aw_put 5 ci4 0 (by decide) q2031 (Or.inl rfl) rfl rfl rfl (Nat.le_of_ble_eq_true rfl) (mh_obj _ _) dX4_travelled_2 rfl ?_
  refine aw_h (mhp_0 _ _ _) ?_
  generalize sF σ 0 0 = σ at h0 hr hT ⊢
  have h5 := hr.2.1
  refine aw_aload_n 6 dX4_travelled_5 rfl rfl ?_
  refine aw_iload_n 7 dX4_travelled_6 rfl rfl ?_
  refine aw_xV 10 (m_isAxis hC _ _ (by omega) (by omega)) mvX4_isAxis q2279 (rdl (mh_obj _ _)) rfl rfl rfl (by decide) (by decide) (Nat.le_refl _) (Nat.le_refl _) rfl (Nat.le_of_ble_eq_true rfl) dX4_travelled_7 rfl ?_
  refine aw_if_eqB 21 13 dX4_travelled_10 rfl rfl (fun c_10 => ?_) (fun c_10 => ?_)
  · refine aw_aload_n 22 dX4_travelled_21 rfl rfl ?_
    refine aw_iconst 23 dX4_travelled_22 rfl ?_
    refine aw_xV 26 (m_fails hC _ _) mvX4_fails q2151 (rdl (mh_obj _ _)) rfl rfl rfl (by decide) (by decide) (Nat.le_refl _) (Nat.le_refl _) rfl (Nat.le_of_ble_eq_true rfl) dX4_travelled_23 rfl ?_
    exact aw_xi (by unfold o_travelled; first | (rw [if_pos (by assumption)]) | (rw [if_neg (by assumption)])) (by unfold o_travelled k_onAx; first | (rw [if_pos (by assumption), if_pos (by assumption)]; exact congrArg (mh C) (sF_id (k := 0) (z := 0) ((k_lays_th hr (by assumption)).trans h0)).symm) | (rw [if_neg (by assumption), if_neg (by assumption)])) rfl dX4_travelled_26
  · refine aw_aload_n 14 dX4_travelled_13 rfl rfl ?_
    refine aw_iload_n 15 dX4_travelled_14 rfl rfl ?_
    refine aw_xV 18 (m_travelledBy hC _ _ hr hT (by omega)) mvX4_travelledBy q2452 (rdl (mh_obj _ _)) rfl rfl rfl (by decide) (by decide) (Nat.le_refl _) (Nat.le_refl _) rfl (Nat.le_of_ble_eq_true rfl) dX4_travelled_15 rfl ?_
    refine aw_goto 26 dX4_travelled_18 rfl ?_
    exact aw_xi (by unfold o_travelled; first | (rw [if_pos (by assumption)]) | (rw [if_neg (by assumption)])) (by unfold o_travelled k_onAx; first | (rw [if_pos (by assumption), if_pos (by assumption)]; exact congrArg (mh C) (sF_id (k := 0) (z := 0) ((k_lays_th hr (by assumption)).trans h0)).symm) | (rw [if_neg (by assumption), if_neg (by assumption)])) rfl dX4_travelled_26
/-- the fastest of the first n frames -/
def faF (σ : MSt) (a : Int) : Nat → Int
  | 0 => 0
  | n + 1 => if faF σ a n < ab (spA σ a ((n : Int) + 1)) then ab (spA σ a ((n : Int) + 1)) else faF σ a n
theorem faF_rg {σ : MSt} (hr : mR σ) {a : Int} (ha : isAx σ a) : ∀ n : Nat, n ≤ 999 → 0 ≤ faF σ a n ∧ faF σ a n ≤ 99 := by
  intro n
  induction n with
  | zero => intro _; exact ⟨Int.le_refl 0, (by decide : (0 : Int) ≤ 99)⟩
  | succ n ih =>
    intro h
    have i := ih (by omega)
    have hs := spA_rg hr ha (f := (n : Int) + 1) (by omega) (by omega)
    have hab : ab (spA σ a ((n : Int) + 1)) = ((spA σ a ((n : Int) + 1)).natAbs : Int) := rfl
    simp only [faF]
    split <;> omega
theorem l_fast {l : Launch} {g : AG} {C : MCx} (hC : MOK C) {σ : MSt} (τ : MSt) (a : Int) (H : AH) (hH : H = mh C τ) (hr : mR σ) (ha : isAx σ a) (hl : LA σ τ a) : ∀ (n i : Nat) (o : Option Value), i + n = 999 → AWc l g miX4_fastest 17 0 0 (fun r2 h2 => r2 = some (iv (faF σ a 999)) ∧ h2 = H) (fun _ _ _ => False) 0 0 (mh C τ) 28 [some (.ref C.1), some (iv a), some (iv (faF σ a i)), some (iv ((i : Int) + 1)), o] [] := by
  have h5 := hr.2.1
  have ha1 := ha.1
  have ha2 := ha.2
  intro n
  induction n with
  | zero =>
    intro i o hi
    have e : i = 999 := by omega
    subst e
    refine aw_iload_n 29 dX4_fastest_28 rfl rfl ?_
    refine aw_sipush 32 dX4_fastest_29 rfl (by decide) ?_
    refine aw_icmp_ge 65 35 (by omega) dX4_fastest_32 rfl rfl (fun c_32 => ?_) (fun c_32 => absurd c_32 (by omega))
    refine aw_iload_n 66 dX4_fastest_65 rfl rfl ?_
    exact aw_xi (by rfl) (hH.symm) rfl dX4_fastest_66
  | succ n ih =>
    intro i o hi
    have ih := fun o => ih (i + 1) o (by omega)
    have hs := spA_rg hr ha (f := (i : Int) + 1) (by omega) (by omega)
    have hg := faF_rg hr ha i (by omega)
    have hab : ab (spA σ a ((i : Int) + 1)) = ((spA σ a ((i : Int) + 1)).natAbs : Int) := rfl
    refine aw_iload_n 29 dX4_fastest_28 rfl rfl ?_
    refine aw_sipush 32 dX4_fastest_29 rfl (by decide) ?_
    refine aw_icmp_ge 65 35 (by omega) dX4_fastest_32 rfl rfl (fun c_32 => absurd c_32 (by omega)) (fun c_32 => ?_)
    refine aw_aload_n 36 dX4_fastest_35 rfl rfl ?_
    refine aw_iload_n 37 dX4_fastest_36 rfl rfl ?_
    refine aw_iload_n 38 dX4_fastest_37 rfl rfl ?_
    refine aw_xV 41 (m_speedAt hC _ _ _ hl (by omega) (by omega)) mvX4_speedAt q2420 (rdl (mh_obj _ _)) rfl rfl rfl (by decide) (by decide) (Nat.le_refl _) (Nat.le_refl _) rfl (Nat.le_of_ble_eq_true rfl) dX4_fastest_38 rfl ?_
    refine aw_xS 44 (m_plain _ (by omega)) msX4_plain q2327 rfl (by decide) (by decide) (Nat.le_refl _) (Nat.le_refl _) rfl (Nat.le_of_ble_eq_true rfl) dX4_fastest_41 rfl ?_
    refine aw_istore 46 dX4_fastest_44 rfl (as_4 rfl) (by decide) ?_
    refine aw_iload 48 dX4_fastest_46 rfl rfl ?_
    refine aw_iload_n 49 dX4_fastest_48 rfl rfl ?_
    refine aw_icmp_le 57 52 (by omega) dX4_fastest_49 rfl rfl (fun c_49 => ?_) (fun c_49 => ?_)
    · refine aw_iload_n 58 dX4_fastest_57 rfl rfl ?_
      refine aw_istore_n 59 dX4_fastest_58 rfl (as_2 rfl) (by decide) ?_
      refine aw_iinc 62 dX4_fastest_59 rfl rfl (as_3 rfl) (by decide) ?_
      refine aw_goto 28 dX4_fastest_62 rfl ?_
      first | (rw [show faF σ a (i + 1) = ab (spA σ a ((i : Int) + 1)) from if_pos (by omega)] at ih; exact ih _) | (rw [show faF σ a (i + 1) = faF σ a i from if_neg (by omega)] at ih; exact ih _)
    · refine aw_iload 54 dX4_fastest_52 rfl rfl ?_
      refine aw_goto 58 dX4_fastest_54 rfl ?_
      refine aw_istore_n 59 dX4_fastest_58 rfl (as_2 rfl) (by decide) ?_
      refine aw_iinc 62 dX4_fastest_59 rfl rfl (as_3 rfl) (by decide) ?_
      refine aw_goto 28 dX4_fastest_62 rfl ?_
      first | (rw [show faF σ a (i + 1) = ab (spA σ a ((i : Int) + 1)) from if_pos (by omega)] at ih; exact ih _) | (rw [show faF σ a (i + 1) = faF σ a i from if_neg (by omega)] at ih; exact ih _)
def o_fastest (a : Int) (σ : MSt) : Int × Int := if isAx σ a then (0, faF σ a 999) else (1, 0)
theorem m_fastest {l : Launch} {g : AG} {C : MCx} (hC : MOK C) (σ : MSt) (a : Int) (hr : mR σ) (hT : mT σ) (ha : Rg a): AMx l g miX4_fastest 17 [.ref C.1, iv a] (mh C σ) (some (iv (o_fastest a (sF σ 0 0)).2)) (mh C (sF (k_onAx a (sF σ 0 0)) 0 (o_fastest a (sF σ 0 0)).1)) := by
  refine aw_start 3 (by decide) rfl (Nat.le_of_ble_eq_true rfl) ?_
  show AWc l g miX4_fastest 17 0 0 _ _ 0 0 (mh C σ) 0 [some (.ref C.1), some (iv a), none, none, none] []
  have h0 : (sF σ 0 0).1 0 = 0 := rfl
  have hr : mR (sF σ 0 0) := hr
  have hT : mT (sF σ 0 0) := hT
  refine aw_aload_n 1 dX4_fastest_0 rfl rfl ?_
  refine aw_iconst 2 dX4_fastest_1 rfl ?_
  refine aw_put 5 ci4 0 (by decide) q2031 (Or.inl rfl) rfl rfl rfl (Nat.le_of_ble_eq_true rfl) (mh_obj _ _) dX4_fastest_2 rfl ?_
  refine aw_h (mhp_0 _ _ _) ?_
  generalize sF σ 0 0 = σ at h0 hr hT ⊢
  have h5 := hr.2.1
  refine aw_aload_n 6 dX4_fastest_5 rfl rfl ?_
  refine aw_iload_n 7 dX4_fastest_6 rfl rfl ?_
  refine aw_xV 10 (m_isAxis hC _ _ (by omega) (by omega)) mvX4_isAxis q2279 (rdl (mh_obj _ _)) rfl rfl rfl (by decide) (by decide) (Nat.le_refl _) (Nat.le_refl _) rfl (Nat.le_of_ble_eq_true rfl) dX4_fastest_7 rfl ?_
  refine aw_if_neB 19 13 dX4_fastest_10 rfl rfl (fun c_10 => ?_) (fun c_10 => ?_)
  · refine aw_aload_n 20 dX4_fastest_19 rfl rfl ?_
    refine aw_iload_n 21 dX4_fastest_20 rfl rfl ?_
    refine aw_xVv 24 (m_lays hC _ _ hr hT (by omega)) mvX4_lays q2404 (rdl (mh_obj _ _)) rfl rfl rfl (by decide) (by decide) (Nat.le_refl _) (Nat.le_refl _) rfl (Nat.le_of_ble_eq_true rfl) dX4_fastest_21 rfl ?_
    refine aw_iconst 25 dX4_fastest_24 rfl ?_
    refine aw_istore_n 26 dX4_fastest_25 rfl (as_2 rfl) (by decide) ?_
    refine aw_iconst 27 dX4_fastest_26 rfl ?_
    refine aw_istore_n 28 dX4_fastest_27 rfl (as_3 rfl) (by decide) ?_
    rw [show o_fastest a σ = (0, faF σ a 999) from if_pos (by assumption), show k_onAx a σ = k_lays a σ from if_pos (by assumption)]
    exact l_fast hC (k_lays a σ) a _ (congrArg (mh C) (sF_id (k := 0) (z := 0) ((k_lays_th hr (by assumption)).trans h0))) hr (by assumption) (k_lays_la hr (by assumption)) 999 0 _ rfl
  · refine aw_aload_n 14 dX4_fastest_13 rfl rfl ?_
    refine aw_iconst 15 dX4_fastest_14 rfl ?_
    refine aw_xV 18 (m_fails hC _ _) mvX4_fails q2151 (rdl (mh_obj _ _)) rfl rfl rfl (by decide) (by decide) (Nat.le_refl _) (Nat.le_refl _) rfl (Nat.le_of_ble_eq_true rfl) dX4_fastest_15 rfl ?_
    exact aw_xi (by unfold o_fastest; rw [if_neg (by assumption)]) (by unfold o_fastest k_onAx; rw [if_neg (by assumption), if_neg (by assumption)]) rfl dX4_fastest_18
