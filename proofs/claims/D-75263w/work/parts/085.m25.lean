/-! CameraMovesModel: mean speed, walls -/
set_option maxRecDepth 100000
theorem aw_dconst0 {l : Launch} {g : AG} {mi : MI} {d mc ms : Nat} {Q : Option Value → AH → Prop} {X : String → Nat → AH → Prop} {cells slots : Nat} {h : AH} {pc : Nat} {ls : List (Option Value)} {st : List Value} (n : Nat) (hd : decode mi.2.1 pc = .ok (.dconst 0, 1)) (hn : pc + 1 = n) (k : AWc l g mi d mc ms Q X cells slots h n ls (.double FP.dconst0 :: st)) : AWc l g mi d mc ms Q X cells slots h pc ls st := by
  intro p e s m args below meth c H locs lsA F B L
  subst hn
  exact lv_dconst0 F.2.1 F.2.2.1 hd (k p e s m args below meth c H locs lsA F B L)
/-- in how many of the first n frames an axis moves -/
def nzF (σ : MSt) (a : Int) : Nat → Int := sof (fun k => if spA σ a ((k : Int) + 1) = 0 then 0 else 1)
theorem nzF_rg (σ : MSt) (a : Int) (n : Nat) : 0 ≤ nzF σ a n ∧ nzF σ a n ≤ n := by
  have := sof_rg (f := fun k => if spA σ a ((k : Int) + 1) = 0 then 0 else 1) (B := 1) (fun k => by split <;> omega) n
  unfold nzF
  omega
def mean (σ : MSt) (a : Int) : UInt64 := if nzF σ a 999 = 0 then FP.dconst0 else FP.ddiv (FP.i2d (Int32.ofInt (trF σ a 999))) (FP.i2d (Int32.ofInt (nzF σ a 999)))
def o_mean (a : Int) (σ : MSt) : Int × UInt64 := if isAx σ a then (0, mean σ a) else (1, FP.i2d (Int32.ofInt 0))
theorem l_mean {l : Launch} {g : AG} {C : MCx} (hC : MOK C) {σ : MSt} (τ : MSt) (a : Int) (H : AH) (hH : H = mh C τ) (hr : mR σ) (ha : isAx σ a) (hl : LA σ τ a) : ∀ (n i : Nat), i + n = 999 → AWc l g miX4_meanSpeed 17 0 0 (fun r2 h2 => r2 = some (.double (mean σ a)) ∧ h2 = H) (fun _ _ _ => False) 0 0 (mh C τ) 31 [some (.ref C.1), some (iv a), some (iv (trF σ a 999)), some (iv (nzF σ a i)), some (iv ((i : Int) + 1))] [] := by
  have h5 := hr.2.1
  have ha1 := ha.1
  have ha2 := ha.2
  intro n
  induction n with
  | zero =>
    intro i hi
    have e : i = 999 := by omega
    subst e
    have hn := nzF_rg σ a 999
    have hz : ¬ nzF σ a 999 = 0 → Int32.ofInt (nzF σ a 999) ≠ 0 := fun h z => h (by have := i_to (z := nzF σ a 999) ⟨by omega, by omega⟩; rw [z] at this; exact this.symm)
    refine aw_iload 33 dX4_meanSpeed_31 rfl rfl ?_
    refine aw_sipush 36 dX4_meanSpeed_33 rfl (by decide) ?_
    refine aw_icmp_ge 58 39 (by omega) dX4_meanSpeed_36 rfl rfl (fun c_36 => ?_) (fun c_36 => absurd c_36 (by omega))
    refine aw_iload_n 59 dX4_meanSpeed_58 rfl rfl ?_
    refine aw_if_ne 66 62 (by omega) dX4_meanSpeed_59 rfl rfl (fun c_59 => ?_) (fun c_59 => ?_)
    · rw [show mean σ a = FP.ddiv (FP.i2d (Int32.ofInt (trF σ a 999))) (FP.i2d (Int32.ofInt (nzF σ a 999))) from if_neg (by assumption)]
      refine aw_iload_n 67 dX4_meanSpeed_66 rfl rfl ?_
      refine aw_i2d 68 dX4_meanSpeed_67 rfl ?_
      refine aw_iload_n 69 dX4_meanSpeed_68 rfl rfl ?_
      refine aw_i2d 70 dX4_meanSpeed_69 rfl ?_
      refine aw_ddiv 71 dX4_meanSpeed_70 rfl (by exact n64_div (hz (by assumption))) ?_
      exact aw_dret ⟨rfl, hH.symm⟩ rfl dX4_meanSpeed_71 (Nat.le_refl _) (Nat.le_refl _)
    · rw [show mean σ a = FP.dconst0 from if_pos (by assumption)]
      refine aw_dconst0 63 dX4_meanSpeed_62 rfl ?_
      refine aw_goto 71 dX4_meanSpeed_63 rfl ?_
      exact aw_dret ⟨rfl, hH.symm⟩ rfl dX4_meanSpeed_71 (Nat.le_refl _) (Nat.le_refl _)
  | succ n ih =>
    intro i hi
    have ih := ih (i + 1) (by omega)
    have hs := spA_rg hr ha (f := (i : Int) + 1) (by omega) (by omega)
    refine aw_iload 33 dX4_meanSpeed_31 rfl rfl ?_
    refine aw_sipush 36 dX4_meanSpeed_33 rfl (by decide) ?_
    refine aw_icmp_ge 58 39 (by omega) dX4_meanSpeed_36 rfl rfl (fun c_36 => absurd c_36 (by omega)) (fun c_36 => ?_)
    refine aw_aload_n 40 dX4_meanSpeed_39 rfl rfl ?_
    refine aw_iload_n 41 dX4_meanSpeed_40 rfl rfl ?_
    refine aw_iload 43 dX4_meanSpeed_41 rfl rfl ?_
    refine aw_xV 46 (m_speedAt hC _ _ _ hl (by omega) (by omega)) mvX4_speedAt q2420 (rdl (mh_obj _ _)) rfl rfl rfl (by decide) (by decide) (Nat.le_refl _) (Nat.le_refl _) rfl (Nat.le_of_ble_eq_true rfl) dX4_meanSpeed_43 rfl ?_
    refine aw_if_eq 52 49 (by omega) dX4_meanSpeed_46 rfl rfl (fun c_46 => ?_) (fun c_46 => ?_)
    · refine aw_iinc 55 dX4_meanSpeed_52 rfl rfl (as_4 rfl) (by decide) ?_
      refine aw_goto 31 dX4_meanSpeed_55 rfl ?_
      first | (rw [show nzF σ a (i + 1) = nzF σ a i + 1 from congrArg (nzF σ a i + ·) (if_neg (by assumption))] at ih; exact ih) | (rw [show nzF σ a (i + 1) = nzF σ a i from (congrArg (nzF σ a i + ·) (if_pos (by assumption))).trans (Int.add_zero _)] at ih; exact ih)
    · refine aw_iinc 52 dX4_meanSpeed_49 rfl rfl (as_3 rfl) (by decide) ?_
      refine aw_iinc 55 dX4_meanSpeed_52 rfl rfl (as_4 rfl) (by decide) ?_
      refine aw_goto 31 dX4_meanSpeed_55 rfl ?_
      first | (rw [show nzF σ a (i + 1) = nzF σ a i + 1 from congrArg (nzF σ a i + ·) (if_neg (by assumption))] at ih; exact ih) | (rw [show nzF σ a (i + 1) = nzF σ a i from (congrArg (nzF σ a i + ·) (if_pos (by assumption))).trans (Int.add_zero _)] at ih; exact ih)
theorem m_meanSpeed {l : Launch} {g : AG} {C : MCx} (hC : MOK C) (σ : MSt) (a : Int) (hr : mR σ) (hT : mT σ) (ha : Rg a) : AMx l g miX4_meanSpeed 17 [.ref C.1, iv a] (mh C σ) (some (.double (o_mean a (sF σ 0 0)).2)) (mh C (sF (k_onAx a (sF σ 0 0)) 0 (o_mean a (sF σ 0 0)).1)) := by
  refine aw_start 3 (by decide) rfl (Nat.le_of_ble_eq_true rfl) ?_
  show AWc l g miX4_meanSpeed 17 0 0 _ _ 0 0 (mh C σ) 0 [some (.ref C.1), some (iv a), none, none, none] []
  have h0 : (sF σ 0 0).1 0 = 0 := rfl
  have hr : mR (sF σ 0 0) := hr
  have hT : mT (sF σ 0 0) := hT
  refine aw_aload_n 1 dX4_meanSpeed_0 rfl rfl ?_
  refine aw_iconst 2 dX4_meanSpeed_1 rfl ?_
  refine aw_put 5 ci4 0 (by decide) q2031 (Or.inl rfl) rfl rfl rfl (Nat.le_of_ble_eq_true rfl) (mh_obj _ _) dX4_meanSpeed_2 rfl ?_
  refine aw_h (mhp_0 _ _ _) ?_
  generalize sF σ 0 0 = σ at h0 hr hT ⊢
  have h5 := hr.2.1
  refine aw_aload_n 6 dX4_meanSpeed_5 rfl rfl ?_
  refine aw_iload_n 7 dX4_meanSpeed_6 rfl rfl ?_
  refine aw_xV 10 (m_isAxis hC _ _ (by omega) (by omega)) mvX4_isAxis q2279 (rdl (mh_obj _ _)) rfl rfl rfl (by decide) (by decide) (Nat.le_refl _) (Nat.le_refl _) rfl (Nat.le_of_ble_eq_true rfl) dX4_meanSpeed_7 rfl ?_
  refine aw_if_neB 20 13 dX4_meanSpeed_10 rfl rfl (fun c_10 => ?_) (fun c_10 => ?_)
  · rw [show o_mean a σ = (0, mean σ a) from if_pos (by assumption), show k_onAx a σ = k_lays a σ from if_pos (by assumption)]
    refine aw_aload_n 21 dX4_meanSpeed_20 rfl rfl ?_
    refine aw_iload_n 22 dX4_meanSpeed_21 rfl rfl ?_
    refine aw_xV 25 (m_travelledBy hC _ _ hr hT (by omega)) mvX4_travelledBy q2452 (rdl (mh_obj _ _)) rfl rfl rfl (by decide) (by decide) (Nat.le_refl _) (Nat.le_refl _) rfl (Nat.le_of_ble_eq_true rfl) dX4_meanSpeed_22 rfl ?_
    refine aw_istore_n 26 dX4_meanSpeed_25 rfl (as_2 rfl) (by decide) ?_
    refine aw_iconst 27 dX4_meanSpeed_26 rfl ?_
    refine aw_istore_n 28 dX4_meanSpeed_27 rfl (as_3 rfl) (by decide) ?_
    refine aw_iconst 29 dX4_meanSpeed_28 rfl ?_
    refine aw_istore 31 dX4_meanSpeed_29 rfl (as_4 rfl) (by decide) ?_
    exact l_mean hC (k_lays a σ) a _ (congrArg (mh C) (sF_id (k := 0) (z := 0) ((k_lays_th hr (by assumption)).trans h0))) hr (by assumption) (k_lays_la hr (by assumption)) 999 0 rfl
  · rw [show o_mean a σ = (1, FP.i2d (Int32.ofInt 0)) from if_neg (by assumption), show k_onAx a σ = σ from if_neg (by assumption)]
    refine aw_aload_n 14 dX4_meanSpeed_13 rfl rfl ?_
    refine aw_iconst 15 dX4_meanSpeed_14 rfl ?_
    refine aw_xV 18 (m_fails hC _ _) mvX4_fails q2151 (rdl (mh_obj _ _)) rfl rfl rfl (by decide) (by decide) (Nat.le_refl _) (Nat.le_refl _) rfl (Nat.le_of_ble_eq_true rfl) dX4_meanSpeed_15 rfl ?_
    refine aw_i2d 19 dX4_meanSpeed_18 rfl ?_
    exact aw_dret ⟨rfl, rfl⟩ rfl dX4_meanSpeed_19 (Nat.le_refl _) (Nat.le_refl _)
/-- a frame's place is inside a wall -/
abbrev ins (σ : MSt) (w f : Int) : Prop := (r_w (rw_ σ) w 1 ≤ pos σ (r_w (rw_ σ) w 0) f.toNat ∧ pos σ (r_w (rw_ σ) w 0) f.toNat ≤ r_w (rw_ σ) w 2) ∧ (r_w (rw_ σ) w 4 ≤ pos σ (r_w (rw_ σ) w 3) f.toNat ∧ pos σ (r_w (rw_ σ) w 3) f.toNat ≤ r_w (rw_ σ) w 5)
theorem l_ins6 {l : Launch} {g : AG} {C : MCx} {σ : MSt} (τ : MSt) (w f k : Int) (o : Option Value) (hk : k = 6) (hi : ins σ w f) : AWc l g miX4_isInside 12 0 0 (fun r2 h2 => r2 = some (iv (bI (ins σ w f))) ∧ h2 = mh C τ) (fun _ _ _ => False) 0 0 (mh C τ) 2 [some (.ref C.1), some (iv w), some (iv f), some (iv k), o] [] := by
  refine aw_iload_n 3 dX4_isInside_2 rfl rfl ?_
  refine aw_bipush 5 dX4_isInside_3 rfl (by decide) ?_
  refine aw_icmp_ge 53 8 (by omega) dX4_isInside_5 rfl rfl (fun c_5 => ?_) (fun c_5 => absurd c_5 (by omega))
  refine aw_iconst 54 dX4_isInside_53 rfl ?_
  exact aw_xz1 (by exact hi) (rfl) rfl dX4_isInside_54
theorem l_ins {l : Launch} {g : AG} {C : MCx} (hC : MOK C) {σ : MSt} (τ : MSt) (w f k : Int) (o : Option Value) (hr : mR σ) (hl : LD σ τ) (hw : isWa σ w) (hf : 0 ≤ f ∧ f ≤ 999) (hk : k = 0 ∨ k = 3) (hA : 0 ≤ r_w (rw_ σ) w k ∧ r_w (rw_ σ) w k < σ.1 5) (hB : -9999 ≤ r_w (rw_ σ) w (k + 1) ∧ r_w (rw_ σ) w (k + 1) ≤ 9999) (hD : -9999 ≤ r_w (rw_ σ) w (k + 2) ∧ r_w (rw_ σ) w (k + 2) ≤ 9999)
    (hn : ¬ (r_w (rw_ σ) w (k + 1) ≤ pos σ (r_w (rw_ σ) w k) f.toNat ∧ pos σ (r_w (rw_ σ) w k) f.toNat ≤ r_w (rw_ σ) w (k + 2)) → ¬ ins σ w f)
    (kk : (r_w (rw_ σ) w (k + 1) ≤ pos σ (r_w (rw_ σ) w k) f.toNat ∧ pos σ (r_w (rw_ σ) w k) f.toNat ≤ r_w (rw_ σ) w (k + 2)) → ∀ o, AWc l g miX4_isInside 12 0 0 (fun r2 h2 => r2 = some (iv (bI (ins σ w f))) ∧ h2 = mh C τ) (fun _ _ _ => False) 0 0 (mh C τ) 2 [some (.ref C.1), some (iv w), some (iv f), some (iv (k + 3)), o] []) : AWc l g miX4_isInside 12 0 0 (fun r2 h2 => r2 = some (iv (bI (ins σ w f))) ∧ h2 = mh C τ) (fun _ _ _ => False) 0 0 (mh C τ) 2 [some (.ref C.1), some (iv w), some (iv f), some (iv k), o] [] := by
  have h5 := hr.2.1
  have hnw := hr.nW
  have hrt := hl.1.toR hr
  have hρ := hl.1.rw
  have hp0 := pos_rg hr (a := r_w (rw_ σ) w k) hA (j := f.toNat) (by omega)
  refine aw_iload_n 3 dX4_isInside_2 rfl rfl ?_
  refine aw_bipush 5 dX4_isInside_3 rfl (by decide) ?_
  refine aw_icmp_ge 53 8 (by omega) dX4_isInside_5 rfl rfl (fun c_5 => absurd c_5 (by omega)) (fun c_5 => ?_)
  refine aw_aload_n 9 dX4_isInside_8 rfl rfl ?_
  refine aw_aload_n 10 dX4_isInside_9 rfl rfl ?_
  refine aw_iload_n 11 dX4_isInside_10 rfl rfl ?_
  refine aw_iload_n 12 dX4_isInside_11 rfl rfl ?_
  refine aw_xV 15 (m_wall hC τ w k hrt.1 (by omega) (by omega)) mvX4_wallOf q2476 (rdl (mh_obj _ _)) rfl rfl rfl (by decide) (by decide) (Nat.le_refl _) (Nat.le_refl _) rfl (Nat.le_of_ble_eq_true rfl) dX4_isInside_12 rfl ?_
  rw [hρ]
  refine aw_iload_n 16 dX4_isInside_15 rfl rfl ?_
  refine aw_xV 19 (m_placeL hC τ _ f (hl.2 _ hA) (by omega) (by omega)) mvX4_placeAt q2412 (rdl (mh_obj _ _)) rfl rfl rfl (by decide) (by decide) (Nat.le_refl _) (Nat.le_refl _) rfl (Nat.le_of_ble_eq_true rfl) dX4_isInside_16 rfl ?_
  refine aw_istore 21 dX4_isInside_19 rfl (as_4 rfl) (by decide) ?_
  refine aw_iload 23 dX4_isInside_21 rfl rfl ?_
  refine aw_aload_n 24 dX4_isInside_23 rfl rfl ?_
  refine aw_iload_n 25 dX4_isInside_24 rfl rfl ?_
  refine aw_iload_n 26 dX4_isInside_25 rfl rfl ?_
  refine aw_iconst 27 dX4_isInside_26 rfl ?_
  refine aw_iadd 28 dX4_isInside_27 rfl ?_
  refine aw_xV 31 (m_wall hC τ w (k + 1) hrt.1 (by omega) (by omega)) mvX4_wallOf q2476 (rdl (mh_obj _ _)) rfl rfl rfl (by decide) (by decide) (Nat.le_refl _) (Nat.le_refl _) rfl (Nat.le_of_ble_eq_true rfl) dX4_isInside_28 rfl ?_
  rw [hρ]
  refine aw_aload_n 32 dX4_isInside_31 rfl rfl ?_
  refine aw_iload_n 33 dX4_isInside_32 rfl rfl ?_
  refine aw_iload_n 34 dX4_isInside_33 rfl rfl ?_
  refine aw_iconst 35 dX4_isInside_34 rfl ?_
  refine aw_iadd 36 dX4_isInside_35 rfl ?_
  refine aw_xV 39 (m_wall hC τ w (k + 2) hrt.1 (by omega) (by omega)) mvX4_wallOf q2476 (rdl (mh_obj _ _)) rfl rfl rfl (by decide) (by decide) (Nat.le_refl _) (Nat.le_refl _) rfl (Nat.le_of_ble_eq_true rfl) dX4_isInside_36 rfl ?_
  rw [hρ]
  refine aw_xS 42 (m_isIn _ _ _ (by omega) (by omega) (by omega)) msX4_isIn q2163 rfl (by decide) (by decide) (Nat.le_refl _) (Nat.le_refl _) rfl (Nat.le_of_ble_eq_true rfl) dX4_isInside_39 rfl ?_
  refine aw_if_neB 47 45 dX4_isInside_42 rfl rfl (fun c_42 => ?_) (fun c_42 => ?_)
  · refine aw_iinc 50 dX4_isInside_47 rfl rfl (as_3 rfl) (by decide) ?_
    refine aw_goto 2 dX4_isInside_50 rfl ?_
    exact kk c_42 _
  · refine aw_iconst 46 dX4_isInside_45 rfl ?_
    exact aw_xz0 (by exact hn c_42) (rfl) rfl dX4_isInside_46
theorem m_isInside {l : Launch} {g : AG} {C : MCx} (hC : MOK C) {σ : MSt} (τ : MSt) (w f : Int) (hr : mR σ) (hl : LD σ τ) (hw : isWa σ w) (hf : 0 ≤ f ∧ f ≤ 999) : AMx l g miX4_isInside 12 [.ref C.1, iv w, iv f] (mh C τ) (some (iv (bI (ins σ w f)))) (mh C τ) := by
  obtain ⟨w0, w1, w2, w3, w4, w5⟩ := hr.wa hw.1 hw.2
  refine aw_start 2 (by decide) rfl (Nat.le_of_ble_eq_true rfl) ?_
  show AWc l g miX4_isInside 12 0 0 _ _ 0 0 (mh C τ) 0 [some (.ref C.1), some (iv w), some (iv f), none, none] []
  refine aw_iconst 1 dX4_isInside_0 rfl ?_
  refine aw_istore_n 2 dX4_isInside_1 rfl (as_3 rfl) (by decide) ?_
  exact l_ins hC τ w f 0 _ hr hl hw hf (Or.inl rfl) w0 w1 w2 (fun z y => z y.1) (fun h1 o => l_ins hC τ w f 3 o hr hl hw hf (Or.inr rfl) w3 w4 w5 (fun z y => z y.2) (fun h2 o => l_ins6 τ w f 6 o rfl ⟨h1, h2⟩))
/-- which of the first n walls a frame's place is inside -/
def wlm (σ : MSt) (f : Int) : Nat → Int
  | 0 => 0
  | n + 1 => if ins σ n f then ob (wlm σ f n) n else wlm σ f n
theorem wlm_Rg (σ : MSt) (f : Int) : ∀ n, Rg (wlm σ f n) := by
  intro n
  induction n with
  | zero => exact ⟨(by decide : (-2147483648 : Int) ≤ 0), (by decide : (0 : Int) ≤ 2147483647)⟩
  | succ n ih =>
    simp only [wlm]
    split
    · exact ob_Rg _ _
    · exact ih
def wlF (σ : MSt) (f : Int) : Int := wlm σ f (r_nW (rw_ σ)).toNat
theorem wlF_Rg (σ : MSt) (f : Int) : Rg (wlF σ f) := wlm_Rg σ f _
theorem l_wallsAt {l : Launch} {g : AG} {C : MCx} (hC : MOK C) {σ : MSt} (τ : MSt) (f : Int) (hr : mR σ) (hl : LD σ τ) (hf : 0 ≤ f ∧ f ≤ 999) : ∀ (n i : Nat), (i : Int) + n = r_nW (rw_ σ) → AWc l g miX4_wallsAt 13 0 0 (fun r2 h2 => r2 = some (iv (wlF σ f)) ∧ h2 = mh C τ) (fun _ _ _ => False) 0 0 (mh C τ) 4 [some (.ref C.1), some (iv f), some (iv (wlm σ f i)), some (iv i)] [] := by
  have hn := hr.nW
  have hrt := hl.1.toR hr
  have hρ := hl.1.rw
  intro n
  induction n with
  | zero =>
    intro i hi
    have e : (r_nW (rw_ σ)).toNat = i := by omega
    unfold wlF
    rw [e]
    refine aw_iload_n 5 dX4_wallsAt_4 rfl rfl ?_
    refine aw_aload_n 6 dX4_wallsAt_5 rfl rfl ?_
    refine aw_sipush 9 dX4_wallsAt_6 rfl (by decide) ?_
    refine aw_xV 12 (m_getW hC τ hrt.1) mvX4_get q2263 (rdl (mh_obj _ _)) rfl rfl rfl (by decide) (by decide) (Nat.le_refl _) (Nat.le_refl _) rfl (Nat.le_of_ble_eq_true rfl) dX4_wallsAt_9 rfl ?_
    rw [hρ]
    refine aw_icmp_ge 36 15 (by omega) dX4_wallsAt_12 rfl rfl (fun c_12 => ?_) (fun c_12 => absurd c_12 (by omega))
    refine aw_iload_n 37 dX4_wallsAt_36 rfl rfl ?_
    exact aw_xi (by rfl) (rfl) rfl dX4_wallsAt_37
  | succ n ih =>
    intro i hi
    have ih := ih (i + 1) (by omega)
    refine aw_iload_n 5 dX4_wallsAt_4 rfl rfl ?_
    refine aw_aload_n 6 dX4_wallsAt_5 rfl rfl ?_
    refine aw_sipush 9 dX4_wallsAt_6 rfl (by decide) ?_
    refine aw_xV 12 (m_getW hC τ hrt.1) mvX4_get q2263 (rdl (mh_obj _ _)) rfl rfl rfl (by decide) (by decide) (Nat.le_refl _) (Nat.le_refl _) rfl (Nat.le_of_ble_eq_true rfl) dX4_wallsAt_9 rfl ?_
    rw [hρ]
    refine aw_icmp_ge 36 15 (by omega) dX4_wallsAt_12 rfl rfl (fun c_12 => absurd c_12 (by omega)) (fun c_12 => ?_)
    refine aw_aload_n 16 dX4_wallsAt_15 rfl rfl ?_
    refine aw_iload_n 17 dX4_wallsAt_16 rfl rfl ?_
    refine aw_iload_n 18 dX4_wallsAt_17 rfl rfl ?_
    refine aw_xV 21 (m_isInside hC τ _ _ hr hl ⟨by omega, by omega⟩ hf) mvX4_isInside q2472 (rdl (mh_obj _ _)) rfl rfl rfl (by decide) (by decide) (Nat.le_refl _) (Nat.le_refl _) rfl (Nat.le_of_ble_eq_true rfl) dX4_wallsAt_18 rfl ?_
    refine aw_if_eqB 30 24 dX4_wallsAt_21 rfl rfl (fun c_21 => ?_) (fun c_21 => ?_)
    · refine aw_iinc 33 dX4_wallsAt_30 rfl rfl (as_3 rfl) (by decide) ?_
      refine aw_goto 4 dX4_wallsAt_33 rfl ?_
      first | (rw [show wlm σ f (i + 1) = ob (wlm σ f i) i from if_pos (by assumption)] at ih; exact ih) | (rw [show wlm σ f (i + 1) = wlm σ f i from if_neg (by assumption)] at ih; exact ih)
    · refine aw_iload_n 25 dX4_wallsAt_24 rfl rfl ?_
      refine aw_iconst 26 dX4_wallsAt_25 rfl ?_
      refine aw_iload_n 27 dX4_wallsAt_26 rfl rfl ?_
      refine aw_ishl 28 ((1 : Int32) <<< (Int32.ofInt (i : Int) &&& 31)).toInt dX4_wallsAt_27 rfl (by exact i_of _) ?_
      refine aw_ior 29 (ob (wlm σ f i) i) dX4_wallsAt_28 rfl (by exact ob_e _ _) ?_
      refine aw_istore_n 30 dX4_wallsAt_29 rfl (as_2 rfl) (by decide) ?_
      refine aw_iinc 33 dX4_wallsAt_30 rfl rfl (as_3 rfl) (by decide) ?_
      refine aw_goto 4 dX4_wallsAt_33 rfl ?_
      first | (rw [show wlm σ f (i + 1) = ob (wlm σ f i) i from if_pos (by assumption)] at ih; exact ih) | (rw [show wlm σ f (i + 1) = wlm σ f i from if_neg (by assumption)] at ih; exact ih)
theorem m_wallsAt {l : Launch} {g : AG} {C : MCx} (hC : MOK C) {σ : MSt} (τ : MSt) (f : Int) (hr : mR σ) (hl : LD σ τ) (hf : 0 ≤ f ∧ f ≤ 999) : AMx l g miX4_wallsAt 13 [.ref C.1, iv f] (mh C τ) (some (iv (wlF σ f))) (mh C τ) := by
  have hn := hr.nW
  refine aw_start 2 (by decide) rfl (Nat.le_of_ble_eq_true rfl) ?_
  show AWc l g miX4_wallsAt 13 0 0 _ _ 0 0 (mh C τ) 0 [some (.ref C.1), some (iv f), none, none] []
  refine aw_iconst 1 dX4_wallsAt_0 rfl ?_
  refine aw_istore_n 2 dX4_wallsAt_1 rfl (as_2 rfl) (by decide) ?_
  refine aw_iconst 3 dX4_wallsAt_2 rfl ?_
  refine aw_istore_n 4 dX4_wallsAt_3 rfl (as_3 rfl) (by decide) ?_
  exact l_wallsAt hC τ f hr hl hf (r_nW (rw_ σ)).toNat 0 (by omega)
def o_walls (f : Int) (σ : MSt) : Int × Int := if isFr f then (0, wlF σ f) else (1, 0)
theorem m_walls {l : Launch} {g : AG} {C : MCx} (hC : MOK C) (σ : MSt) (f : Int) (hr : mR σ) (hT : mT σ) (hf : Rg f): AMx l g miX4_walls 17 [.ref C.1, iv f] (mh C σ) (some (iv (o_walls f (sF σ 0 0)).2)) (mh C (sF (k_onFr f (sF σ 0 0)) 0 (o_walls f (sF σ 0 0)).1)) := by
  refine aw_start 0 (by decide) rfl (Nat.le_of_ble_eq_true rfl) ?_
  show AWc l g miX4_walls 17 0 0 _ _ 0 0 (mh C σ) 0 [some (.ref C.1), some (iv f)] []
  have h0 : (sF σ 0 0).1 0 = 0 := rfl
  have hr : mR (sF σ 0 0) := hr
  have hT : mT (sF σ 0 0) := hT
  refine aw_aload_n 1 dX4_walls_0 rfl rfl ?_
  refine aw_iconst 2 dX4_walls_1 rfl ?_
  refine aw_put 5 ci4 0 (by decide) q2031 (Or.inl rfl) rfl rfl rfl (Nat.le_of_ble_eq_true rfl) (mh_obj _ _) dX4_walls_2 rfl ?_
  refine aw_h (mhp_0 _ _ _) ?_
  generalize sF σ 0 0 = σ at h0 hr hT ⊢
  have hl := k_laysAll_ok hr
  refine aw_iload_n 6 dX4_walls_5 rfl rfl ?_
  refine aw_xS 9 (m_isFrame _ (by omega)) msX4_isFrame q2401 rfl (by decide) (by decide) (Nat.le_refl _) (Nat.le_refl _) rfl (Nat.le_of_ble_eq_true rfl) dX4_walls_6 rfl ?_
  refine aw_if_neB 18 12 dX4_walls_9 rfl rfl (fun c_9 => ?_) (fun c_9 => ?_)
  · refine aw_aload_n 19 dX4_walls_18 rfl rfl ?_
    refine aw_xVv 22 (m_laysAll hC _ hr hT) mvX4_laysAll q2428 (rdl (mh_obj _ _)) rfl rfl rfl (by decide) (by decide) (Nat.le_refl _) (Nat.le_refl _) rfl (Nat.le_of_ble_eq_true rfl) dX4_walls_19 rfl ?_
    refine aw_aload_n 23 dX4_walls_22 rfl rfl ?_
    refine aw_iload_n 24 dX4_walls_23 rfl rfl ?_
    refine aw_xV 27 (m_wallsAt hC _ _ hr hl (by omega)) mvX4_wallsAt q2468 (rdl (mh_obj _ _)) rfl rfl rfl (by decide) (by decide) (Nat.le_refl _) (Nat.le_refl _) rfl (Nat.le_of_ble_eq_true rfl) dX4_walls_24 rfl ?_
    exact aw_xi (by unfold o_walls; first | (rw [if_pos (by assumption)]) | (rw [if_neg (by assumption)])) (by unfold o_walls k_onFr; rw [if_pos (by assumption), if_pos (by assumption)]; exact congrArg (mh C) (sF_id (hl.th.trans h0)).symm) rfl dX4_walls_27
  · refine aw_aload_n 13 dX4_walls_12 rfl rfl ?_
    refine aw_iconst 14 dX4_walls_13 rfl ?_
    refine aw_xV 17 (m_fails hC _ _) mvX4_fails q2151 (rdl (mh_obj _ _)) rfl rfl rfl (by decide) (by decide) (Nat.le_refl _) (Nat.le_refl _) rfl (Nat.le_of_ble_eq_true rfl) dX4_walls_14 rfl ?_
    exact aw_xi (by unfold o_walls; first | (rw [if_pos (by assumption)]) | (rw [if_neg (by assumption)])) (by unfold o_walls k_onFr; rw [if_neg (by assumption), if_neg (by assumption)]) rfl dX4_walls_17
/-- the first of n from i on -/
noncomputable def fst1 (P : Nat → Prop) : Nat → Nat → Int
  | 0, _ => -1
  | n + 1, i => @ite _ (P i) (Classical.propDecidable _) (i : Int) (fst1 P n (i + 1))
noncomputable def hitF (σ : MSt) : Int := fst1 (fun f => wlF σ f ≠ 0) 1000 0
theorem l_firstHit {l : Launch} {g : AG} {C : MCx} (hC : MOK C) {σ : MSt} (τ : MSt) (hr : mR σ) (hl : LD σ τ) : ∀ (n i : Nat), i + n = 1000 → AWc l g miX4_firstHit 17 0 0 (fun r2 h2 => r2 = some (iv (fst1 (fun f => wlF σ f ≠ 0) n i)) ∧ h2 = mh C τ) (fun _ _ _ => False) 0 0 (mh C τ) 11 [some (.ref C.1), some (iv i)] [] := by
  intro n
  induction n with
  | zero =>
    intro i hi
    have e : i = 1000 := by omega
    subst e
    refine aw_iload_n 12 dX4_firstHit_11 rfl rfl ?_
    refine aw_sipush 15 dX4_firstHit_12 rfl (by decide) ?_
    refine aw_icmp_ge 34 18 (by omega) dX4_firstHit_15 rfl rfl (fun c_15 => ?_) (fun c_15 => absurd c_15 (by omega))
    refine aw_iconst 35 dX4_firstHit_34 rfl ?_
    exact aw_xi (by rfl) (rfl) rfl dX4_firstHit_35
  | succ n ih =>
    intro i hi
    have ih := ih (i + 1) (by omega)
    have hg := wlF_Rg σ (i : Int)
    refine aw_iload_n 12 dX4_firstHit_11 rfl rfl ?_
    refine aw_sipush 15 dX4_firstHit_12 rfl (by decide) ?_
    refine aw_icmp_ge 34 18 (by omega) dX4_firstHit_15 rfl rfl (fun c_15 => absurd c_15 (by omega)) (fun c_15 => ?_)
    refine aw_aload_n 19 dX4_firstHit_18 rfl rfl ?_
    refine aw_iload_n 20 dX4_firstHit_19 rfl rfl ?_
    refine aw_xV 23 (m_wallsAt hC τ (i : Int) hr hl (by omega)) mvX4_wallsAt q2468 (rdl (mh_obj _ _)) rfl rfl rfl (by decide) (by decide) (Nat.le_refl _) (Nat.le_refl _) rfl (Nat.le_of_ble_eq_true rfl) dX4_firstHit_20 rfl ?_
    refine aw_if_eq 28 26 (by omega) dX4_firstHit_23 rfl rfl (fun c_23 => ?_) (fun c_23 => ?_)
    · rw [show fst1 (fun f => wlF σ f ≠ 0) (n + 1) i = fst1 (fun f => wlF σ f ≠ 0) n (i + 1) from if_neg (fun z => z (by assumption))]
      refine aw_iinc 31 dX4_firstHit_28 rfl rfl (as_1 rfl) (by decide) ?_
      refine aw_goto 11 dX4_firstHit_31 rfl ?_
      exact ih
    · refine aw_iload_n 27 dX4_firstHit_26 rfl rfl ?_
      exact aw_xi (by exact (if_pos (by assumption)).symm) (rfl) rfl dX4_firstHit_27
theorem m_firstHit {l : Launch} {g : AG} {C : MCx} (hC : MOK C) (σ : MSt)  (hr : mR σ) (hT : mT σ): AMx l g miX4_firstHit 17 [.ref C.1] (mh C σ) (some (iv (hitF (sF σ 0 0)))) (mh C (k_laysAll (sF σ 0 0))) := by
  refine aw_start 1 (by decide) rfl (Nat.le_of_ble_eq_true rfl) ?_
  show AWc l g miX4_firstHit 17 0 0 _ _ 0 0 (mh C σ) 0 [some (.ref C.1), none] []
  have hr : mR (sF σ 0 0) := hr
  have hT : mT (sF σ 0 0) := hT
  have hl := k_laysAll_ok hr
  refine aw_aload_n 1 dX4_firstHit_0 rfl rfl ?_
  refine aw_iconst 2 dX4_firstHit_1 rfl ?_
  refine aw_put 5 ci4 0 (by decide) q2031 (Or.inl rfl) rfl rfl rfl (Nat.le_of_ble_eq_true rfl) (mh_obj _ _) dX4_firstHit_2 rfl ?_
  refine aw_h (mhp_0 _ _ _) ?_
  refine aw_aload_n 6 dX4_firstHit_5 rfl rfl ?_
  refine aw_xVv 9 (m_laysAll hC _ hr hT) mvX4_laysAll q2428 (rdl (mh_obj _ _)) rfl rfl rfl (by decide) (by decide) (Nat.le_refl _) (Nat.le_refl _) rfl (Nat.le_of_ble_eq_true rfl) dX4_firstHit_6 rfl ?_
  refine aw_iconst 10 dX4_firstHit_9 rfl ?_
  refine aw_istore_n 11 dX4_firstHit_10 rfl (as_1 rfl) (by decide) ?_
  exact l_firstHit hC _ hr hl 1000 0 rfl
noncomputable def insF (σ : MSt) (w : Int) : Nat → Int := sof (fun f => bI (ins σ w f))
theorem l_framesInside {l : Launch} {g : AG} {C : MCx} (hC : MOK C) {σ : MSt} (τ : MSt) (w : Int) (H : AH) (hH : H = mh C τ) (hr : mR σ) (hl : LD σ τ) (hw : isWa σ w) : ∀ (n i : Nat), i + n = 1000 → AWc l g miX4_framesInside 17 0 0 (fun r2 h2 => r2 = some (iv (insF σ w 1000)) ∧ h2 = H) (fun _ _ _ => False) 0 0 (mh C τ) 27 [some (.ref C.1), some (iv w), some (iv (insF σ w i)), some (iv i)] [] := by
  intro n
  induction n with
  | zero =>
    intro i hi
    have e : i = 1000 := by omega
    subst e
    refine aw_iload_n 28 dX4_framesInside_27 rfl rfl ?_
    refine aw_sipush 31 dX4_framesInside_28 rfl (by decide) ?_
    refine aw_icmp_ge 52 34 (by omega) dX4_framesInside_31 rfl rfl (fun c_31 => ?_) (fun c_31 => absurd c_31 (by omega))
    refine aw_iload_n 53 dX4_framesInside_52 rfl rfl ?_
    exact aw_xi (by rfl) (hH.symm) rfl dX4_framesInside_53
  | succ n ih =>
    intro i hi
    have ih := ih (i + 1) (by omega)
    refine aw_iload_n 28 dX4_framesInside_27 rfl rfl ?_
    refine aw_sipush 31 dX4_framesInside_28 rfl (by decide) ?_
    refine aw_icmp_ge 52 34 (by omega) dX4_framesInside_31 rfl rfl (fun c_31 => absurd c_31 (by omega)) (fun c_31 => ?_)
    refine aw_aload_n 35 dX4_framesInside_34 rfl rfl ?_
    refine aw_iload_n 36 dX4_framesInside_35 rfl rfl ?_
    refine aw_iload_n 37 dX4_framesInside_36 rfl rfl ?_
    refine aw_xV 40 (m_isInside hC τ _ _ hr hl hw (by omega)) mvX4_isInside q2472 (rdl (mh_obj _ _)) rfl rfl rfl (by decide) (by decide) (Nat.le_refl _) (Nat.le_refl _) rfl (Nat.le_of_ble_eq_true rfl) dX4_framesInside_37 rfl ?_
    refine aw_if_eqB 46 43 dX4_framesInside_40 rfl rfl (fun c_40 => ?_) (fun c_40 => ?_)
    · refine aw_iinc 49 dX4_framesInside_46 rfl rfl (as_3 rfl) (by decide) ?_
      refine aw_goto 27 dX4_framesInside_49 rfl ?_
      first | (rw [show insF σ w (i + 1) = insF σ w i + 1 from congrArg (insF σ w i + ·) (bI_t (by assumption))] at ih; exact ih) | (rw [show insF σ w (i + 1) = insF σ w i from (congrArg (insF σ w i + ·) (bI_f (by assumption))).trans (Int.add_zero _)] at ih; exact ih)
    · refine aw_iinc 46 dX4_framesInside_43 rfl rfl (as_2 rfl) (by decide) ?_
      refine aw_iinc 49 dX4_framesInside_46 rfl rfl (as_3 rfl) (by decide) ?_
      refine aw_goto 27 dX4_framesInside_49 rfl ?_
      first | (rw [show insF σ w (i + 1) = insF σ w i + 1 from congrArg (insF σ w i + ·) (bI_t (by assumption))] at ih; exact ih) | (rw [show insF σ w (i + 1) = insF σ w i from (congrArg (insF σ w i + ·) (bI_f (by assumption))).trans (Int.add_zero _)] at ih; exact ih)
noncomputable def o_framesInside (w : Int) (σ : MSt) : Int × Int := if isWa σ w then (0, insF σ w 1000) else (1, 0)
def k_onWa (w : Int) (σ : MSt) : MSt := if isWa σ w then k_laysAll σ else σ
theorem m_framesInside {l : Launch} {g : AG} {C : MCx} (hC : MOK C) (σ : MSt) (w : Int) (hr : mR σ) (hT : mT σ) (hw : Rg w): AMx l g miX4_framesInside 17 [.ref C.1, iv w] (mh C σ) (some (iv (o_framesInside w (sF σ 0 0)).2)) (mh C (sF (k_onWa w (sF σ 0 0)) 0 (o_framesInside w (sF σ 0 0)).1)) := by
  refine aw_start 2 (by decide) rfl (Nat.le_of_ble_eq_true rfl) ?_
  show AWc l g miX4_framesInside 17 0 0 _ _ 0 0 (mh C σ) 0 [some (.ref C.1), some (iv w), none, none] []
  have h0 : (sF σ 0 0).1 0 = 0 := rfl
  have hr : mR (sF σ 0 0) := hr
  have hT : mT (sF σ 0 0) := hT
  refine aw_aload_n 1 dX4_framesInside_0 rfl rfl ?_
  refine aw_iconst 2 dX4_framesInside_1 rfl ?_
  refine aw_put 5 ci4 0 (by decide) q2031 (Or.inl rfl) rfl rfl rfl (Nat.le_of_ble_eq_true rfl) (mh_obj _ _) dX4_framesInside_2 rfl ?_
  refine aw_h (mhp_0 _ _ _) ?_
  generalize sF σ 0 0 = σ at h0 hr hT ⊢
  have hn := hr.nW
  have hl := k_laysAll_ok hr
  refine aw_aload_n 6 dX4_framesInside_5 rfl rfl ?_
  refine aw_iload_n 7 dX4_framesInside_6 rfl rfl ?_
  refine aw_xV 10 (m_isWall hC _ _ hr (by omega)) mvX4_isWall q2488 (rdl (mh_obj _ _)) rfl rfl rfl (by decide) (by decide) (Nat.le_refl _) (Nat.le_refl _) rfl (Nat.le_of_ble_eq_true rfl) dX4_framesInside_7 rfl ?_
  refine aw_if_neB 19 13 dX4_framesInside_10 rfl rfl (fun c_10 => ?_) (fun c_10 => ?_)
  · refine aw_aload_n 20 dX4_framesInside_19 rfl rfl ?_
    refine aw_xVv 23 (m_laysAll hC _ hr hT) mvX4_laysAll q2428 (rdl (mh_obj _ _)) rfl rfl rfl (by decide) (by decide) (Nat.le_refl _) (Nat.le_refl _) rfl (Nat.le_of_ble_eq_true rfl) dX4_framesInside_20 rfl ?_
    refine aw_iconst 24 dX4_framesInside_23 rfl ?_
    refine aw_istore_n 25 dX4_framesInside_24 rfl (as_2 rfl) (by decide) ?_
    refine aw_iconst 26 dX4_framesInside_25 rfl ?_
    refine aw_istore_n 27 dX4_framesInside_26 rfl (as_3 rfl) (by decide) ?_
    rw [show o_framesInside w σ = (0, insF σ w 1000) from if_pos (by assumption), show k_onWa w σ = k_laysAll σ from if_pos (by assumption)]
    exact l_framesInside hC (k_laysAll σ) w _ (congrArg (mh C) (sF_id (k := 0) (z := 0) (hl.th.trans h0))) hr hl (by assumption) 1000 0 rfl
  · refine aw_aload_n 14 dX4_framesInside_13 rfl rfl ?_
    refine aw_iconst 15 dX4_framesInside_14 rfl ?_
    refine aw_xV 18 (m_fails hC _ _) mvX4_fails q2151 (rdl (mh_obj _ _)) rfl rfl rfl (by decide) (by decide) (Nat.le_refl _) (Nat.le_refl _) rfl (Nat.le_of_ble_eq_true rfl) dX4_framesInside_15 rfl ?_
    exact aw_xi (by unfold o_framesInside; rw [if_neg (by assumption)]) (by unfold o_framesInside k_onWa; rw [if_neg (by assumption), if_neg (by assumption)]) rfl dX4_framesInside_18
