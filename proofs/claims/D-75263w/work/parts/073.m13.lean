/-! CameraMovesModel: a row's places by name; what was told -/
set_option maxRecDepth 100000
def r_sp (ρ : Int → Int) (a : Int) : Int := ρ (0 + a)
def r_rp (ρ : Int → Int) (a : Int) : Int := ρ (4 + a)
def r_nC (ρ : Int → Int) : Int := ρ 8
def r_fr (ρ : Int → Int) (c : Int) : Int := ρ (9 + 7 * c + 0)
def r_ln (ρ : Int → Int) (c : Int) : Int := ρ (9 + 7 * c + 1)
def r_hs (ρ : Int → Int) (c : Int) : Int := ρ (9 + 7 * c + 2)
def r_tg (ρ : Int → Int) (c a : Int) : Int := ρ (9 + 7 * c + (3 + a))
def r_nW (ρ : Int → Int) : Int := ρ 149
def r_w (ρ : Int → Int) (w k : Int) : Int := ρ (150 + 6 * w + k)
def cuOk (n : Int) (ρ : Int → Int) (c : Int) : Prop := (0 ≤ r_fr ρ c ∧ 1 ≤ r_ln ρ c ∧ r_fr ρ c + r_ln ρ c ≤ 999) ∧ (0 ≤ r_hs ρ c ∧ r_hs ρ c ≤ 15) ∧ ∀ a, 0 ≤ a → a < 4 → hb (r_hs ρ c) a = 1 → a < n ∧ -9999 ≤ r_tg ρ c a ∧ r_tg ρ c a ≤ 9999
def waOk (n : Int) (ρ : Int → Int) (w : Int) : Prop := (0 ≤ r_w ρ w 0 ∧ r_w ρ w 0 < n) ∧ (-9999 ≤ r_w ρ w 1 ∧ r_w ρ w 1 ≤ 9999) ∧ (-9999 ≤ r_w ρ w 2 ∧ r_w ρ w 2 ≤ 9999) ∧ (0 ≤ r_w ρ w 3 ∧ r_w ρ w 3 < n) ∧ (-9999 ≤ r_w ρ w 4 ∧ r_w ρ w 4 ≤ 9999) ∧ (-9999 ≤ r_w ρ w 5 ∧ r_w ρ w 5 ≤ 9999)
/-- a row that can be: n axes -/
def RI (n : Int) (ρ : Int → Int) : Prop :=
  (∀ a, 0 ≤ a → a < n → (1 ≤ r_sp ρ a ∧ r_sp ρ a ≤ 99) ∧ 1 ≤ r_rp ρ a ∧ r_rp ρ a ≤ 20) ∧
  (0 ≤ r_nC ρ ∧ r_nC ρ ≤ 20) ∧
  (∀ c, 0 ≤ c → c < r_nC ρ → cuOk n ρ c) ∧
  (0 ≤ r_nW ρ ∧ r_nW ρ ≤ 6) ∧
  ∀ w, 0 ≤ w → w < r_nW ρ → waOk n ρ w
/-- the row that is looked at can be, and the axes' numbers -/
def mR (σ : MSt) : Prop := mAt σ ∧ (0 ≤ σ.1 5 ∧ σ.1 5 ≤ 4) ∧ RI (σ.1 5) (rw_ σ) ∧ ∀ k, -9999 ≤ σ.2 7 k ∧ σ.2 7 k ≤ 9999
theorem mR.ax {σ : MSt} (h : mR σ) {a : Int} (h0 : 0 ≤ a) (h1 : a < σ.1 5) : (1 ≤ r_sp (rw_ σ) a ∧ r_sp (rw_ σ) a ≤ 99) ∧ 1 ≤ r_rp (rw_ σ) a ∧ r_rp (rw_ σ) a ≤ 20 := h.2.2.1.1 a h0 h1
theorem mR.nC {σ : MSt} (h : mR σ) : 0 ≤ r_nC (rw_ σ) ∧ r_nC (rw_ σ) ≤ 20 := h.2.2.1.2.1
theorem mR.cue {σ : MSt} (h : mR σ) {c : Int} (h0 : 0 ≤ c) (h1 : c < r_nC (rw_ σ)) : cuOk (σ.1 5) (rw_ σ) c := h.2.2.1.2.2.1 c h0 h1
theorem mR.nW {σ : MSt} (h : mR σ) : 0 ≤ r_nW (rw_ σ) ∧ r_nW (rw_ σ) ≤ 6 := h.2.2.1.2.2.2.1
theorem mR.wa {σ : MSt} (h : mR σ) {w : Int} (h0 : 0 ≤ w) (h1 : w < r_nW (rw_ σ)) : waOk (σ.1 5) (rw_ σ) w := h.2.2.1.2.2.2.2 w h0 h1
theorem m_nC {l : Launch} {g : AG} {C : MCx} (hC : MOK C) (σ : MSt) (ha : mAt σ) : AMx l g miX4_cueMany 11 [.ref C.1] (mh C σ) (some (iv (r_nC (rw_ σ)))) (mh C σ) := m_cueMany hC σ ha
theorem m_of0 {l : Launch} {g : AG} {C : MCx} (hC : MOK C) (σ : MSt) (c : Int) (ha : mAt σ) (hc : 0 ≤ c ∧ c < 20) : AMx l g miX4_of 11 [.ref C.1, iv c, iv 0] (mh C σ) (some (iv (r_fr (rw_ σ) c))) (mh C σ) := m_of hC σ c 0 ha hc (by decide)
theorem m_of1 {l : Launch} {g : AG} {C : MCx} (hC : MOK C) (σ : MSt) (c : Int) (ha : mAt σ) (hc : 0 ≤ c ∧ c < 20) : AMx l g miX4_of 11 [.ref C.1, iv c, iv 1] (mh C σ) (some (iv (r_ln (rw_ σ) c))) (mh C σ) := m_of hC σ c 1 ha hc (by decide)
theorem m_of2 {l : Launch} {g : AG} {C : MCx} (hC : MOK C) (σ : MSt) (c : Int) (ha : mAt σ) (hc : 0 ≤ c ∧ c < 20) : AMx l g miX4_of 11 [.ref C.1, iv c, iv 2] (mh C σ) (some (iv (r_hs (rw_ σ) c))) (mh C σ) := m_of hC σ c 2 ha hc (by decide)
theorem m_of3 {l : Launch} {g : AG} {C : MCx} (hC : MOK C) (σ : MSt) (c a : Int) (ha : mAt σ) (hc : 0 ≤ c ∧ c < 20) (h4 : 0 ≤ a ∧ a < 4) : AMx l g miX4_of 11 [.ref C.1, iv c, iv (3 + a)] (mh C σ) (some (iv (r_tg (rw_ σ) c a))) (mh C σ) := m_of hC σ c (3 + a) ha hc (by omega)
theorem m_getW {l : Launch} {g : AG} {C : MCx} (hC : MOK C) (σ : MSt) (ha : mAt σ) : AMx l g miX4_get 10 [.ref C.1, iv 149] (mh C σ) (some (iv (r_nW (rw_ σ)))) (mh C σ) := by
  have h := m_get (l := l) (g := g) hC σ 149 (by rcases ha with h | h <;> omega)
  rw [show σ.2 1 (σ.1 2 + 149).toNat = r_nW (rw_ σ) from by unfold r_nW rw_; rw [if_pos (by decide)]] at h
  exact h
theorem m_getS {l : Launch} {g : AG} {C : MCx} (hC : MOK C) (σ : MSt) (a : Int) (ha : mAt σ) (h4 : 0 ≤ a ∧ a < 4) : AMx l g miX4_get 10 [.ref C.1, iv (0 + a)] (mh C σ) (some (iv (r_sp (rw_ σ) a))) (mh C σ) := by
  have h := m_get (l := l) (g := g) hC σ (0 + a) (by rcases ha with h | h <;> omega)
  rw [show σ.2 1 (σ.1 2 + (0 + a)).toNat = r_sp (rw_ σ) a from by unfold r_sp rw_; rw [if_pos (by omega)]] at h
  exact h
theorem m_getR {l : Launch} {g : AG} {C : MCx} (hC : MOK C) (σ : MSt) (a : Int) (ha : mAt σ) (h4 : 0 ≤ a ∧ a < 4) : AMx l g miX4_get 10 [.ref C.1, iv (4 + a)] (mh C σ) (some (iv (r_rp (rw_ σ) a))) (mh C σ) := by
  have h := m_get (l := l) (g := g) hC σ (4 + a) (by rcases ha with h | h <;> omega)
  rw [show σ.2 1 (σ.1 2 + (4 + a)).toNat = r_rp (rw_ σ) a from by unfold r_rp rw_; rw [if_pos (by omega)]] at h
  exact h
theorem m_wall {l : Launch} {g : AG} {C : MCx} (hC : MOK C) (σ : MSt) (w k : Int) (ha : mAt σ) (hc : 0 ≤ w ∧ w < 6) (h4 : 0 ≤ k ∧ k < 6) : AMx l g miX4_wallOf 11 [.ref C.1, iv w, iv k] (mh C σ) (some (iv (r_w (rw_ σ) w k))) (mh C σ) := m_wallOf hC σ w k ha hc h4
/-- the bit of an axis in a cue's targets -/
abbrev r_has (ρ : Int → Int) (c a : Int) : Prop := hb (r_hs ρ c) a = 1
abbrev isAx (σ : MSt) (a : Int) : Prop := 0 ≤ a ∧ a < σ.1 5
abbrev isCu (σ : MSt) (c : Int) : Prop := 0 ≤ c ∧ c < r_nC (rw_ σ)
abbrev isWa (σ : MSt) (c : Int) : Prop := 0 ≤ c ∧ c < r_nW (rw_ σ)
abbrev isPa (σ : MSt) (c : Int) : Prop := 0 ≤ c ∧ c < σ.1 8
abbrev isFr (f : Int) : Prop := 0 ≤ f ∧ f ≤ 999
theorem m_has {l : Launch} {g : AG} {C : MCx} (hC : MOK C) (σ : MSt) (c a : Int) (hr : mR σ) (hc : isCu σ c) (ha : 0 ≤ a ∧ a < 4): AMx l g miX4_has 12 [.ref C.1, iv c, iv a] (mh C σ) (some (iv (bI (r_has (rw_ σ) c a)))) (mh C σ) := by
  refine aw_start 0 (by decide) rfl (Nat.le_of_ble_eq_true rfl) ?_
  show AWc l g miX4_has 12 0 0 _ _ 0 0 (mh C σ) 0 [some (.ref C.1), some (iv c), some (iv a)] []
  have n := hr.nC
  have s := (hr.cue hc.1 hc.2).2.1
  have f := (hb_f s ha).1
  refine aw_aload_n 1 dX4_has_0 rfl rfl ?_
  refine aw_iload_n 2 dX4_has_1 rfl rfl ?_
  refine aw_iconst 3 dX4_has_2 rfl ?_
  refine aw_xV 6 (m_of2 hC _ _ hr.1 (by omega)) mvX4_of q2299 (rdl (mh_obj _ _)) rfl rfl rfl (by decide) (by decide) (Nat.le_refl _) (Nat.le_refl _) rfl (Nat.le_of_ble_eq_true rfl) dX4_has_3 rfl ?_
  refine aw_iload_n 7 dX4_has_6 rfl rfl ?_
  refine aw_ishr 8 (Int32.ofInt (r_hs (rw_ σ) c) >>> (Int32.ofInt a &&& 31)).toInt dX4_has_7 rfl (by exact i_of _) ?_
  refine aw_iconst 9 dX4_has_8 rfl ?_
  refine aw_iand 10 (hb (r_hs (rw_ σ) c) a) dX4_has_9 rfl (by exact hb_e _ _) ?_
  refine aw_iconst 11 dX4_has_10 rfl ?_
  refine aw_icmp_ne 18 14 (by omega) dX4_has_11 rfl rfl (fun c_11 => ?_) (fun c_11 => ?_)
  · refine aw_iconst 19 dX4_has_18 rfl ?_
    exact aw_xz0 (by omega) (rfl) rfl dX4_has_19
  · refine aw_iconst 15 dX4_has_14 rfl ?_
    refine aw_goto 19 dX4_has_15 rfl ?_
    exact aw_xz1 (by omega) (rfl) rfl dX4_has_19
theorem m_isAxis {l : Launch} {g : AG} {C : MCx} (hC : MOK C) (σ : MSt) (a : Int) (ha : Rg a) (h5 : 0 ≤ σ.1 5 ∧ σ.1 5 ≤ 4): AMx l g miX4_isAxis 11 [.ref C.1, iv a] (mh C σ) (some (iv (bI (isAx σ a)))) (mh C σ) := by
  refine aw_start 0 (by decide) rfl (Nat.le_of_ble_eq_true rfl) ?_
  show AWc l g miX4_isAxis 11 0 0 _ _ 0 0 (mh C σ) 0 [some (.ref C.1), some (iv a)] []
  refine aw_iload_n 1 dX4_isAxis_0 rfl rfl ?_
  refine aw_iconst 2 dX4_isAxis_1 rfl ?_
  refine aw_aload_n 3 dX4_isAxis_2 rfl rfl ?_
  refine aw_get 6 ci4 5 (by decide) q2036 (Or.inl rfl) (rdl (mh_obj _ _)) rfl dX4_isAxis_3 rfl ?_
  refine aw_iconst 7 dX4_isAxis_6 rfl ?_
  refine aw_isub 8 dX4_isAxis_7 rfl ?_
  refine aw_xS 11 (m_isIn _ _ _ (by omega) (by omega) (by omega)) msX4_isIn q2163 rfl (by decide) (by decide) (Nat.le_refl _) (Nat.le_refl _) rfl (Nat.le_of_ble_eq_true rfl) dX4_isAxis_8 rfl ?_
  exact aw_xz (by omega) (rfl) rfl dX4_isAxis_11
theorem m_isCue {l : Launch} {g : AG} {C : MCx} (hC : MOK C) (σ : MSt) (c : Int) (hr : mR σ) (ha : Rg c): AMx l g miX4_isCue 12 [.ref C.1, iv c] (mh C σ) (some (iv (bI (isCu σ c)))) (mh C σ) := by
  refine aw_start 0 (by decide) rfl (Nat.le_of_ble_eq_true rfl) ?_
  show AWc l g miX4_isCue 12 0 0 _ _ 0 0 (mh C σ) 0 [some (.ref C.1), some (iv c)] []
  have n := hr.nC
  refine aw_iload_n 1 dX4_isCue_0 rfl rfl ?_
  refine aw_iconst 2 dX4_isCue_1 rfl ?_
  refine aw_aload_n 3 dX4_isCue_2 rfl rfl ?_
  refine aw_xV 6 (m_nC hC _ hr.1) mvX4_cueMany q2259 (rdl (mh_obj _ _)) rfl rfl rfl (by decide) (by decide) (Nat.le_refl _) (Nat.le_refl _) rfl (Nat.le_of_ble_eq_true rfl) dX4_isCue_3 rfl ?_
  refine aw_iconst 7 dX4_isCue_6 rfl ?_
  refine aw_isub 8 dX4_isCue_7 rfl ?_
  refine aw_xS 11 (m_isIn _ _ _ (by omega) (by omega) (by omega)) msX4_isIn q2163 rfl (by decide) (by decide) (Nat.le_refl _) (Nat.le_refl _) rfl (Nat.le_of_ble_eq_true rfl) dX4_isCue_8 rfl ?_
  exact aw_xz (by omega) (rfl) rfl dX4_isCue_11
theorem m_isWall {l : Launch} {g : AG} {C : MCx} (hC : MOK C) (σ : MSt) (c : Int) (hr : mR σ) (ha : Rg c): AMx l g miX4_isWall 12 [.ref C.1, iv c] (mh C σ) (some (iv (bI (isWa σ c)))) (mh C σ) := by
  refine aw_start 0 (by decide) rfl (Nat.le_of_ble_eq_true rfl) ?_
  show AWc l g miX4_isWall 12 0 0 _ _ 0 0 (mh C σ) 0 [some (.ref C.1), some (iv c)] []
  have n := hr.nW
  refine aw_iload_n 1 dX4_isWall_0 rfl rfl ?_
  refine aw_iconst 2 dX4_isWall_1 rfl ?_
  refine aw_aload_n 3 dX4_isWall_2 rfl rfl ?_
  refine aw_sipush 6 dX4_isWall_3 rfl (by decide) ?_
  refine aw_xV 9 (m_getW hC _ hr.1) mvX4_get q2263 (rdl (mh_obj _ _)) rfl rfl rfl (by decide) (by decide) (Nat.le_refl _) (Nat.le_refl _) rfl (Nat.le_of_ble_eq_true rfl) dX4_isWall_6 rfl ?_
  refine aw_iconst 10 dX4_isWall_9 rfl ?_
  refine aw_isub 11 dX4_isWall_10 rfl ?_
  refine aw_xS 14 (m_isIn _ _ _ (by omega) (by omega) (by omega)) msX4_isIn q2163 rfl (by decide) (by decide) (Nat.le_refl _) (Nat.le_refl _) rfl (Nat.le_of_ble_eq_true rfl) dX4_isWall_11 rfl ?_
  exact aw_xz (by omega) (rfl) rfl dX4_isWall_14
theorem m_isPass {l : Launch} {g : AG} {C : MCx} (hC : MOK C) (σ : MSt) (c : Int) (ha : Rg c) (h8 : 0 ≤ σ.1 8 ∧ σ.1 8 ≤ 4): AMx l g miX4_isPass 11 [.ref C.1, iv c] (mh C σ) (some (iv (bI (isPa σ c)))) (mh C σ) := by
  refine aw_start 0 (by decide) rfl (Nat.le_of_ble_eq_true rfl) ?_
  show AWc l g miX4_isPass 11 0 0 _ _ 0 0 (mh C σ) 0 [some (.ref C.1), some (iv c)] []
  refine aw_iload_n 1 dX4_isPass_0 rfl rfl ?_
  refine aw_iconst 2 dX4_isPass_1 rfl ?_
  refine aw_aload_n 3 dX4_isPass_2 rfl rfl ?_
  refine aw_get 6 ci4 8 (by decide) q2039 (Or.inl rfl) (rdl (mh_obj _ _)) rfl dX4_isPass_3 rfl ?_
  refine aw_iconst 7 dX4_isPass_6 rfl ?_
  refine aw_isub 8 dX4_isPass_7 rfl ?_
  refine aw_xS 11 (m_isIn _ _ _ (by omega) (by omega) (by omega)) msX4_isIn q2163 rfl (by decide) (by decide) (Nat.le_refl _) (Nat.le_refl _) rfl (Nat.le_of_ble_eq_true rfl) dX4_isPass_8 rfl ?_
  exact aw_xz (by omega) (rfl) rfl dX4_isPass_11
theorem m_isFrame {l : Launch} {g : AG} {h : AH} (f : Int) (ha : Rg f): AMx l g miX4_isFrame 11 [iv f] h (some (iv (bI (isFr f)))) h := by
  refine aw_start 0 (by decide) rfl (Nat.le_of_ble_eq_true rfl) ?_
  show AWc l g miX4_isFrame 11 0 0 _ _ 0 0 h 0 [some (iv f)] []
  refine aw_iload_n 1 dX4_isFrame_0 rfl rfl ?_
  refine aw_iconst 2 dX4_isFrame_1 rfl ?_
  refine aw_sipush 5 dX4_isFrame_2 rfl (by decide) ?_
  refine aw_xS 8 (m_isIn _ _ _ (by omega) (by omega) (by omega)) msX4_isIn q2163 rfl (by decide) (by decide) (Nat.le_refl _) (Nat.le_refl _) rfl (Nat.le_of_ble_eq_true rfl) dX4_isFrame_5 rfl ?_
  exact aw_xz (by omega) (rfl) rfl dX4_isFrame_8
theorem m_low {l : Launch} {g : AG} {C : MCx} (hC : MOK C) (σ : MSt) (a : Int) (ha : 0 ≤ a ∧ a < 4): AMx l g miX4_low 10 [.ref C.1, iv a] (mh C σ) (some (iv (σ.2 7 (3 * a).toNat))) (mh C σ) := by
  refine aw_start 0 (by decide) rfl (Nat.le_of_ble_eq_true rfl) ?_
  show AWc l g miX4_low 10 0 0 _ _ 0 0 (mh C σ) 0 [some (.ref C.1), some (iv a)] []
  refine aw_aload_n 1 dX4_low_0 rfl rfl ?_
  refine aw_get 4 ci4 7 (by decide) q2038 (Or.inl rfl) (rdl (mh_obj _ _)) rfl dX4_low_1 rfl ?_
  refine aw_iconst 5 dX4_low_4 rfl ?_
  refine aw_iload_n 6 dX4_low_5 rfl rfl ?_
  refine aw_imul 7 dX4_low_6 rfl ?_
  refine aw_iald 8 (rdl (mh_7 hC _)) (by omega) dX4_low_7 rfl (by decide) ?_
  exact aw_xi (by rfl) (rfl) rfl dX4_low_8
theorem m_high {l : Launch} {g : AG} {C : MCx} (hC : MOK C) (σ : MSt) (a : Int) (ha : 0 ≤ a ∧ a < 4): AMx l g miX4_high 10 [.ref C.1, iv a] (mh C σ) (some (iv (σ.2 7 (3 * a + 1).toNat))) (mh C σ) := by
  refine aw_start 0 (by decide) rfl (Nat.le_of_ble_eq_true rfl) ?_
  show AWc l g miX4_high 10 0 0 _ _ 0 0 (mh C σ) 0 [some (.ref C.1), some (iv a)] []
  refine aw_aload_n 1 dX4_high_0 rfl rfl ?_
  refine aw_get 4 ci4 7 (by decide) q2038 (Or.inl rfl) (rdl (mh_obj _ _)) rfl dX4_high_1 rfl ?_
  refine aw_iconst 5 dX4_high_4 rfl ?_
  refine aw_iload_n 6 dX4_high_5 rfl rfl ?_
  refine aw_imul 7 dX4_high_6 rfl ?_
  refine aw_iconst 8 dX4_high_7 rfl ?_
  refine aw_iadd 9 dX4_high_8 rfl ?_
  refine aw_iald 10 (rdl (mh_7 hC _)) (by omega) dX4_high_9 rfl (by decide) ?_
  exact aw_xi (by rfl) (rfl) rfl dX4_high_10
