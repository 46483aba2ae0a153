/-! CameraMovesModel: what would be -/
set_option maxRecDepth 100000
/-- a row with one place changed -/
def rU (ρ : Int → Int) (k v : Int) : Int → Int := fun j => if j = k then v else ρ j
theorem rw_up {σ : MSt} (ha : mAt σ) {k : Int} (v : Int) (hk : 0 ≤ k ∧ k < 186) : rw_ (sR σ 1 (va_up (σ.2 1) (σ.1 2 + k).toNat v)) = rU (rw_ σ) k v := by
  have ha' : σ.1 2 = 0 ∨ σ.1 2 = 186 := ha
  funext j
  show (if 0 ≤ j ∧ j < 186 then va_up (σ.2 1) (σ.1 2 + k).toNat v (σ.1 2 + j).toNat else 0) = (if j = k then v else if 0 ≤ j ∧ j < 186 then σ.2 1 (σ.1 2 + j).toNat else 0)
  rw [va_up_at]
  (repeat' split) <;> first | rfl | (exfalso; omega)
/-- a place of a cue changed -/
theorem rU_cue (ρ : Int → Int) {c w : Int} (v : Int) (hc : 0 ≤ c ∧ c < 20) (hw : 0 ≤ w ∧ w < 7) : (∀ a, a < 4 → r_sp (rU ρ (9 + 7 * c + w) v) a = r_sp ρ a) ∧ (∀ a, a < 4 → r_rp (rU ρ (9 + 7 * c + w) v) a = r_rp ρ a) ∧ r_nC (rU ρ (9 + 7 * c + w) v) = r_nC ρ ∧ r_nW (rU ρ (9 + 7 * c + w) v) = r_nW ρ ∧ (∀ x k, 0 ≤ x → 0 ≤ k → r_w (rU ρ (9 + 7 * c + w) v) x k = r_w ρ x k) ∧ (∀ x, r_fr (rU ρ (9 + 7 * c + w) v) x = if x = c ∧ w = 0 then v else r_fr ρ x) ∧ (∀ x, r_ln (rU ρ (9 + 7 * c + w) v) x = if x = c ∧ w = 1 then v else r_ln ρ x) ∧ (∀ x, r_hs (rU ρ (9 + 7 * c + w) v) x = if x = c ∧ w = 2 then v else r_hs ρ x) ∧ ∀ x b, 0 ≤ b → b < 4 → r_tg (rU ρ (9 + 7 * c + w) v) x b = if x = c ∧ w = 3 + b then v else r_tg ρ x b := by
  refine ⟨fun a _ => ?_, fun a _ => ?_, ?_, ?_, fun x k _ _ => ?_, fun x => ?_, fun x => ?_, fun x => ?_, fun x b _ _ => ?_⟩
  all_goals
    simp only [r_sp, r_rp, r_nC, r_nW, r_w, r_fr, r_ln, r_hs, r_tg, rU]
    (repeat' split) <;> first | rfl | (exfalso; omega)
/-- cues and walls keep what they are if the places agree -/
theorem cuOk_cg {n : Int} {ρ ρ' : Int → Int} {c c' : Int} (h1 : r_fr ρ' c' = r_fr ρ c) (h2 : r_ln ρ' c' = r_ln ρ c) (h3 : r_hs ρ' c' = r_hs ρ c) (h4 : ∀ a, 0 ≤ a → a < 4 → r_tg ρ' c' a = r_tg ρ c a) (h : cuOk n ρ c) : cuOk n ρ' c' := by
  refine ⟨by rw [h1, h2]; exact h.1, by rw [h3]; exact h.2.1, fun a a0 a4 hh => ?_⟩
  rw [h3] at hh
  rw [h4 a a0 a4]
  exact h.2.2 a a0 a4 hh
/-- a state with a cue's frame changed -/
def k_mv (c f : Int) (σ : MSt) : MSt := sR σ 1 (va_up (σ.2 1) (σ.1 2 + (9 + 7 * c + 0)).toNat f)
theorem k_mv_rw {σ : MSt} (ha : mAt σ) {c f : Int} (hc : 0 ≤ c ∧ c < 20) : rw_ (k_mv c f σ) = rU (rw_ σ) (9 + 7 * c + 0) f := rw_up ha f (by omega)
theorem RI_mv {n : Int} {ρ : Int → Int} (h : RI n ρ) (h4 : n ≤ 4) {c f : Int} (hc : 0 ≤ c ∧ c < r_nC ρ) (hf : 0 ≤ f ∧ f + r_ln ρ c ≤ 999) : RI n (rU ρ (9 + 7 * c + 0) f) := by
  have h20 := h.2.1
  obtain ⟨e1, e2, e3, e4, e5, e6, e7, e8, e9⟩ := rU_cue ρ (c := c) (w := 0) f (by omega) (by decide)
  refine ⟨fun a a0 a1 => by rw [e1 a (by omega), e2 a (by omega)]; exact h.1 a a0 a1, by rw [e3]; exact h.2.1, fun x x0 x1 => ?_, by rw [e4]; exact h.2.2.2.1, fun w w0 w1 => ?_⟩
  · rw [e3] at x1
    by_cases hx : x = c
    · subst hx
      have q := h.2.2.1 x x0 x1
      refine ⟨?_, by rw [e8, if_neg (by omega)]; exact q.2.1, fun a a0 a4 hh => ?_⟩
      · rw [e6, if_pos ⟨rfl, rfl⟩, e7, if_neg (by omega)]
        have := q.1
        omega
      · rw [e8, if_neg (by omega)] at hh
        rw [e9 _ _ a0 a4, if_neg (by omega)]
        exact q.2.2 a a0 a4 hh
    · exact cuOk_cg (by rw [e6, if_neg (by omega)]) (by rw [e7, if_neg (by omega)]) (by rw [e8, if_neg (by omega)]) (fun a a0 a4 => by rw [e9 _ _ a0 a4, if_neg (by omega)]) (h.2.2.1 x x0 x1)
  · rw [e4] at w1
    have q := h.2.2.2.2 w w0 w1
    unfold waOk at *
    rw [e5 w 0 w0 (by decide), e5 w 1 w0 (by decide), e5 w 2 w0 (by decide), e5 w 3 w0 (by decide), e5 w 4 w0 (by decide), e5 w 5 w0 (by decide)]
    exact q
theorem k_mv_mR {σ : MSt} (hr : mR σ) {c f : Int} (hc : isCu σ c) (hf : 0 ≤ f ∧ f + r_ln (rw_ σ) c ≤ 999) : mR (k_mv c f σ) := by
  have h20 := hr.nC
  refine ⟨hr.1, hr.2.1, ?_, hr.2.2.2⟩
  rw [k_mv_rw hr.1 (by have := hc.1; have := hc.2; omega)]
  exact RI_mv hr.2.2.1 hr.2.1.2 hc hf
/-- the trial's row -/
def k_beginTrial (σ : MSt) : MSt := sF (k_copyRow 0 1 σ) 2 186
theorem k_beginTrial_rw {σ : MSt} (ha : σ.1 2 = 0) : rw_ (k_beginTrial σ) = rw_ σ := by
  funext j
  show (if 0 ≤ j ∧ j < 186 then cpR (σ.2 1) (186 * 0) (186 * 1) 186 (186 + j).toNat else 0) = (if 0 ≤ j ∧ j < 186 then σ.2 1 (σ.1 2 + j).toNat else 0)
  split
  · rw [cpR_at _ (by decide) (by decide) _ _ (by decide), if_pos (by omega), ha]
    exact congrArg (σ.2 1) (by omega)
  · rfl
theorem k_beginTrial_mR {σ : MSt} (hr : mR σ) (ha : σ.1 2 = 0) : mR (k_beginTrial σ) := by
  refine ⟨Or.inr rfl, hr.2.1, ?_, hr.2.2.2⟩
  rw [k_beginTrial_rw ha]
  exact hr.2.2.1
theorem m_beginTrial {l : Launch} {g : AG} {C : MCx} (hC : MOK C) (σ : MSt)  : AMx l g miX4_beginTrial 11 [.ref C.1] (mh C σ) (none) (mh C (k_beginTrial σ)) := by
  refine aw_start 0 (by decide) rfl (Nat.le_of_ble_eq_true rfl) ?_
  show AWc l g miX4_beginTrial 11 0 0 _ _ 0 0 (mh C σ) 0 [some (.ref C.1)] []
  refine aw_aload_n 1 dX4_beginTrial_0 rfl rfl ?_
  refine aw_iconst 2 dX4_beginTrial_1 rfl ?_
  refine aw_iconst 3 dX4_beginTrial_2 rfl ?_
  refine aw_xVv 6 (m_copyRow hC _ _ _ (by omega) (by omega)) mvX4_copyRow q2027 (rdl (mh_obj _ _)) rfl rfl rfl (by decide) (by decide) (Nat.le_refl _) (Nat.le_refl _) rfl (Nat.le_of_ble_eq_true rfl) dX4_beginTrial_3 rfl ?_
  refine aw_aload_n 7 dX4_beginTrial_6 rfl rfl ?_
  refine aw_sipush 10 dX4_beginTrial_7 rfl (by decide) ?_
  refine aw_put 13 ci4 2 (by decide) q2033 (Or.inl rfl) rfl rfl rfl (Nat.le_of_ble_eq_true rfl) (mh_obj _ _) dX4_beginTrial_10 rfl ?_
  refine aw_h (mhp_2 _ _ _) ?_
  exact aw_xv (rfl) rfl dX4_beginTrial_13
/-- all moves of a cue can be made -/
def goodP (σ : MSt) (c : Int) : Prop := ∀ a, isAx σ a → r_has (rw_ σ) c a → stt σ a c.toNat = 0
theorem SC.good {σ τ : MSt} (h : SC σ τ) (c : Int) : goodP τ c ↔ goodP σ c := by
  unfold goodP isAx
  rw [h.rw, h.st, h.1 5 (by decide)]
def kGo (c : Int) : Nat → Nat → MSt → MSt
  | 0, _, σ => σ
  | n + 1, i, σ => if r_has (rw_ σ) c i then (if stt σ i c.toNat = 0 then kGo c n (i + 1) (k_takesAll i σ) else k_takesAll i σ) else kGo c n (i + 1) σ
theorem kGo_sc (c : Int) : ∀ (n i : Nat) (σ : MSt), mR σ → SC σ (kGo c n i σ) := by
  intro n
  induction n with
  | zero => intro i σ _; exact SC.rf σ
  | succ n ih =>
    intro i σ hr
    have ht := (k_takesAll_ok hr i).1
    simp only [kGo]
    split
    · split
      · exact ht.tr (ih _ _ (ht.toR hr))
      · exact ht
    · exact ih _ _ hr
def k_gd (c : Int) (σ : MSt) : MSt := kGo c (σ.1 5).toNat 0 σ
theorem l_isGood {l : Launch} {g : AG} {C : MCx} (hC : MOK C) (c : Int) : ∀ (n i : Nat) (σ : MSt), (i : Int) + n = σ.1 5 → mR σ → mT σ → isCu σ c → (∀ a : Int, 0 ≤ a → a < i → r_has (rw_ σ) c a → stt σ a c.toNat = 0) → AWc l g miX4_isGood 15 0 0 (fun r2 h2 => r2 = some (iv (bI (goodP σ c))) ∧ h2 = mh C (kGo c n i σ)) (fun _ _ _ => False) 0 0 (mh C σ) 2 [some (.ref C.1), some (iv c), some (iv i)] [] := by
  intro n
  induction n with
  | zero =>
    intro i σ hi hr hT hc hA
    have h5 := hr.2.1
    refine aw_iload_n 3 dX4_isGood_2 rfl rfl ?_
    refine aw_aload_n 4 dX4_isGood_3 rfl rfl ?_
    refine aw_get 7 ci4 5 (by decide) q2036 (Or.inl rfl) (rdl (mh_obj _ _)) rfl dX4_isGood_4 rfl ?_
    refine aw_icmp_ge 44 10 (by omega) dX4_isGood_7 rfl rfl (fun c_7 => ?_) (fun c_7 => absurd c_7 (by omega))
    refine aw_iconst 45 dX4_isGood_44 rfl ?_
    exact aw_xz1 (by exact fun a ha => hA a ha.1 (by have := ha.2; omega)) (rfl) rfl dX4_isGood_45
  | succ n ih =>
    intro i σ hi hr hT hc hA
    have h5 := hr.2.1
    have h20 := hr.nC
    have hax : isAx σ i := ⟨by omega, by omega⟩
    have ht := k_takesAll_ok hr i
    have hst := stt_rg hr hax c.toNat
    have hc1 := hc.1
    have hc2 := hc.2
    refine aw_iload_n 3 dX4_isGood_2 rfl rfl ?_
    refine aw_aload_n 4 dX4_isGood_3 rfl rfl ?_
    refine aw_get 7 ci4 5 (by decide) q2036 (Or.inl rfl) (rdl (mh_obj _ _)) rfl dX4_isGood_4 rfl ?_
    refine aw_icmp_ge 44 10 (by omega) dX4_isGood_7 rfl rfl (fun c_7 => absurd c_7 (by omega)) (fun c_7 => ?_)
    refine aw_aload_n 11 dX4_isGood_10 rfl rfl ?_
    refine aw_iload_n 12 dX4_isGood_11 rfl rfl ?_
    refine aw_iload_n 13 dX4_isGood_12 rfl rfl ?_
    refine aw_xV 16 (m_has hC σ c i hr hc (by omega)) mvX4_has q2315 (rdl (mh_obj _ _)) rfl rfl rfl (by decide) (by decide) (Nat.le_refl _) (Nat.le_refl _) rfl (Nat.le_of_ble_eq_true rfl) dX4_isGood_13 rfl ?_
    refine aw_if_neB 22 19 dX4_isGood_16 rfl rfl (fun c_16 => ?_) (fun c_16 => ?_)
    · refine aw_aload_n 23 dX4_isGood_22 rfl rfl ?_
      refine aw_iload_n 24 dX4_isGood_23 rfl rfl ?_
      refine aw_xVv 27 (m_takesAll hC σ _ hr hT hax) mvX4_takesAll q2365 (rdl (mh_obj _ _)) rfl rfl rfl (by decide) (by decide) (Nat.le_refl _) (Nat.le_refl _) rfl (Nat.le_of_ble_eq_true rfl) dX4_isGood_24 rfl ?_
      refine aw_aload_n 28 dX4_isGood_27 rfl rfl ?_
      refine aw_get 31 ci4 32 (by decide) q2063 (Or.inl rfl) (rdl (mh_obj _ _)) rfl dX4_isGood_28 rfl ?_
      refine aw_iload_n 32 dX4_isGood_31 rfl rfl ?_
      refine aw_iald 33 (rdl (mh_32 hC _)) (by omega) dX4_isGood_32 rfl (by decide) ?_
      have hq := (ht.2.2.2 c.toNat (by omega) (by rw [show (c.toNat : Int) = c by omega]; assumption)).1
      refine aw_st (show _ = [iv (stt σ i c.toNat)] from congrArg (fun x => [iv x]) hq) ?_
      refine aw_if_eq 38 36 (by omega) dX4_isGood_33 rfl rfl (fun c_33 => ?_) (fun c_33 => ?_)
      · refine aw_iinc 41 dX4_isGood_38 rfl rfl (as_2 rfl) (by decide) ?_
        refine aw_goto 2 dX4_isGood_41 rfl ?_
        first | (rw [show kGo c (n + 1) i σ = kGo c n (i + 1) σ from if_neg (by assumption)]; exact ih (i + 1) σ (by omega) hr hT hc (fun a a0 a1 ah => by by_cases e : a = i; (subst e; exact absurd ah (by assumption)); exact hA a a0 (by omega) ah)) | (rw [show kGo c (n + 1) i σ = kGo c n (i + 1) (k_takesAll i σ) from (if_pos (by assumption)).trans (if_pos (by assumption)), ← propext (ht.1.good c)]; exact ih (i + 1) (k_takesAll i σ) (by rw [ht.1.1 5 (by decide)]; omega) (ht.1.toR hr) (ht.1.2.2 hT) (ht.1.cu hc) (fun a a0 a1 ah => by rw [ht.1.st]; rw [ht.1.rw] at ah; by_cases e : a = i; (subst e; assumption); exact hA a a0 (by omega) ah))
      · refine aw_iconst 37 dX4_isGood_36 rfl ?_
        exact aw_xz0 (by exact fun z => absurd (z i hax (by assumption)) (by assumption)) (by rw [show kGo c (n + 1) i σ = k_takesAll i σ from (if_pos (by assumption)).trans (if_neg (by assumption))]) rfl dX4_isGood_37
    · refine aw_goto 38 dX4_isGood_19 rfl ?_
      refine aw_iinc 41 dX4_isGood_38 rfl rfl (as_2 rfl) (by decide) ?_
      refine aw_goto 2 dX4_isGood_41 rfl ?_
      first | (rw [show kGo c (n + 1) i σ = kGo c n (i + 1) σ from if_neg (by assumption)]; exact ih (i + 1) σ (by omega) hr hT hc (fun a a0 a1 ah => by by_cases e : a = i; (subst e; exact absurd ah (by assumption)); exact hA a a0 (by omega) ah)) | (rw [show kGo c (n + 1) i σ = kGo c n (i + 1) (k_takesAll i σ) from (if_pos (by assumption)).trans (if_pos (by assumption)), ← propext (ht.1.good c)]; exact ih (i + 1) (k_takesAll i σ) (by rw [ht.1.1 5 (by decide)]; omega) (ht.1.toR hr) (ht.1.2.2 hT) (ht.1.cu hc) (fun a a0 a1 ah => by rw [ht.1.st]; rw [ht.1.rw] at ah; by_cases e : a = i; (subst e; assumption); exact hA a a0 (by omega) ah))
theorem m_isGood {l : Launch} {g : AG} {C : MCx} (hC : MOK C) (σ : MSt) (c : Int) (hr : mR σ) (hT : mT σ) (hc : isCu σ c): AMx l g miX4_isGood 15 [.ref C.1, iv c] (mh C σ) (some (iv (bI (goodP σ c)))) (mh C (k_gd c σ)) := by
  refine aw_start 1 (by decide) rfl (Nat.le_of_ble_eq_true rfl) ?_
  show AWc l g miX4_isGood 15 0 0 _ _ 0 0 (mh C σ) 0 [some (.ref C.1), some (iv c), none] []
  have h5 := hr.2.1
  refine aw_iconst 1 dX4_isGood_0 rfl ?_
  refine aw_istore_n 2 dX4_isGood_1 rfl (as_2 rfl) (by decide) ?_
  exact l_isGood hC c (σ.1 5).toNat 0 σ (by omega) hr hT hc (fun a a0 a1 => by omega)
theorem k_gd_sc {σ : MSt} (hr : mR σ) (c : Int) : SC σ (k_gd c σ) := kGo_sc c _ _ σ hr
/-- the first frame, from i on, in which a cue is good -/
noncomputable def kEL (c : Int) : Nat → Nat → MSt → MSt × Int
  | 0, _, σ => (σ, -1)
  | n + 1, i, σ => @ite _ (goodP (k_mv c i σ) c) (Classical.propDecidable _) (k_gd c (k_mv c i σ), (i : Int)) (kEL c n (i + 1) (k_gd c (k_mv c i σ)))
theorem l_earliest {l : Launch} {g : AG} {C : MCx} (hC : MOK C) (c L : Int) (hL : 1 ≤ L ∧ L ≤ 999) : ∀ (n i : Nat) (σ : MSt), (i : Int) + n = 1000 - L → mR σ → mT σ → isCu σ c → r_ln (rw_ σ) c = L → AWc l g miX4_earliest 16 0 0 (fun r2 h2 => r2 = some (iv (kEL c n i σ).2) ∧ h2 = mh C (sF (kEL c n i σ).1 2 0)) (fun _ _ _ => False) 0 0 (mh C σ) 27 [some (.ref C.1), some (iv c), some (iv (-1)), some (iv i)] [] := by
  intro n
  induction n with
  | zero =>
    intro i σ hi hr hT hc hl
    have h20 := hr.nC
    have hc1 := hc.1
    have hc2 := hc.2
    refine aw_iload_n 28 dX4_earliest_27 rfl rfl ?_
    refine aw_sipush 31 dX4_earliest_28 rfl (by decide) ?_
    refine aw_aload_n 32 dX4_earliest_31 rfl rfl ?_
    refine aw_iload_n 33 dX4_earliest_32 rfl rfl ?_
    refine aw_iconst 34 dX4_earliest_33 rfl ?_
    refine aw_xV 37 (m_of1 hC σ c hr.1 (by omega)) mvX4_of q2299 (rdl (mh_obj _ _)) rfl rfl rfl (by decide) (by decide) (Nat.le_refl _) (Nat.le_refl _) rfl (Nat.le_of_ble_eq_true rfl) dX4_earliest_34 rfl ?_
    refine aw_isub 38 dX4_earliest_37 rfl ?_
    refine aw_icmp_gt 69 41 (by omega) dX4_earliest_38 rfl rfl (fun c_38 => ?_) (fun c_38 => absurd c_38 (by omega))
    refine aw_aload_n 70 dX4_earliest_69 rfl rfl ?_
    refine aw_iconst 71 dX4_earliest_70 rfl ?_
    refine aw_put 74 ci4 2 (by decide) q2033 (Or.inl rfl) rfl rfl rfl (Nat.le_of_ble_eq_true rfl) (mh_obj _ _) dX4_earliest_71 rfl ?_
    refine aw_h (mhp_2 _ _ _) ?_
    refine aw_iload_n 75 dX4_earliest_74 rfl rfl ?_
    exact aw_xi (by rfl) (rfl) rfl dX4_earliest_75
  | succ n ih =>
    intro i σ hi hr hT hc hl
    have h20 := hr.nC
    have hc1 := hc.1
    have hc2 := hc.2
    have hr2 := k_mv_mR hr (f := (i : Int)) hc (by omega)
    have e2 := k_mv_rw hr.1 (f := (i : Int)) (c := c) (by omega)
    obtain ⟨e3, -, e4, -, -, -, e5, -⟩ := rU_cue (rw_ σ) (c := c) (w := 0) (i : Int) (by omega) (by decide)
    have hc3 : isCu (k_mv c i σ) c := by
      unfold isCu
      rw [e2, e4]
      exact hc
    have hs := k_gd_sc hr2 c
    have hr4 := hs.toR hr2
    have hl4 : r_ln (rw_ (k_gd c (k_mv c i σ))) c = L := by
      rw [hs.rw, e2, e5, if_neg (by omega)]
      exact hl
    have hd := m_isGood (l := l) (g := g) hC (k_mv c i σ) c hr2 hT hc3
    have hof := m_of1 (l := l) (g := g) hC (k_gd c (k_mv c i σ)) c hr4.1 (by omega)
    rw [hl4] at hof
    by_cases hx : goodP (k_mv c i σ) c
    · rw [show kEL c (n + 1) i σ = (k_gd c (k_mv c i σ), (i : Int)) from if_pos hx]
      refine aw_iload_n 28 dX4_earliest_27 rfl rfl ?_
      refine aw_sipush 31 dX4_earliest_28 rfl (by decide) ?_
      refine aw_aload_n 32 dX4_earliest_31 rfl rfl ?_
      refine aw_iload_n 33 dX4_earliest_32 rfl rfl ?_
      refine aw_iconst 34 dX4_earliest_33 rfl ?_
      refine aw_xV 37 (m_of1 hC σ c hr.1 (by omega)) mvX4_of q2299 (rdl (mh_obj _ _)) rfl rfl rfl (by decide) (by decide) (Nat.le_refl _) (Nat.le_refl _) rfl (Nat.le_of_ble_eq_true rfl) dX4_earliest_34 rfl ?_
      refine aw_isub 38 dX4_earliest_37 rfl ?_
      refine aw_icmp_gt 69 41 (by omega) dX4_earliest_38 rfl rfl (fun c_38 => absurd c_38 (by omega)) (fun c_38 => ?_)
      refine aw_iload_n 42 dX4_earliest_41 rfl rfl ?_
      refine aw_iconst 43 dX4_earliest_42 rfl ?_
      refine aw_icmp_ne 69 46 (by omega) dX4_earliest_43 rfl rfl (fun c_43 => absurd c_43 (by omega)) (fun c_43 => ?_)
      refine aw_aload_n 47 dX4_earliest_46 rfl rfl ?_
      refine aw_iload_n 48 dX4_earliest_47 rfl rfl ?_
      refine aw_iconst 49 dX4_earliest_48 rfl ?_
      refine aw_iload_n 50 dX4_earliest_49 rfl rfl ?_
      refine aw_xVv 53 (m_setOf hC σ c 0 i hr.1 (by omega) (by decide)) mvX4_setOf q2543 (rdl (mh_obj _ _)) rfl rfl rfl (by decide) (by decide) (Nat.le_refl _) (Nat.le_refl _) rfl (Nat.le_of_ble_eq_true rfl) dX4_earliest_50 rfl ?_
      refine aw_aload_n 54 dX4_earliest_53 rfl rfl ?_
      refine aw_iload_n 55 dX4_earliest_54 rfl rfl ?_
      refine aw_xV 58 (hd) mvX4_isGood q2551 (rdl (mh_obj _ _)) rfl rfl rfl (by decide) (by decide) (Nat.le_refl _) (Nat.le_refl _) rfl (Nat.le_of_ble_eq_true rfl) dX4_earliest_55 rfl ?_
      refine aw_if_eqB 63 61 dX4_earliest_58 rfl rfl (fun c_58 => (absurd hx (by assumption))) (fun c_58 => ?_)
      refine aw_iload_n 62 dX4_earliest_61 rfl rfl ?_
      refine aw_istore_n 63 dX4_earliest_62 rfl (as_2 rfl) (by decide) ?_
      refine aw_iinc 66 dX4_earliest_63 rfl rfl (as_3 rfl) (by decide) ?_
      refine aw_goto 27 dX4_earliest_66 rfl ?_
      skip
      refine aw_iload_n 28 dX4_earliest_27 rfl rfl ?_
      refine aw_sipush 31 dX4_earliest_28 rfl (by decide) ?_
      refine aw_aload_n 32 dX4_earliest_31 rfl rfl ?_
      refine aw_iload_n 33 dX4_earliest_32 rfl rfl ?_
      refine aw_iconst 34 dX4_earliest_33 rfl ?_
      refine aw_xV 37 (hof) mvX4_of q2299 (rdl (mh_obj _ _)) rfl rfl rfl (by decide) (by decide) (Nat.le_refl _) (Nat.le_refl _) rfl (Nat.le_of_ble_eq_true rfl) dX4_earliest_34 rfl ?_
      refine aw_isub 38 dX4_earliest_37 rfl ?_
      refine aw_icmp_gt 69 41 (by omega) dX4_earliest_38 rfl rfl (fun e_38 => ?_) (fun e_38 => ?_)
      · refine aw_aload_n 70 dX4_earliest_69 rfl rfl ?_
        refine aw_iconst 71 dX4_earliest_70 rfl ?_
        refine aw_put 74 ci4 2 (by decide) q2033 (Or.inl rfl) rfl rfl rfl (Nat.le_of_ble_eq_true rfl) (mh_obj _ _) dX4_earliest_71 rfl ?_
        refine aw_h (mhp_2 _ _ _) ?_
        refine aw_iload_n 75 dX4_earliest_74 rfl rfl ?_
        exact aw_xi (by rfl) (rfl) rfl dX4_earliest_75
      · refine aw_iload_n 42 dX4_earliest_41 rfl rfl ?_
        refine aw_iconst 43 dX4_earliest_42 rfl ?_
        refine aw_icmp_ne 69 46 (by omega) dX4_earliest_43 rfl rfl (fun e_43 => ?_) (fun e_43 => absurd e_43 (by omega))
        refine aw_aload_n 70 dX4_earliest_69 rfl rfl ?_
        refine aw_iconst 71 dX4_earliest_70 rfl ?_
        refine aw_put 74 ci4 2 (by decide) q2033 (Or.inl rfl) rfl rfl rfl (Nat.le_of_ble_eq_true rfl) (mh_obj _ _) dX4_earliest_71 rfl ?_
        refine aw_h (mhp_2 _ _ _) ?_
        refine aw_iload_n 75 dX4_earliest_74 rfl rfl ?_
        exact aw_xi (by rfl) (rfl) rfl dX4_earliest_75
    · rw [show kEL c (n + 1) i σ = kEL c n (i + 1) (k_gd c (k_mv c i σ)) from if_neg hx]
      refine aw_iload_n 28 dX4_earliest_27 rfl rfl ?_
      refine aw_sipush 31 dX4_earliest_28 rfl (by decide) ?_
      refine aw_aload_n 32 dX4_earliest_31 rfl rfl ?_
      refine aw_iload_n 33 dX4_earliest_32 rfl rfl ?_
      refine aw_iconst 34 dX4_earliest_33 rfl ?_
      refine aw_xV 37 (m_of1 hC σ c hr.1 (by omega)) mvX4_of q2299 (rdl (mh_obj _ _)) rfl rfl rfl (by decide) (by decide) (Nat.le_refl _) (Nat.le_refl _) rfl (Nat.le_of_ble_eq_true rfl) dX4_earliest_34 rfl ?_
      refine aw_isub 38 dX4_earliest_37 rfl ?_
      refine aw_icmp_gt 69 41 (by omega) dX4_earliest_38 rfl rfl (fun c_38 => absurd c_38 (by omega)) (fun c_38 => ?_)
      refine aw_iload_n 42 dX4_earliest_41 rfl rfl ?_
      refine aw_iconst 43 dX4_earliest_42 rfl ?_
      refine aw_icmp_ne 69 46 (by omega) dX4_earliest_43 rfl rfl (fun c_43 => absurd c_43 (by omega)) (fun c_43 => ?_)
      refine aw_aload_n 47 dX4_earliest_46 rfl rfl ?_
      refine aw_iload_n 48 dX4_earliest_47 rfl rfl ?_
      refine aw_iconst 49 dX4_earliest_48 rfl ?_
      refine aw_iload_n 50 dX4_earliest_49 rfl rfl ?_
      refine aw_xVv 53 (m_setOf hC σ c 0 i hr.1 (by omega) (by decide)) mvX4_setOf q2543 (rdl (mh_obj _ _)) rfl rfl rfl (by decide) (by decide) (Nat.le_refl _) (Nat.le_refl _) rfl (Nat.le_of_ble_eq_true rfl) dX4_earliest_50 rfl ?_
      refine aw_aload_n 54 dX4_earliest_53 rfl rfl ?_
      refine aw_iload_n 55 dX4_earliest_54 rfl rfl ?_
      refine aw_xV 58 (hd) mvX4_isGood q2551 (rdl (mh_obj _ _)) rfl rfl rfl (by decide) (by decide) (Nat.le_refl _) (Nat.le_refl _) rfl (Nat.le_of_ble_eq_true rfl) dX4_earliest_55 rfl ?_
      refine aw_if_eqB 63 61 dX4_earliest_58 rfl rfl (fun c_58 => ?_) (fun c_58 => (absurd (by assumption) hx))
      refine aw_iinc 66 dX4_earliest_63 rfl rfl (as_3 rfl) (by decide) ?_
      refine aw_goto 27 dX4_earliest_66 rfl ?_
      exact ih (i + 1) (k_gd c (k_mv c i σ)) (by omega) hr4 (hs.2.2 hT) (hs.cu hc3) hl4
theorem va_up_up {f : Nat → Int} (i : Nat) (x y : Int) : va_up (va_up f i x) i y = va_up f i y := by
  funext j
  simp only [va_up_at]
  split <;> rfl
/-- the frame apart, two states are alike -/
theorem k_mv_sc {σ τ : MSt} {c x : Int} (h : SC (k_mv c x σ) τ) (y : Int) : SC (k_mv c y σ) (k_mv c y τ) := by
  have h1 : τ.2 1 = va_up (σ.2 1) (σ.1 2 + (9 + 7 * c + 0)).toNat x := h.2.1 1 (by decide)
  have h2 : τ.1 2 = σ.1 2 := h.1 2 (by decide)
  refine ⟨fun j hj => h.1 j hj, fun k hk => ?_, h.2.2⟩
  by_cases e : k = 1
  · subst e
    show va_up (τ.2 1) (τ.1 2 + (9 + 7 * c + 0)).toNat y = va_up (σ.2 1) (σ.1 2 + (9 + 7 * c + 0)).toNat y
    rw [h1, h2, va_up_up]
  · show va_up τ.2 1 _ k = va_up σ.2 1 _ k
    have hk2 := h.2.1 k hk
    have hk3 : τ.2 k = σ.2 k := hk2.trans (if_neg e)
    rw [va_up_at, va_up_at, if_neg e, if_neg e, hk3]
theorem k_mv_sc0 {σ τ : MSt} {c : Int} (h : SC σ τ) (y : Int) : SC (k_mv c y σ) (k_mv c y τ) := by
  refine ⟨fun j hj => h.1 j hj, fun k hk => ?_, h.2.2⟩
  by_cases e : k = 1
  · subst e
    show va_up (τ.2 1) (τ.1 2 + (9 + 7 * c + 0)).toNat y = va_up (σ.2 1) (σ.1 2 + (9 + 7 * c + 0)).toNat y
    rw [h.2.1 1 (by decide), h.1 2 (by decide)]
  · show va_up τ.2 1 _ k = va_up σ.2 1 _ k
    rw [va_up_at, va_up_at, if_neg e, if_neg e, h.2.1 k hk]
/-- what is found, and that the rest is scratch -/
theorem kEL_ok (c L : Int) (hL : 1 ≤ L ∧ L ≤ 999) {σ : MSt} : ∀ (n i : Nat) (τ : MSt), (i : Int) + n = 1000 - L → mR τ → isCu τ c → r_ln (rw_ τ) c = L → (SC σ τ ∨ ∃ x, SC (k_mv c x σ) τ) → (kEL c n i τ).2 = fst1 (fun f => goodP (k_mv c f σ) c) n i ∧ (SC σ (kEL c n i τ).1 ∨ ∃ x, SC (k_mv c x σ) (kEL c n i τ).1) := by
  intro n
  induction n with
  | zero => intro i τ _ _ _ _ h; exact ⟨rfl, h⟩
  | succ n ih =>
    intro i τ hi hr hc hl h
    have h20 := hr.nC
    have hc1 := hc.1
    have hc2 := hc.2
    have h2 : SC (k_mv c i σ) (k_mv c i τ) := by
      rcases h with h | ⟨x, h⟩
      · exact k_mv_sc0 h _
      · exact k_mv_sc h _
    have hr2 := k_mv_mR hr (f := (i : Int)) hc (by omega)
    have e2 := k_mv_rw hr.1 (f := (i : Int)) (c := c) (by omega)
    obtain ⟨e3, -, e4, -, -, -, e5, -⟩ := rU_cue (rw_ τ) (c := c) (w := 0) (i : Int) (by omega) (by decide)
    have hc3 : isCu (k_mv c i τ) c := by
      unfold isCu
      rw [e2, e4]
      exact hc
    have hs := k_gd_sc hr2 c
    have hg := h2.good c
    by_cases hx : goodP (k_mv c i τ) c
    · rw [show kEL c (n + 1) i τ = (k_gd c (k_mv c i τ), (i : Int)) from if_pos hx, show fst1 (fun f => goodP (k_mv c f σ) c) (n + 1) i = i from if_pos (hg.mp hx)]
      exact ⟨rfl, Or.inr ⟨i, h2.tr hs⟩⟩
    · rw [show kEL c (n + 1) i τ = kEL c n (i + 1) (k_gd c (k_mv c i τ)) from if_neg hx, show fst1 (fun f => goodP (k_mv c f σ) c) (n + 1) i = fst1 (fun f => goodP (k_mv c f σ) c) n (i + 1) from if_neg (fun z => hx (hg.mpr z))]
      refine ih (i + 1) _ (by omega) (hs.toR hr2) (hs.cu hc3) ?_ (Or.inr ⟨i, h2.tr hs⟩)
      rw [hs.rw, e2, e5, if_neg (by omega)]
      exact hl
noncomputable def o_earliest (c : Int) (σ : MSt) : Int × Int := if isCu σ c then (0, fst1 (fun f => goodP (k_mv c f (k_beginTrial σ)) c) (1000 - r_ln (rw_ σ) c).toNat 0) else (1, 0)
noncomputable def k_earliest (c : Int) (σ : MSt) : MSt := if isCu σ c then sF (kEL c (1000 - r_ln (rw_ σ) c).toNat 0 (k_beginTrial σ)).1 2 0 else σ
theorem m_earliest {l : Launch} {g : AG} {C : MCx} (hC : MOK C) (σ : MSt) (c : Int) (hr : mR σ) (hT : mT σ) (h2 : σ.1 2 = 0) (hc : Rg c): AMx l g miX4_earliest 16 [.ref C.1, iv c] (mh C σ) (some (iv (o_earliest c (sF σ 0 0)).2)) (mh C (sF (k_earliest c (sF σ 0 0)) 0 (o_earliest c (sF σ 0 0)).1)) := by
  refine aw_start 2 (by decide) rfl (Nat.le_of_ble_eq_true rfl) ?_
  show AWc l g miX4_earliest 16 0 0 _ _ 0 0 (mh C σ) 0 [some (.ref C.1), some (iv c), none, none] []
  have h0 : (sF σ 0 0).1 0 = 0 := rfl
  have hr : mR (sF σ 0 0) := hr
  have hT : mT (sF σ 0 0) := hT
  have h2 : (sF σ 0 0).1 2 = 0 := h2
  refine aw_aload_n 1 dX4_earliest_0 rfl rfl ?_
  refine aw_iconst 2 dX4_earliest_1 rfl ?_
  refine aw_put 5 ci4 0 (by decide) q2031 (Or.inl rfl) rfl rfl rfl (Nat.le_of_ble_eq_true rfl) (mh_obj _ _) dX4_earliest_2 rfl ?_
  refine aw_h (mhp_0 _ _ _) ?_
  generalize sF σ 0 0 = σ at h0 hr hT h2 ⊢
  have h20 := hr.nC
  have hr1 := k_beginTrial_mR hr h2
  have e1 := k_beginTrial_rw h2
  refine aw_aload_n 6 dX4_earliest_5 rfl rfl ?_
  refine aw_iload_n 7 dX4_earliest_6 rfl rfl ?_
  refine aw_xV 10 (m_isCue hC _ _ hr (by omega)) mvX4_isCue q2295 (rdl (mh_obj _ _)) rfl rfl rfl (by decide) (by decide) (Nat.le_refl _) (Nat.le_refl _) rfl (Nat.le_of_ble_eq_true rfl) dX4_earliest_7 rfl ?_
  refine aw_if_neB 19 13 dX4_earliest_10 rfl rfl (fun c_10 => ?_) (fun c_10 => ?_)
  · have hL := (hr.cue (c := c) c_10.1 c_10.2).1; have hc3 : isCu (k_beginTrial σ) c := (by unfold isCu; rw [e1]; exact c_10); have hl3 : r_ln (rw_ (k_beginTrial σ)) c = r_ln (rw_ σ) c := by rw [e1]
    have ho := kEL_ok c (r_ln (rw_ σ) c) (by omega) (σ := k_beginTrial σ) (1000 - r_ln (rw_ σ) c).toNat 0 (k_beginTrial σ) (by omega) hr1 hc3 hl3 (Or.inl (SC.rf _))
    have hz : (sF (kEL c (1000 - r_ln (rw_ σ) c).toNat 0 (k_beginTrial σ)).1 2 0).1 0 = 0 := (by rcases ho.2 with z | ⟨x, z⟩; (exact (z.1 0 (by decide)).trans h0); exact (z.1 0 (by decide)).trans h0)
    rw [show o_earliest c σ = (0, (kEL c (1000 - r_ln (rw_ σ) c).toNat 0 (k_beginTrial σ)).2) from (if_pos c_10).trans (by rw [ho.1]), show k_earliest c σ = sF (kEL c (1000 - r_ln (rw_ σ) c).toNat 0 (k_beginTrial σ)).1 2 0 from if_pos c_10, sF_id hz]
    refine aw_aload_n 20 dX4_earliest_19 rfl rfl ?_
    refine aw_xVv 23 (m_beginTrial hC σ) mvX4_beginTrial q2539 (rdl (mh_obj _ _)) rfl rfl rfl (by decide) (by decide) (Nat.le_refl _) (Nat.le_refl _) rfl (Nat.le_of_ble_eq_true rfl) dX4_earliest_20 rfl ?_
    refine aw_iconst 24 dX4_earliest_23 rfl ?_
    refine aw_istore_n 25 dX4_earliest_24 rfl (as_2 rfl) (by decide) ?_
    refine aw_iconst 26 dX4_earliest_25 rfl ?_
    refine aw_istore_n 27 dX4_earliest_26 rfl (as_3 rfl) (by decide) ?_
    exact l_earliest hC c (r_ln (rw_ σ) c) (by omega) (1000 - r_ln (rw_ σ) c).toNat 0 (k_beginTrial σ) (by omega) hr1 hT hc3 hl3
  · refine aw_aload_n 14 dX4_earliest_13 rfl rfl ?_
    refine aw_iconst 15 dX4_earliest_14 rfl ?_
    refine aw_xV 18 (m_fails hC _ _) mvX4_fails q2151 (rdl (mh_obj _ _)) rfl rfl rfl (by decide) (by decide) (Nat.le_refl _) (Nat.le_refl _) rfl (Nat.le_of_ble_eq_true rfl) dX4_earliest_15 rfl ?_
    exact aw_xi (by unfold o_earliest; rw [if_neg (by assumption)]) (by unfold o_earliest k_earliest; rw [if_neg (by assumption), if_neg (by assumption)]) rfl dX4_earliest_18
/-- in how many of the first n frames a wall is hit -/
def htF (σ : MSt) : Nat → Int := sof (fun f => if wlF σ f = 0 then 0 else 1)
theorem l_hits {l : Launch} {g : AG} {C : MCx} (hC : MOK C) {σ : MSt} (τ : MSt) (c f : Int) (H : AH) (hH : H = mh C (sF τ 2 0)) (hr : mR σ) (hl : LD σ τ) : ∀ (n i : Nat), i + n = 1000 → AWc l g miX4_hitsIf 17 0 0 (fun r2 h2 => r2 = some (iv (htF σ 1000)) ∧ h2 = H) (fun _ _ _ => False) 0 0 (mh C τ) 63 [some (.ref C.1), some (iv c), some (iv f), some (iv (htF σ i)), some (iv i)] [] := by
  intro n
  induction n with
  | zero =>
    intro i hi
    have e : i = 1000 := by omega
    subst e
    refine aw_iload 65 dX4_hitsIf_63 rfl rfl ?_
    refine aw_sipush 68 dX4_hitsIf_65 rfl (by decide) ?_
    refine aw_icmp_ge 89 71 (by omega) dX4_hitsIf_68 rfl rfl (fun c_68 => ?_) (fun c_68 => absurd c_68 (by omega))
    refine aw_aload_n 90 dX4_hitsIf_89 rfl rfl ?_
    refine aw_iconst 91 dX4_hitsIf_90 rfl ?_
    refine aw_put 94 ci4 2 (by decide) q2033 (Or.inl rfl) rfl rfl rfl (Nat.le_of_ble_eq_true rfl) (mh_obj _ _) dX4_hitsIf_91 rfl ?_
    refine aw_h (mhp_2 _ _ _) ?_
    refine aw_iload_n 95 dX4_hitsIf_94 rfl rfl ?_
    exact aw_xi (by rfl) (hH.symm) rfl dX4_hitsIf_95
  | succ n ih =>
    intro i hi
    have ih := ih (i + 1) (by omega)
    have hg := wlF_Rg σ (i : Int)
    refine aw_iload 65 dX4_hitsIf_63 rfl rfl ?_
    refine aw_sipush 68 dX4_hitsIf_65 rfl (by decide) ?_
    refine aw_icmp_ge 89 71 (by omega) dX4_hitsIf_68 rfl rfl (fun c_68 => absurd c_68 (by omega)) (fun c_68 => ?_)
    refine aw_aload_n 72 dX4_hitsIf_71 rfl rfl ?_
    refine aw_iload 74 dX4_hitsIf_72 rfl rfl ?_
    refine aw_xV 77 (m_wallsAt hC τ (i : Int) hr hl (by omega)) mvX4_wallsAt q2468 (rdl (mh_obj _ _)) rfl rfl rfl (by decide) (by decide) (Nat.le_refl _) (Nat.le_refl _) rfl (Nat.le_of_ble_eq_true rfl) dX4_hitsIf_74 rfl ?_
    refine aw_if_eq 83 80 (by omega) dX4_hitsIf_77 rfl rfl (fun c_77 => ?_) (fun c_77 => ?_)
    · refine aw_iinc 86 dX4_hitsIf_83 rfl rfl (as_4 rfl) (by decide) ?_
      refine aw_goto 63 dX4_hitsIf_86 rfl ?_
      first | (rw [show htF σ (i + 1) = htF σ i + 1 from congrArg (htF σ i + ·) (if_neg (by assumption))] at ih; exact ih) | (rw [show htF σ (i + 1) = htF σ i from (congrArg (htF σ i + ·) (if_pos (by assumption))).trans (Int.add_zero _)] at ih; exact ih)
    · refine aw_iinc 83 dX4_hitsIf_80 rfl rfl (as_3 rfl) (by decide) ?_
      refine aw_iinc 86 dX4_hitsIf_83 rfl rfl (as_4 rfl) (by decide) ?_
      refine aw_goto 63 dX4_hitsIf_86 rfl ?_
      first | (rw [show htF σ (i + 1) = htF σ i + 1 from congrArg (htF σ i + ·) (if_neg (by assumption))] at ih; exact ih) | (rw [show htF σ (i + 1) = htF σ i from (congrArg (htF σ i + ·) (if_pos (by assumption))).trans (Int.add_zero _)] at ih; exact ih)
def o_hitsIf (c f : Int) (σ : MSt) : Int × Int := if isCu σ c then (if 0 ≤ f ∧ f ≤ 999 - r_ln (rw_ σ) c then (0, htF (k_mv c f (k_beginTrial σ)) 1000) else (2, 0)) else (1, 0)
def k_hitsIf (c f : Int) (σ : MSt) : MSt := if (o_hitsIf c f σ).1 = 0 then sF (k_laysAll (k_mv c f (k_beginTrial σ))) 2 0 else σ
theorem m_hitsIf {l : Launch} {g : AG} {C : MCx} (hC : MOK C) (σ : MSt) (c f : Int) (hr : mR σ) (hT : mT σ) (h2 : σ.1 2 = 0) (hc : Rg c) (hf : Rg f): AMx l g miX4_hitsIf 17 [.ref C.1, iv c, iv f] (mh C σ) (some (iv (o_hitsIf c f (sF σ 0 0)).2)) (mh C (sF (k_hitsIf c f (sF σ 0 0)) 0 (o_hitsIf c f (sF σ 0 0)).1)) := by
  refine aw_start 2 (by decide) rfl (Nat.le_of_ble_eq_true rfl) ?_
  show AWc l g miX4_hitsIf 17 0 0 _ _ 0 0 (mh C σ) 0 [some (.ref C.1), some (iv c), some (iv f), none, none] []
  have h0 : (sF σ 0 0).1 0 = 0 := rfl
  have hr : mR (sF σ 0 0) := hr
  have hT : mT (sF σ 0 0) := hT
  have h2 : (sF σ 0 0).1 2 = 0 := h2
  refine aw_aload_n 1 dX4_hitsIf_0 rfl rfl ?_
  refine aw_iconst 2 dX4_hitsIf_1 rfl ?_
  refine aw_put 5 ci4 0 (by decide) q2031 (Or.inl rfl) rfl rfl rfl (Nat.le_of_ble_eq_true rfl) (mh_obj _ _) dX4_hitsIf_2 rfl ?_
  refine aw_h (mhp_0 _ _ _) ?_
  generalize sF σ 0 0 = σ at h0 hr hT h2 ⊢
  have h20 := hr.nC
  have hr1 := k_beginTrial_mR hr h2
  have e1 := k_beginTrial_rw h2
  refine aw_aload_n 6 dX4_hitsIf_5 rfl rfl ?_
  refine aw_iload_n 7 dX4_hitsIf_6 rfl rfl ?_
  refine aw_xV 10 (m_isCue hC _ _ hr (by omega)) mvX4_isCue q2295 (rdl (mh_obj _ _)) rfl rfl rfl (by decide) (by decide) (Nat.le_refl _) (Nat.le_refl _) rfl (Nat.le_of_ble_eq_true rfl) dX4_hitsIf_7 rfl ?_
  refine aw_if_neB 19 13 dX4_hitsIf_10 rfl rfl (fun c_10 => ?_) (fun c_10 => ?_)
  · have hL := (hr.cue (c := c) c_10.1 c_10.2).1; have hc3 : isCu (k_beginTrial σ) c := (by unfold isCu; rw [e1]; exact c_10)
    refine aw_iload_n 20 dX4_hitsIf_19 rfl rfl ?_
    refine aw_iconst 21 dX4_hitsIf_20 rfl ?_
    refine aw_sipush 24 dX4_hitsIf_21 rfl (by decide) ?_
    refine aw_aload_n 25 dX4_hitsIf_24 rfl rfl ?_
    refine aw_iload_n 26 dX4_hitsIf_25 rfl rfl ?_
    refine aw_iconst 27 dX4_hitsIf_26 rfl ?_
    refine aw_xV 30 (m_of1 hC _ _ hr.1 (by omega)) mvX4_of q2299 (rdl (mh_obj _ _)) rfl rfl rfl (by decide) (by decide) (Nat.le_refl _) (Nat.le_refl _) rfl (Nat.le_of_ble_eq_true rfl) dX4_hitsIf_27 rfl ?_
    refine aw_isub 31 dX4_hitsIf_30 rfl ?_
    refine aw_xS 34 (m_isIn _ _ _ (by omega) (by omega) (by omega)) msX4_isIn q2163 rfl (by decide) (by decide) (Nat.le_refl _) (Nat.le_refl _) rfl (Nat.le_of_ble_eq_true rfl) dX4_hitsIf_31 rfl ?_
    refine aw_if_neB 43 37 dX4_hitsIf_34 rfl rfl (fun c_34 => ?_) (fun c_34 => ?_)
    · refine aw_aload_n 44 dX4_hitsIf_43 rfl rfl ?_
      refine aw_xVv 47 (m_beginTrial hC σ) mvX4_beginTrial q2539 (rdl (mh_obj _ _)) rfl rfl rfl (by decide) (by decide) (Nat.le_refl _) (Nat.le_refl _) rfl (Nat.le_of_ble_eq_true rfl) dX4_hitsIf_44 rfl ?_
      refine aw_aload_n 48 dX4_hitsIf_47 rfl rfl ?_
      refine aw_iload_n 49 dX4_hitsIf_48 rfl rfl ?_
      refine aw_iconst 50 dX4_hitsIf_49 rfl ?_
      refine aw_iload_n 51 dX4_hitsIf_50 rfl rfl ?_
      refine aw_xVv 54 (m_setOf hC (k_beginTrial σ) c 0 f hr1.1 (by omega) (by decide)) mvX4_setOf q2543 (rdl (mh_obj _ _)) rfl rfl rfl (by decide) (by decide) (Nat.le_refl _) (Nat.le_refl _) rfl (Nat.le_of_ble_eq_true rfl) dX4_hitsIf_51 rfl ?_
      refine aw_h (show _ = mh C (k_mv c f (k_beginTrial σ)) from rfl) ?_
      have hr2 := k_mv_mR hr1 (f := f) hc3 (by rw [e1]; omega)
      have hl := k_laysAll_ok hr2
      have ho : o_hitsIf c f σ = (0, htF (k_mv c f (k_beginTrial σ)) 1000) := (if_pos (by assumption)).trans (if_pos (by assumption))
      refine aw_aload_n 55 dX4_hitsIf_54 rfl rfl ?_
      refine aw_xVv 58 (m_laysAll hC _ hr2 hT) mvX4_laysAll q2428 (rdl (mh_obj _ _)) rfl rfl rfl (by decide) (by decide) (Nat.le_refl _) (Nat.le_refl _) rfl (Nat.le_of_ble_eq_true rfl) dX4_hitsIf_55 rfl ?_
      refine aw_iconst 59 dX4_hitsIf_58 rfl ?_
      refine aw_istore_n 60 dX4_hitsIf_59 rfl (as_3 rfl) (by decide) ?_
      refine aw_iconst 61 dX4_hitsIf_60 rfl ?_
      refine aw_istore 63 dX4_hitsIf_61 rfl (as_4 rfl) (by decide) ?_
      rw [show k_hitsIf c f σ = sF (k_laysAll (k_mv c f (k_beginTrial σ))) 2 0 from by unfold k_hitsIf; rw [ho, if_pos rfl], ho]
      exact l_hits hC (k_laysAll (k_mv c f (k_beginTrial σ))) c f _ (congrArg (mh C) (sF_id (k := 0) (z := 0) (hl.th.trans h0))) hr2 hl 1000 0 rfl
    · have ho : o_hitsIf c f σ = (2, 0) := (if_pos (by assumption)).trans (if_neg (by assumption))
      refine aw_aload_n 38 dX4_hitsIf_37 rfl rfl ?_
      refine aw_iconst 39 dX4_hitsIf_38 rfl ?_
      refine aw_xV 42 (m_fails hC _ _) mvX4_fails q2151 (rdl (mh_obj _ _)) rfl rfl rfl (by decide) (by decide) (Nat.le_refl _) (Nat.le_refl _) rfl (Nat.le_of_ble_eq_true rfl) dX4_hitsIf_39 rfl ?_
      exact aw_xi (by rw [ho]) (by unfold k_hitsIf; rw [ho, if_neg (show ¬ (2 : Int) = 0 by decide)]) rfl dX4_hitsIf_42
  · have ho : o_hitsIf c f σ = (1, 0) := if_neg (by assumption)
    refine aw_aload_n 14 dX4_hitsIf_13 rfl rfl ?_
    refine aw_iconst 15 dX4_hitsIf_14 rfl ?_
    refine aw_xV 18 (m_fails hC _ _) mvX4_fails q2151 (rdl (mh_obj _ _)) rfl rfl rfl (by decide) (by decide) (Nat.le_refl _) (Nat.le_refl _) rfl (Nat.le_of_ble_eq_true rfl) dX4_hitsIf_15 rfl ?_
    exact aw_xi (by rw [ho]) (by unfold k_hitsIf; rw [ho, if_neg (show ¬ (1 : Int) = 0 by decide)]) rfl dX4_hitsIf_18
