/-! CameraMovesModel: format -/
set_option maxRecDepth 100000
theorem wlm_cg {σ τ : MSt} (h1 : rw_ τ = rw_ σ) (h2 : τ.2 7 = σ.2 7) (f : Int) : ∀ n, wlm τ f n = wlm σ f n := by
  intro n
  induction n with
  | zero => rfl
  | succ n ih =>
    simp only [wlm, ins]
    rw [ih, h1, pos_cg h1 h2]
theorem wlF_cg {σ τ : MSt} (h1 : rw_ τ = rw_ σ) (h2 : τ.2 7 = σ.2 7) (f : Int) : wlF τ f = wlF σ f := by
  unfold wlF
  rw [wlm_cg h1 h2, h1]
/-- what an axis's text consists of -/
def xA (a : Int) : List Int := if 0 < a then [59, 32] else []
def xS (p : Int) : List Int := if p < 0 then [45] else []
def xV (v : Int) : List Int := if v = 0 then [] else (if 0 < v then 43 else 45) :: dgs (ab v)
def axL (σ : MSt) (f a : Int) : List Int := xA a ++ (nmL (σ.2 6 a.toNat) 8 ++ (32 :: (xS (pos σ a f.toNat) ++ (dgs (ab (pos σ a f.toNat)) ++ xV (spA σ a f)))))
def fmtN (σ : MSt) (f : Int) : Nat → List Int
  | 0 => []
  | n + 1 => fmtN σ f n ++ axL σ f n
def fmt (σ : MSt) (f : Int) : List Int := fmtN σ f (σ.1 5).toNat ++ (if wlF σ f = 0 then [] else [32, 33])
theorem dgs_len {n : Int} (m : Nat) (h : n / (10 : Int) ^ m ≤ 9) : (dgs n).length ≤ m + 1 := by
  unfold dgs
  rw [dg_len]
  have := kdF_le n m h 9 0 (Nat.zero_le _)
  unfold kd
  omega
theorem kd_p {p : Int} (h : -9999000 ≤ p ∧ p ≤ 9999000) : kd (ab p) ≤ 6 := kdF_le _ 6 (by rw [show (10 : Int) ^ 6 = 1000000 by decide]; have : ab p = (p.natAbs : Int) := rfl; omega) 9 0 (by decide)
theorem kd_v {v : Int} (h : -99 ≤ v ∧ v ≤ 99) : kd (ab v) ≤ 1 := kdF_le _ 1 (by rw [show (10 : Int) ^ 1 = 10 by decide]; have : ab v = (v.natAbs : Int) := rfl; omega) 9 0 (by decide)
theorem xA_len (a : Int) : (xA a).length ≤ 2 := by unfold xA; split <;> simp
theorem xS_len (a : Int) : (xS a).length ≤ 1 := by unfold xS; split <;> simp
theorem xV_len {v : Int} (h : -99 ≤ v ∧ v ≤ 99) : (xV v).length ≤ 3 := by
  have := kd_v h
  unfold xV
  split
  · simp
  · show (dg _ _).length + 1 ≤ 3
    rw [dg_len]
    omega
theorem axL_len {σ : MSt} (hr : mR σ) {f a : Int} (ha : isAx σ a) (hf : 0 ≤ f ∧ f ≤ 999) : (axL σ f a).length ≤ 22 := by
  have h1 := xA_len a
  have h2 := nmL_len (σ.2 6 a.toNat) 8
  have h3 := xS_len (pos σ a f.toNat)
  have h4 := kd_p (pos_rg hr ha (j := f.toNat) (by omega))
  have h5 := xV_len (spA_rg hr ha hf.1 hf.2)
  have h6 : (dgs (ab (pos σ a f.toNat))).length = kd (ab (pos σ a f.toNat)) + 1 := dg_len _ _
  unfold axL
  simp only [List.length_append, List.length_cons]
  omega
theorem fmtN_len {σ : MSt} (hr : mR σ) {f : Int} (hf : 0 ≤ f ∧ f ≤ 999) : ∀ n : Nat, (n : Int) ≤ σ.1 5 → (fmtN σ f n).length ≤ 22 * n := by
  intro n
  induction n with
  | zero => intro _; exact Nat.le_refl 0
  | succ n ih =>
    intro h
    have := ih (by omega)
    have h2 := axL_len hr (f := f) (a := (n : Int)) ⟨by omega, by omega⟩ hf
    simp only [fmtN, List.length_append]
    omega
/-- names that can be -/
def mN (σ : MSt) : Prop := ∀ k, 0 ≤ σ.2 6 k ∧ σ.2 6 k < 1099511627776
/-- laid, whatever was said -/
def LY (σ τ : MSt) : Prop := (∀ j, j ≠ 14 → j < 27 ∨ 31 < j → τ.1 j = σ.1 j) ∧ (∀ k, k ≠ 13 → k < 32 ∨ 35 < k → τ.2 k = σ.2 k) ∧ ∀ a, isAx σ a → ∀ f, 0 ≤ f → f < 1000 → τ.2 35 (1000 * a + f).toNat = pos σ a f.toNat
theorem LY.says {σ τ : MSt} (h : LY σ τ) (L : List Int) : LY σ (k_says L τ) := by
  obtain ⟨h1, h2, h3⟩ := k_says_ok L τ
  exact ⟨fun j a b => (h2 j a).trans (h.1 j a b), fun k a b => (h3 k a).trans (h.2.1 k a b), fun a ha f f0 f1 => (congrFun (h3 35 (by decide)) _).trans (h.2.2 a ha f f0 f1)⟩
theorem LY.rw {σ τ : MSt} (h : LY σ τ) : rw_ τ = rw_ σ := by
  unfold rw_
  rw [h.1 2 (by decide) (by decide), h.2.1 1 (by decide) (by decide)]
theorem LY.toR {σ τ : MSt} (h : LY σ τ) (hr : mR σ) : mR τ := by
  unfold mR mAt
  rw [h.rw, h.1 2 (by decide) (by decide), h.1 5 (by decide) (by decide), h.2.1 7 (by decide) (by decide)]
  exact hr
theorem LY.ld {σ τ : MSt} (h : LY σ τ) : LD τ τ := by
  refine ⟨SC.rf τ, fun a ha => ⟨SC.rf τ, fun f f0 f1 => ?_⟩⟩
  rw [pos_cg h.rw (h.2.1 7 (by decide) (by decide))]
  refine h.2.2 a ?_ f f0 f1
  unfold isAx at *
  rw [h.1 5 (by decide) (by decide)] at ha
  exact ha
theorem LY.ax {σ τ : MSt} (h : LY σ τ) {a : Int} (ha : isAx σ a) : isAx τ a := by
  unfold isAx
  rw [h.1 5 (by decide) (by decide)]
  exact ha
theorem LY.spa {σ τ : MSt} (h : LY σ τ) : spA τ = spA σ := spA_cg h.rw (h.2.1 7 (by decide) (by decide))
theorem LY.po {σ τ : MSt} (h : LY σ τ) : pos τ = pos σ := pos_cg h.rw (h.2.1 7 (by decide) (by decide))
theorem m_placeS {l : Launch} {g : AG} {C : MCx} (hC : MOK C) {σ τ : MSt} (a f : Int) (hl : LY σ τ) (h5 : 0 ≤ σ.1 5 ∧ σ.1 5 ≤ 4) (ha : isAx σ a) (hf : 0 ≤ f ∧ f < 1000) : AMx l g miX4_placeAt 10 [.ref C.1, iv a, iv f] (mh C τ) (some (iv (pos σ a f.toNat))) (mh C τ) := by
  have h := m_placeL (l := l) (g := g) hC τ a f (hl.ld.2 a (hl.ax ha)) (by have := ha.1; have := ha.2; omega) hf
  rw [hl.po] at h
  exact h
theorem m_speedS {l : Launch} {g : AG} {C : MCx} (hC : MOK C) {σ τ : MSt} (a f : Int) (hl : LY σ τ) (h5 : 0 ≤ σ.1 5 ∧ σ.1 5 ≤ 4) (ha : isAx σ a) (hf : 0 ≤ f ∧ f < 1000) : AMx l g miX4_speedAt 11 [.ref C.1, iv a, iv f] (mh C τ) (some (iv (spA σ a f))) (mh C τ) := by
  have h := m_speedAt (l := l) (g := g) hC τ a f (hl.ld.2 a (hl.ax ha)) (by have := ha.1; have := ha.2; omega) hf
  rw [hl.spa] at h
  exact h
theorem m_wallsS {l : Launch} {g : AG} {C : MCx} (hC : MOK C) {σ τ : MSt} (f : Int) (hl : LY σ τ) (hr : mR σ) (hf : 0 ≤ f ∧ f ≤ 999) : AMx l g miX4_wallsAt 13 [.ref C.1, iv f] (mh C τ) (some (iv (wlF σ f))) (mh C τ) := by
  have h := m_wallsAt (l := l) (g := g) hC τ f (hl.toR hr) hl.ld hf
  rw [wlF_cg hl.rw (hl.2.1 7 (by decide) (by decide))] at h
  exact h
theorem l_fmtA {l : Launch} {g : AG} {C : MCx} (hC : MOK C) {R : Option Value} {H1 : AH} (σ : MSt) (f a : Int) (hr : mR σ) (hN : mN σ) (ha : isAx σ a) (hf : 0 ≤ f ∧ f ≤ 999) (τ : MSt) (o : Option Value) (hl : LY σ τ) (h14 : 0 ≤ τ.1 14 ∧ τ.1 14 + 22 ≤ 110) (kk : ∀ o, AWc l g miX4_format 17 0 0 (fun r2 h2 => r2 = R ∧ h2 = H1) (fun _ _ _ => False) 0 0 (mh C (k_says (axL σ f a) τ)) 134 [some (.ref C.1), some (iv f), some (iv a), o] []) : AWc l g miX4_format 17 0 0 (fun r2 h2 => r2 = R ∧ h2 = H1) (fun _ _ _ => False) 0 0 (mh C τ) 37 [some (.ref C.1), some (iv f), some (iv a), o] [] := by
  have h5 := hr.2.1
  have ha1 := ha.1
  have ha2 := ha.2
  have hp := pos_rg hr ha (j := f.toNat) (by omega)
  have hv := spA_rg hr ha hf.1 hf.2
  have hn := hN a.toNat
  have n6 : ∀ υ, LY σ υ → υ.2 6 a.toNat = σ.2 6 a.toNat := fun υ h => congrFun (h.2.1 6 (by decide) (by decide)) _
  have e1 := k_says_ok (xA a) τ
  have e2 := k_says_ok (nmL (σ.2 6 a.toNat) 8) (k_says (xA a) τ)
  have e4 := k_says_ok (xS (pos σ a f.toNat)) (k_say 32 (k_says (nmL (σ.2 6 a.toNat) 8) (k_says (xA a) τ)))
  have e3 : (k_say 32 (k_says (nmL (σ.2 6 a.toNat) 8) (k_says (xA a) τ))).1 14 = (k_says (nmL (σ.2 6 a.toNat) 8) (k_says (xA a) τ)).1 14 + 1 := rfl
  have e5 := k_says_ok (dgs (ab (pos σ a f.toNat))) (k_says (xS (pos σ a f.toNat)) (k_say 32 (k_says (nmL (σ.2 6 a.toNat) 8) (k_says (xA a) τ))))
  have l1 := hl.says (xA a)
  have l2 := l1.says (nmL (σ.2 6 a.toNat) 8)
  have l3 : LY σ (k_say 32 (k_says (nmL (σ.2 6 a.toNat) 8) (k_says (xA a) τ))) := l2.says [32]
  have l4 := l3.says (xS (pos σ a f.toNat))
  have l5 := l4.says (dgs (ab (pos σ a f.toNat)))
  have b1 := xA_len a
  have b2 := nmL_len (σ.2 6 a.toNat) 8
  have b4 := xS_len (pos σ a f.toNat)
  have b5 : (dgs (ab (pos σ a f.toNat))).length = kd (ab (pos σ a f.toNat)) + 1 := dg_len _ _
  have k5 := kd_p hp
  have k6 := kd_v hv
  have hab : ab (pos σ a f.toNat) = ((pos σ a f.toNat).natAbs : Int) := rfl
  have hab2 : ab (spA σ a f) = ((spA σ a f).natAbs : Int) := rfl
  have he : k_says (axL σ f a) τ = k_says (xV (spA σ a f)) (k_says (dgs (ab (pos σ a f.toNat))) (k_says (xS (pos σ a f.toNat)) (k_say 32 (k_says (nmL (σ.2 6 a.toNat) 8) (k_says (xA a) τ))))) := by
    unfold axL
    rw [k_says_app, k_says_app]
    show k_says (xS _ ++ _) (k_say 32 _) = _
    rw [k_says_app, k_says_app]
  rw [he] at kk
  have x1 : (k_say 59 τ).1 14 = τ.1 14 + 1 := rfl
  generalize hτ1 : k_says (xA a) τ = τ1 at *
  generalize hτ2 : k_says (nmL (σ.2 6 a.toNat) 8) τ1 = τ2 at *
  generalize hτ3 : k_say 32 τ2 = τ3 at *
  generalize hτ4 : k_says (xS (pos σ a f.toNat)) τ3 = τ4 at *
  generalize hτ5 : k_says (dgs (ab (pos σ a f.toNat))) τ4 = τ5 at *
  have x2 : (k_say (if 0 < spA σ a f then 43 else 45) τ5).1 14 = τ5.1 14 + 1 := rfl
  refine aw_joinH (mh C τ1) 53 ?_ (fun kz1 => ?_)
  · refine aw_aload_n 54 dX4_format_53 rfl rfl ?_
    refine aw_aload_n 55 dX4_format_54 rfl rfl ?_
    refine aw_get 58 ci4 6 (by decide) q2037 (Or.inl rfl) (rdl (mh_obj _ _)) rfl dX4_format_55 rfl ?_
    refine aw_iload_n 59 dX4_format_58 rfl rfl ?_
    refine aw_lald 60 (rdl (mh_6 hC _)) (by omega) dX4_format_59 rfl (by decide) ?_
    refine aw_st (show _ = jv (σ.2 6 a.toNat) :: _ from congrArg (fun x => jv x :: _) (n6 τ1 l1)) ?_
    refine aw_xVv 63 (m_sayName hC τ1 _ hn (by omega)) mvX4_sayName q2639 (rdl (mh_obj _ _)) rfl rfl rfl (by decide) (by decide) (Nat.le_refl _) (Nat.le_refl _) rfl (Nat.le_of_ble_eq_true rfl) dX4_format_60 rfl ?_
    rw [hτ2]
    refine aw_aload_n 64 dX4_format_63 rfl rfl ?_
    refine aw_bipush 66 dX4_format_64 rfl (by decide) ?_
    refine aw_xVv 69 (m_say hC τ2 32 (by omega) (by decide)) mvX4_say q2635 (rdl (mh_obj _ _)) rfl rfl rfl (by decide) (by decide) (Nat.le_refl _) (Nat.le_refl _) rfl (Nat.le_of_ble_eq_true rfl) dX4_format_66 rfl ?_
    rw [hτ3]
    refine aw_joinH (mh C τ4) 84 ?_ (fun kz2 => ?_)
    · refine aw_aload_n 85 dX4_format_84 rfl rfl ?_
      refine aw_aload_n 86 dX4_format_85 rfl rfl ?_
      refine aw_iload_n 87 dX4_format_86 rfl rfl ?_
      refine aw_iload_n 88 dX4_format_87 rfl rfl ?_
      refine aw_xV 91 (m_placeS hC a f l4 h5 ha (by omega)) mvX4_placeAt q2412 (rdl (mh_obj _ _)) rfl rfl rfl (by decide) (by decide) (Nat.le_refl _) (Nat.le_refl _) rfl (Nat.le_of_ble_eq_true rfl) dX4_format_88 rfl ?_
      refine aw_xS 94 (m_plain _ (by omega)) msX4_plain q2327 rfl (by decide) (by decide) (Nat.le_refl _) (Nat.le_refl _) rfl (Nat.le_of_ble_eq_true rfl) dX4_format_91 rfl ?_
      refine aw_xVv 97 (m_sayNumber hC τ4 (ab (pos σ a f.toNat)) (by omega) (by omega)) mvX4_sayNumber q2644 (rdl (mh_obj _ _)) rfl rfl rfl (by decide) (by decide) (Nat.le_refl _) (Nat.le_refl _) rfl (Nat.le_of_ble_eq_true rfl) dX4_format_94 rfl ?_
      rw [hτ5]
      refine aw_aload_n 98 dX4_format_97 rfl rfl ?_
      refine aw_iload_n 99 dX4_format_98 rfl rfl ?_
      refine aw_iload_n 100 dX4_format_99 rfl rfl ?_
      refine aw_xV 103 (m_speedS hC a f l5 h5 ha (by omega)) mvX4_speedAt q2420 (rdl (mh_obj _ _)) rfl rfl rfl (by decide) (by decide) (Nat.le_refl _) (Nat.le_refl _) rfl (Nat.le_of_ble_eq_true rfl) dX4_format_100 rfl ?_
      refine aw_istore_n 104 dX4_format_103 rfl (as_3 rfl) (by decide) ?_
      refine aw_joinH (mh C (k_says (xV (spA σ a f)) τ5)) 134 ?_ (fun kz3 => ?_)
      · exact kk _
      · refine aw_iload_n 105 dX4_format_104 rfl rfl ?_
        refine aw_if_ne 111 108 (by omega) dX4_format_105 rfl rfl (fun c_105 => ?_) (fun c_105 => ?_)
        · refine aw_aload_n 112 dX4_format_111 rfl rfl ?_
          refine aw_join ((if 0 < spA σ a f then 43 else 45)) 123 ?_ (fun kz4 => ?_)
          · refine aw_xVv 126 (m_say hC τ5 _ (by omega) (by split <;> omega)) mvX4_say q2635 (rdl (mh_obj _ _)) rfl rfl rfl (by decide) (by decide) (Nat.le_refl _) (Nat.le_refl _) rfl (Nat.le_of_ble_eq_true rfl) dX4_format_123 rfl ?_
            refine aw_aload_n 127 dX4_format_126 rfl rfl ?_
            refine aw_iload_n 128 dX4_format_127 rfl rfl ?_
            refine aw_xS 131 (m_plain _ (by omega)) msX4_plain q2327 rfl (by decide) (by decide) (Nat.le_refl _) (Nat.le_refl _) rfl (Nat.le_of_ble_eq_true rfl) dX4_format_128 rfl ?_
            refine aw_xVv 134 (m_sayNumber hC _ (ab (spA σ a f)) (by omega) (by omega)) mvX4_sayNumber q2644 (rdl (mh_obj _ _)) rfl rfl rfl (by decide) (by decide) (Nat.le_refl _) (Nat.le_refl _) rfl (Nat.le_of_ble_eq_true rfl) dX4_format_131 rfl ?_
            exact kz3 _ (by unfold xV; first | (rw [if_pos (show spA σ a f = 0 by assumption)]; rfl) | (rw [if_neg (show ¬ spA σ a f = 0 by assumption)]; rfl))
          · refine aw_iload_n 113 dX4_format_112 rfl rfl ?_
            refine aw_if_le 121 116 (by omega) dX4_format_113 rfl rfl (fun c_113 => ?_) (fun c_113 => ?_)
            · refine aw_bipush 123 dX4_format_121 rfl (by decide) ?_
              exact kz4 _ (by first | exact (if_pos (by omega)).symm | exact (if_neg (by omega)).symm)
            · refine aw_bipush 118 dX4_format_116 rfl (by decide) ?_
              refine aw_goto 123 dX4_format_118 rfl ?_
              exact kz4 _ (by first | exact (if_pos (by omega)).symm | exact (if_neg (by omega)).symm)
        · refine aw_goto 134 dX4_format_108 rfl ?_
          exact kz3 _ (by unfold xV; first | (rw [if_pos (show spA σ a f = 0 by assumption)]; rfl) | (rw [if_neg (show ¬ spA σ a f = 0 by assumption)]; rfl))
    · refine aw_aload_n 70 dX4_format_69 rfl rfl ?_
      refine aw_iload_n 71 dX4_format_70 rfl rfl ?_
      refine aw_iload_n 72 dX4_format_71 rfl rfl ?_
      refine aw_xV 75 (m_placeS hC a f l3 h5 ha (by omega)) mvX4_placeAt q2412 (rdl (mh_obj _ _)) rfl rfl rfl (by decide) (by decide) (Nat.le_refl _) (Nat.le_refl _) rfl (Nat.le_of_ble_eq_true rfl) dX4_format_72 rfl ?_
      refine aw_if_ge 84 78 (by omega) dX4_format_75 rfl rfl (fun c_75 => ?_) (fun c_75 => ?_)
      · exact kz2 _ (by rw [← hτ4]; unfold xS; first | (rw [if_pos (by omega)]; rfl) | (rw [if_neg (by omega)]; rfl))
      · refine aw_aload_n 79 dX4_format_78 rfl rfl ?_
        refine aw_bipush 81 dX4_format_79 rfl (by decide) ?_
        refine aw_xVv 84 (m_say hC _ _ (by omega) (by omega)) mvX4_say q2635 (rdl (mh_obj _ _)) rfl rfl rfl (by decide) (by decide) (Nat.le_refl _) (Nat.le_refl _) rfl (Nat.le_of_ble_eq_true rfl) dX4_format_81 rfl ?_
        exact kz2 _ (by rw [← hτ4]; unfold xS; first | (rw [if_pos (by omega)]; rfl) | (rw [if_neg (by omega)]; rfl))
  · refine aw_iload_n 38 dX4_format_37 rfl rfl ?_
    refine aw_if_le 53 41 (by omega) dX4_format_38 rfl rfl (fun c_38 => ?_) (fun c_38 => ?_)
    · exact kz1 _ (by rw [← hτ1]; unfold xA; first | (rw [if_pos (by assumption)]; rfl) | (rw [if_neg (by omega)]; rfl))
    · refine aw_aload_n 42 dX4_format_41 rfl rfl ?_
      refine aw_bipush 44 dX4_format_42 rfl (by decide) ?_
      refine aw_xVv 47 (m_say hC _ _ (by omega) (by omega)) mvX4_say q2635 (rdl (mh_obj _ _)) rfl rfl rfl (by decide) (by decide) (Nat.le_refl _) (Nat.le_refl _) rfl (Nat.le_of_ble_eq_true rfl) dX4_format_44 rfl ?_
      refine aw_aload_n 48 dX4_format_47 rfl rfl ?_
      refine aw_bipush 50 dX4_format_48 rfl (by decide) ?_
      refine aw_xVv 53 (m_say hC _ _ (by omega) (by omega)) mvX4_say q2635 (rdl (mh_obj _ _)) rfl rfl rfl (by decide) (by decide) (Nat.le_refl _) (Nat.le_refl _) rfl (Nat.le_of_ble_eq_true rfl) dX4_format_50 rfl ?_
      exact kz1 _ (by rw [← hτ1]; unfold xA; first | (rw [if_pos (by assumption)]; rfl) | (rw [if_neg (by omega)]; rfl))
theorem l_format {l : Launch} {g : AG} {C : MCx} (hC : MOK C) (σ : MSt) (f : Int) (H : AH) (hr : mR σ) (hN : mN σ) (hf : 0 ≤ f ∧ f ≤ 999) (υ : MSt) (hυ : LY σ υ) (hz : υ.1 14 = 0) (hH : H = mh C (k_says (fmt σ f) υ)) : ∀ (n i : Nat) (o : Option Value), (i : Int) + n = σ.1 5 → AWc l g miX4_format 17 0 0 (fun r2 h2 => r2 = some (iv ((fmt σ f).length : Int)) ∧ h2 = H) (fun _ _ _ => False) 0 0 (mh C (k_says (fmtN σ f i) υ)) 29 [some (.ref C.1), some (iv f), some (iv i), o] [] := by
  have h5 := hr.2.1
  intro n
  induction n with
  | zero =>
    intro i o hi
    have e : (σ.1 5).toNat = i := by omega
    have hl := hυ.says (fmtN σ f i)
    have hlen := fmtN_len hr hf i (by omega)
    have h14 := (k_says_ok (fmtN σ f i) υ).1
    have hwR := wlF_Rg σ f
    have hfm : fmt σ f = fmtN σ f i ++ (if wlF σ f = 0 then [] else [32, 33]) := by unfold fmt; rw [e]
    have hst : k_says (fmt σ f) υ = k_says (if wlF σ f = 0 then [] else [32, 33]) (k_says (fmtN σ f i) υ) := by rw [hfm, k_says_app]
    have hln : ((fmt σ f).length : Int) = (fmtN σ f i).length + (if wlF σ f = 0 then 0 else 2) := by
      rw [hfm, List.length_append]
      split <;> simp
    rw [hst] at hH
    rw [hln]
    subst hH
    generalize hτ : k_says (fmtN σ f i) υ = τ at *
    have x1 : (k_say 32 τ).1 14 = τ.1 14 + 1 := rfl
    have x2 : (k_say 33 (k_say 32 τ)).1 14 = τ.1 14 + 1 + 1 := rfl
    refine aw_iload_n 30 dX4_format_29 rfl rfl ?_
    refine aw_aload_n 31 dX4_format_30 rfl rfl ?_
    refine aw_get 34 ci4 5 (by decide) q2036 (Or.inl rfl) (rdl (mh_obj _ _)) rfl dX4_format_31 rfl ?_
    refine aw_st (show _ = [iv (σ.1 5), iv (i : Int)] from congrArg (fun x => [iv x, iv (i : Int)]) (hl.1 5 (by decide) (by decide))) ?_
    refine aw_icmp_ge 140 37 (by omega) dX4_format_34 rfl rfl (fun c_34 => ?_) (fun c_34 => absurd c_34 (by omega))
    refine aw_aload_n 141 dX4_format_140 rfl rfl ?_
    refine aw_iload_n 142 dX4_format_141 rfl rfl ?_
    refine aw_xV 145 (m_wallsS hC f hl hr hf) mvX4_wallsAt q2468 (rdl (mh_obj _ _)) rfl rfl rfl (by decide) (by decide) (Nat.le_refl _) (Nat.le_refl _) rfl (Nat.le_of_ble_eq_true rfl) dX4_format_142 rfl ?_
    refine aw_if_eq 160 148 (by omega) dX4_format_145 rfl rfl (fun c_145 => ?_) (fun c_145 => ?_)
    · rw [if_pos (show wlF σ f = 0 by assumption), if_pos (show wlF σ f = 0 by assumption)]
      refine aw_aload_n 161 dX4_format_160 rfl rfl ?_
      refine aw_get 164 ci4 14 (by decide) q2045 (Or.inl rfl) (rdl (mh_obj _ _)) rfl dX4_format_161 rfl ?_
      exact aw_xi (by omega) (rfl) rfl dX4_format_164
    · rw [if_neg (show ¬ wlF σ f = 0 by assumption), if_neg (show ¬ wlF σ f = 0 by assumption)]
      refine aw_aload_n 149 dX4_format_148 rfl rfl ?_
      refine aw_bipush 151 dX4_format_149 rfl (by decide) ?_
      refine aw_xVv 154 (m_say hC _ _ (by omega) (by omega)) mvX4_say q2635 (rdl (mh_obj _ _)) rfl rfl rfl (by decide) (by decide) (Nat.le_refl _) (Nat.le_refl _) rfl (Nat.le_of_ble_eq_true rfl) dX4_format_151 rfl ?_
      refine aw_aload_n 155 dX4_format_154 rfl rfl ?_
      refine aw_bipush 157 dX4_format_155 rfl (by decide) ?_
      refine aw_xVv 160 (m_say hC _ _ (by omega) (by omega)) mvX4_say q2635 (rdl (mh_obj _ _)) rfl rfl rfl (by decide) (by decide) (Nat.le_refl _) (Nat.le_refl _) rfl (Nat.le_of_ble_eq_true rfl) dX4_format_157 rfl ?_
      refine aw_aload_n 161 dX4_format_160 rfl rfl ?_
      refine aw_get 164 ci4 14 (by decide) q2045 (Or.inl rfl) (rdl (mh_obj _ _)) rfl dX4_format_161 rfl ?_
      exact aw_xi (by omega) (rfl) rfl dX4_format_164
  | succ n ih =>
    intro i o hi
    have hlen := fmtN_len hr hf i (by omega)
    have h14 := (k_says_ok (fmtN σ f i) υ).1
    have hl := hυ.says (fmtN σ f i)
    have ih := fun o => ih (i + 1) o (by omega)
    have hst : k_says (fmtN σ f (i + 1)) υ = k_says (axL σ f i) (k_says (fmtN σ f i) υ) := k_says_app _ _ _
    rw [hst] at ih
    refine aw_iload_n 30 dX4_format_29 rfl rfl ?_
    refine aw_aload_n 31 dX4_format_30 rfl rfl ?_
    refine aw_get 34 ci4 5 (by decide) q2036 (Or.inl rfl) (rdl (mh_obj _ _)) rfl dX4_format_31 rfl ?_
    refine aw_st (show _ = [iv (σ.1 5), iv (i : Int)] from congrArg (fun x => [iv x, iv (i : Int)]) (hl.1 5 (by decide) (by decide))) ?_
    refine aw_icmp_ge 140 37 (by omega) dX4_format_34 rfl rfl (fun c_34 => absurd c_34 (by omega)) (fun c_34 => ?_)
    refine l_fmtA hC σ f i hr hN ⟨by omega, by omega⟩ hf _ _ hl (by omega) (fun o => ?_)
    refine aw_iinc 137 dX4_format_134 rfl rfl (as_2 rfl) (by decide) ?_
    refine aw_goto 29 dX4_format_137 rfl ?_
    exact ih _
def o_format (f : Int) (σ : MSt) : Int × Int := if isFr f then (0, (fmt σ f).length) else (1, 0)
def k_format (f : Int) (σ : MSt) : MSt := if isFr f then k_says (fmt σ f) (sF (k_laysAll σ) 14 0) else σ
theorem m_format {l : Launch} {g : AG} {C : MCx} (hC : MOK C) (σ : MSt) (f : Int) (hr : mR σ) (hT : mT σ) (hN : mN σ) (hf : Rg f): AMx l g miX4_format 17 [.ref C.1, iv f] (mh C σ) (some (iv (o_format f (sF σ 0 0)).2)) (mh C (sF (k_format f (sF σ 0 0)) 0 (o_format f (sF σ 0 0)).1)) := by
  refine aw_start 2 (by decide) rfl (Nat.le_of_ble_eq_true rfl) ?_
  show AWc l g miX4_format 17 0 0 _ _ 0 0 (mh C σ) 0 [some (.ref C.1), some (iv f), none, none] []
  have h0 : (sF σ 0 0).1 0 = 0 := rfl
  have hr : mR (sF σ 0 0) := hr
  have hT : mT (sF σ 0 0) := hT
  have hN : mN (sF σ 0 0) := hN
  refine aw_aload_n 1 dX4_format_0 rfl rfl ?_
  refine aw_iconst 2 dX4_format_1 rfl ?_
  refine aw_put 5 ci4 0 (by decide) q2031 (Or.inl rfl) rfl rfl rfl (Nat.le_of_ble_eq_true rfl) (mh_obj _ _) dX4_format_2 rfl ?_
  refine aw_h (mhp_0 _ _ _) ?_
  generalize sF σ 0 0 = σ at h0 hr hT hN ⊢
  have h5 := hr.2.1
  have hl := k_laysAll_ok hr
  refine aw_iload_n 6 dX4_format_5 rfl rfl ?_
  refine aw_xS 9 (m_isFrame _ (by omega)) msX4_isFrame q2401 rfl (by decide) (by decide) (Nat.le_refl _) (Nat.le_refl _) rfl (Nat.le_of_ble_eq_true rfl) dX4_format_6 rfl ?_
  refine aw_if_neB 18 12 dX4_format_9 rfl rfl (fun c_9 => ?_) (fun c_9 => ?_)
  · refine aw_aload_n 19 dX4_format_18 rfl rfl ?_
    refine aw_xVv 22 (m_laysAll hC _ hr hT) mvX4_laysAll q2428 (rdl (mh_obj _ _)) rfl rfl rfl (by decide) (by decide) (Nat.le_refl _) (Nat.le_refl _) rfl (Nat.le_of_ble_eq_true rfl) dX4_format_19 rfl ?_
    refine aw_aload_n 23 dX4_format_22 rfl rfl ?_
    refine aw_iconst 24 dX4_format_23 rfl ?_
    refine aw_put 27 ci4 14 (by decide) q2045 (Or.inl rfl) rfl rfl rfl (Nat.le_of_ble_eq_true rfl) (mh_obj _ _) dX4_format_24 rfl ?_
    refine aw_h (mhp_14 _ _ _) ?_
    refine aw_iconst 28 dX4_format_27 rfl ?_
    refine aw_istore_n 29 dX4_format_28 rfl (as_2 rfl) (by decide) ?_
    rw [show o_format f σ = (0, ((fmt σ f).length : Int)) from if_pos (by assumption), show k_format f σ = k_says (fmt σ f) (sF (k_laysAll σ) 14 0) from if_pos (by assumption)]
    have hυ : LY σ (sF (k_laysAll σ) 14 0) := ⟨fun j a b => (if_neg a).trans (hl.1.1 j b), fun k _ b => hl.1.2.1 k b, fun a ha => (hl.2 a ha).2⟩
    exact l_format hC σ f _ hr hN (by assumption) _ hυ rfl (congrArg (mh C) (sF_id (k := 0) (z := 0) (((k_says_ok (fmt σ f) _).2.1 0 (by decide)).trans (hl.th.trans h0)))) (σ.1 5).toNat 0 _ (by omega)
  · refine aw_aload_n 13 dX4_format_12 rfl rfl ?_
    refine aw_iconst 14 dX4_format_13 rfl ?_
    refine aw_xV 17 (m_fails hC _ _) mvX4_fails q2151 (rdl (mh_obj _ _)) rfl rfl rfl (by decide) (by decide) (Nat.le_refl _) (Nat.le_refl _) rfl (Nat.le_of_ble_eq_true rfl) dX4_format_14 rfl ?_
    exact aw_xi (by unfold o_format; rw [if_neg (by assumption)]) (by unfold o_format k_format; rw [if_neg (by assumption), if_neg (by assumption)]) rfl dX4_format_17
def o_formattedCharacter (i : Int) (σ : MSt) : Int × Int := if 0 ≤ i ∧ i ≤ σ.1 14 - 1 then (0, σ.2 13 i.toNat) else (1, 0)
theorem narC {c : Int} (hc : 0 ≤ c ∧ c ≤ 65535) : narrow .char (iv c) = iv c := congrArg Value.int (i2c_nar hc)
/-- a text that can be -/
def mF (σ : MSt) : Prop := (0 ≤ σ.1 14 ∧ σ.1 14 ≤ 120) ∧ ∀ j, 0 ≤ σ.2 13 j ∧ σ.2 13 j ≤ 65535
theorem m_formattedCharacter {l : Launch} {g : AG} {C : MCx} (hC : MOK C) (σ : MSt) (i : Int) (hF : mF σ) (hi : Rg i): AMx l g miX4_formattedCharacter 13 [.ref C.1, iv i] (mh C σ) (some (iv (o_formattedCharacter i (sF σ 0 0)).2)) (mh C (sF (sF σ 0 0) 0 (o_formattedCharacter i (sF σ 0 0)).1)) := by
  refine aw_start 0 (by decide) rfl (Nat.le_of_ble_eq_true rfl) ?_
  show AWc l g miX4_formattedCharacter 13 0 0 _ _ 0 0 (mh C σ) 0 [some (.ref C.1), some (iv i)] []
  have h0 : (sF σ 0 0).1 0 = 0 := rfl
  have hF : mF (sF σ 0 0) := hF
  refine aw_aload_n 1 dX4_formattedCharacter_0 rfl rfl ?_
  refine aw_iconst 2 dX4_formattedCharacter_1 rfl ?_
  refine aw_put 5 ci4 0 (by decide) q2031 (Or.inl rfl) rfl rfl rfl (Nat.le_of_ble_eq_true rfl) (mh_obj _ _) dX4_formattedCharacter_2 rfl ?_
  refine aw_h (mhp_0 _ _ _) ?_
  generalize sF σ 0 0 = σ at h0 hF ⊢
  have h14 := hF.1
  refine aw_iload_n 6 dX4_formattedCharacter_5 rfl rfl ?_
  refine aw_iconst 7 dX4_formattedCharacter_6 rfl ?_
  refine aw_aload_n 8 dX4_formattedCharacter_7 rfl rfl ?_
  refine aw_get 11 ci4 14 (by decide) q2045 (Or.inl rfl) (rdl (mh_obj _ _)) rfl dX4_formattedCharacter_8 rfl ?_
  refine aw_iconst 12 dX4_formattedCharacter_11 rfl ?_
  refine aw_isub 13 dX4_formattedCharacter_12 rfl ?_
  refine aw_xS 16 (m_isIn _ _ _ (by omega) (by omega) (by omega)) msX4_isIn q2163 rfl (by decide) (by decide) (Nat.le_refl _) (Nat.le_refl _) rfl (Nat.le_of_ble_eq_true rfl) dX4_formattedCharacter_13 rfl ?_
  refine aw_if_neB 26 19 dX4_formattedCharacter_16 rfl rfl (fun c_16 => ?_) (fun c_16 => ?_)
  · rw [show o_formattedCharacter i σ = (0, σ.2 13 i.toNat) from if_pos (by assumption)]
    refine aw_aload_n 27 dX4_formattedCharacter_26 rfl rfl ?_
    refine aw_get 30 ci4 13 (by decide) q2044 (Or.inl rfl) (rdl (mh_obj _ _)) rfl dX4_formattedCharacter_27 rfl ?_
    refine aw_iload_n 31 dX4_formattedCharacter_30 rfl rfl ?_
    refine aw_cald 32 (rdl (mh_13 hC _)) (by omega) dX4_formattedCharacter_31 rfl (by decide) ?_
    exact aw_zret ⟨rfl, congrArg (mh C) (sF_id h0).symm⟩ rfl (narC (hF.2 _)) dX4_formattedCharacter_32 (Nat.le_refl _) (Nat.le_refl _)
  · rw [show o_formattedCharacter i σ = (1, 0) from if_neg (by assumption)]
    refine aw_aload_n 20 dX4_formattedCharacter_19 rfl rfl ?_
    refine aw_iconst 21 dX4_formattedCharacter_20 rfl ?_
    refine aw_put 24 ci4 0 (by decide) q2031 (Or.inl rfl) rfl rfl rfl (Nat.le_of_ble_eq_true rfl) (mh_obj _ _) dX4_formattedCharacter_21 rfl ?_
    refine aw_h (mhp_0 _ _ _) ?_
    refine aw_iconst 25 dX4_formattedCharacter_24 rfl ?_
    exact aw_zret ⟨rfl, rfl⟩ rfl (narC (by decide)) dX4_formattedCharacter_25 (Nat.le_refl _) (Nat.le_refl _)
