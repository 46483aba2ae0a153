/-! CameraMovesModel: lays -/
set_option maxRecDepth 100000
theorem mvL_can {n : Int} {ρ : Int → Int} (h : RI n ρ) {a : Int} (ha : 0 ≤ a ∧ a < n) : ∀ (f : Nat) (last place free : Int) (acc : (Nat → Int) × (Nat → Int)), (∀ j : Nat, (j : Int) < r_nC ρ → acc.1 j = 0 → ab (acc.2 j) ≤ sm (r_sp ρ a) (r_rp ρ a) (r_ln ρ j)) → ∀ j : Nat, (j : Int) < r_nC ρ → (mvL ρ a f last place free acc).1 j = 0 → ab ((mvL ρ a f last place free acc).2 j) ≤ sm (r_sp ρ a) (r_rp ρ a) (r_ln ρ j) := by
  intro f
  induction f with
  | zero => intro _ _ _ _ h; exact h
  | succ f ih =>
    intro last place free acc hA
    simp only [mvL]
    split
    · exact hA
    · next hf =>
      rcases fn_spec (ρ := ρ) (a := a) (last := last) h.2.1.1 with ⟨z, -⟩ | ⟨h2, h3, h5⟩
      · exact absurd z hf
      · refine ih _ _ _ _ (fun j hj => ?_)
        simp only [va_up_at]
        by_cases e : j = (fn ρ a last).toNat
        · rw [if_pos e, if_pos e, show (j : Int) = fn ρ a last by omega]
          intro hS
          have hcu := (h.2.2.1 _ h2.1 h2.2).1
          have hax := h.1 a ha.1 ha.2
          have hl := lst_iff (v := r_sp ρ a) (r := r_rp ρ a) (g := ab (mvD ρ a (fn ρ a last) place)) (f := r_ln ρ (fn ρ a last)) (by omega) (by omega) (Int.natCast_nonneg _) (by omega)
          unfold mvS at hS
          refine hl.mp ?_
          split at hS
          · omega
          · split at hS
            · omega
            · omega
        · rw [if_neg e, if_neg e]
          exact hA j hj
theorem stt_can {σ : MSt} (hr : mR σ) {a : Int} (ha : isAx σ a) {c : Nat} (hc : (c : Int) < r_nC (rw_ σ)) (h0 : stt σ a c = 0) : canM σ a (dtt σ a c) (r_ln (rw_ σ) c) := by
  have hd := (stt_rg hr ha c).2
  have hcu := (hr.cue (c := (c : Int)) (by omega) hc).1
  refine ⟨hd, by omega, mvL_can hr.2.2.1 ha 20 (-1) _ 0 (fun _ => 0, fun _ => 0) (fun j hj _ => ?_) c hc h0⟩
  have hj := (hr.cue (c := (j : Int)) (by omega) hj).1
  obtain ⟨s1, s2, s3, s4⟩ := sm_v hr ha
  exact (sm_rg (v := r_sp (rw_ σ) a) (r := r_rp (rw_ σ) a) (f := r_ln (rw_ σ) j) s1 (by omega) (by omega)).1
def clB (b : Int) (f : Nat → Int) : Nat → Nat → Int
  | 0 => f
  | n + 1 => va_up (clB b f n) (b + n).toNat 0
theorem clB_at {b : Int} (f : Nat → Int) (hb : 0 ≤ b) : ∀ (n j : Nat), clB b f n j = if b ≤ (j : Int) ∧ (j : Int) < b + n then 0 else f j := by
  intro n
  induction n with
  | zero => intro j; exact (if_neg (by omega)).symm
  | succ n ih =>
    intro j
    simp only [clB, va_up_at, ih]
    (repeat' split) <;> first | rfl | omega
theorem clB_all {b : Int} (f : Nat → Int) (hb : 0 ≤ b) : clB b f 1000 = vaB b f (fun _ => 0) := funext fun j => clB_at f hb 1000 j
/-- the state ahead of the speeds -/
def kL0 (σ : MSt) (a : Int) : MSt := sR (k_takesAll a σ) 35 (vaB (1000 * a) (σ.2 35) (lyL σ a 0))
def kLy (σ : MSt) (a : Int) : Nat → MSt
  | 0 => kL0 σ a
  | n + 1 => if r_has (rw_ σ) n a ∧ stt σ a n = 0 then k_laysSpeeds a n (1000 * a) (kLy σ a n) else kLy σ a n
def k_lays (a : Int) (σ : MSt) : MSt := sR (kLy σ a (r_nC (rw_ σ)).toNat) 35 (psL (1000 * a) ((kLy σ a (r_nC (rw_ σ)).toNat).2 35) 999)
theorem k_looksAt_sc (a d f : Int) (σ : MSt) : SC σ (k_looksAt a d f σ) := by
  unfold k_looksAt
  exact ((((SC.F σ _ (by decide)).tr (SC.F _ _ (by decide))).tr (SC.F _ _ (by decide))).tr (SC.F _ _ (by decide))).tr (SC.F _ _ (by decide))
theorem k_laysSpeeds_sc (a c b : Int) (σ : MSt) : SC σ (k_laysSpeeds a c b σ) := (k_looksAt_sc _ _ _ σ).tr (SC.R _ _ (Or.inr (Or.inr rfl)))
theorem kLy_ok {σ : MSt} (hr : mR σ) {a : Int} (ha : isAx σ a) : ∀ n : Nat, (n : Int) ≤ r_nC (rw_ σ) → SC σ (kLy σ a n) ∧ (kLy σ a n).2 35 = vaB (1000 * a) (σ.2 35) (lyL σ a n) ∧ (kLy σ a n).2 32 = (k_takesAll a σ).2 32 ∧ (kLy σ a n).2 33 = (k_takesAll a σ).2 33 := by
  have h0 := k_takesAll_ok hr a
  have h20 := hr.nC
  have ha1 := ha.1
  intro n
  induction n with
  | zero => intro _; exact ⟨h0.1.tr (SC.R _ _ (Or.inr (Or.inr rfl))), rfl, rfl, rfl⟩
  | succ n ih =>
    intro hn
    obtain ⟨i1, i2, i3, i4⟩ := ih (by omega)
    simp only [kLy, lyL]
    split
    · next hc =>
      refine ⟨i1.tr (k_laysSpeeds_sc _ _ _ _), ?_, i3, i4⟩
      show spL (spM (r_rp (rw_ (kLy σ a n)) a) ((kLy σ a n).2 33 n) (r_ln (rw_ (kLy σ a n)) n)) (1000 * a + r_fr (rw_ (kLy σ a n)) n) ((kLy σ a n).2 35) (r_ln (rw_ (kLy σ a n)) n).toNat = _
      have hcu := (hr.cue (c := (n : Int)) (by omega) (by omega)).1
      rw [i1.rw, i2, i4, (h0.2.2.2 n (by omega) hc.1).2]
      exact spL_vaB _ _ _ _ (by omega) (by omega) _ (by omega)
    · exact ⟨i1, i2, i3, i4⟩
theorem k_lays_ok {σ : MSt} (hr : mR σ) {a : Int} (ha : isAx σ a) : SC σ (k_lays a σ) ∧ (k_lays a σ).2 35 = vaB (1000 * a) (σ.2 35) (pos σ a) := by
  have h20 := hr.nC
  have ha1 := ha.1
  obtain ⟨i1, i2, -, -⟩ := kLy_ok hr ha (r_nC (rw_ σ)).toNat (by omega)
  refine ⟨i1.tr (SC.R _ _ (Or.inr (Or.inr rfl))), ?_⟩
  show psL (1000 * a) ((kLy σ a (r_nC (rw_ σ)).toNat).2 35) 999 = _
  rw [i2]
  exact psL_vaB _ _ (by omega) 999 (by decide)
theorem l_lays1 {l : Launch} {g : AG} {C : MCx} (hC : MOK C) {R : Option Value} {H1 : AH} (σ : MSt) (a : Int) (ha : 0 ≤ a ∧ a < 4) (kk : AWc l g miX4_lays 15 0 0 (fun r2 h2 => r2 = R ∧ h2 = H1) (fun _ _ _ => False) 0 0 (mh C (sR σ 35 (clB (1000 * a) (σ.2 35) 1000))) 35 [some (.ref C.1), some (iv a), some (iv (1000 * a)), some (iv (1000 : Nat))] []) : ∀ (n i : Nat), i + n = 1000 → AWc l g miX4_lays 15 0 0 (fun r2 h2 => r2 = R ∧ h2 = H1) (fun _ _ _ => False) 0 0 (mh C (sR σ 35 (clB (1000 * a) (σ.2 35) i))) 13 [some (.ref C.1), some (iv a), some (iv (1000 * a)), some (iv i)] [] := by
  intro n
  induction n with
  | zero =>
    intro i hi
    have e : i = 1000 := by omega
    subst e
    refine aw_iload_n 14 dX4_lays_13 rfl rfl ?_
    refine aw_sipush 17 dX4_lays_14 rfl (by decide) ?_
    refine aw_icmp_ge 35 20 (by omega) dX4_lays_17 rfl rfl (fun c_17 => ?_) (fun c_17 => absurd c_17 (by omega))
    exact kk
  | succ n ih =>
    intro i hi
    have ih := ih (i + 1) (by omega)
    refine aw_iload_n 14 dX4_lays_13 rfl rfl ?_
    refine aw_sipush 17 dX4_lays_14 rfl (by decide) ?_
    refine aw_icmp_ge 35 20 (by omega) dX4_lays_17 rfl rfl (fun c_17 => absurd c_17 (by omega)) (fun c_17 => ?_)
    refine aw_aload_n 21 dX4_lays_20 rfl rfl ?_
    refine aw_get 24 ci4 35 (by decide) q2066 (Or.inl rfl) (rdl (mh_obj _ _)) rfl dX4_lays_21 rfl ?_
    refine aw_iload_n 25 dX4_lays_24 rfl rfl ?_
    refine aw_iload_n 26 dX4_lays_25 rfl rfl ?_
    refine aw_iadd 27 dX4_lays_26 rfl ?_
    refine aw_iconst 28 dX4_lays_27 rfl ?_
    refine aw_iast 29 (mh_35 hC _) (by omega) dX4_lays_28 rfl (by decide) ?_
    refine aw_h (mhs_35 hC _ _) ?_
    refine aw_iinc 32 dX4_lays_29 rfl rfl (as_3 rfl) (by decide) ?_
    refine aw_goto 13 dX4_lays_32 rfl ?_
    rw [sR_sR]; exact ih
theorem l_lays2 {l : Launch} {g : AG} {C : MCx} (hC : MOK C) {R : Option Value} {H1 : AH} (σ : MSt) (a : Int) (hr : mR σ) (ha : isAx σ a) (kk : ∀ o : Option Value, AWc l g miX4_lays 15 0 0 (fun r2 h2 => r2 = R ∧ h2 = H1) (fun _ _ _ => False) 0 0 (mh C (kLy σ a (r_nC (rw_ σ)).toNat)) 92 [some (.ref C.1), some (iv a), some (iv (1000 * a)), o] []) : ∀ (n i : Nat), (i : Int) + n = r_nC (rw_ σ) → AWc l g miX4_lays 15 0 0 (fun r2 h2 => r2 = R ∧ h2 = H1) (fun _ _ _ => False) 0 0 (mh C (kLy σ a i)) 53 [some (.ref C.1), some (iv a), some (iv (1000 * a)), some (iv i)] [] := by
  have h20 := hr.nC
  have h5 := hr.2.1
  have ha1 := ha.1
  have ha2 := ha.2
  have ht := k_takesAll_ok hr a
  intro n
  induction n with
  | zero =>
    intro i hi
    have e : (r_nC (rw_ σ)).toNat = i := by omega
    rw [e] at kk
    have hk := kLy_ok hr ha i (by omega)
    refine aw_iload_n 54 dX4_lays_53 rfl rfl ?_
    refine aw_aload_n 55 dX4_lays_54 rfl rfl ?_
    refine aw_xV 58 (m_nC hC _ (hk.1.toR hr).1) mvX4_cueMany q2259 (rdl (mh_obj _ _)) rfl rfl rfl (by decide) (by decide) (Nat.le_refl _) (Nat.le_refl _) rfl (Nat.le_of_ble_eq_true rfl) dX4_lays_55 rfl ?_
    rw [hk.1.rw]
    refine aw_icmp_ge 92 61 (by omega) dX4_lays_58 rfl rfl (fun c_58 => ?_) (fun c_58 => absurd c_58 (by omega))
    exact kk _
  | succ n ih =>
    intro i hi
    have ih := ih (i + 1) (by omega)
    obtain ⟨k1, k2, k3, k4⟩ := kLy_ok hr ha i (by omega)
    have hrt := k1.toR hr
    have hst := stt_rg hr ha i
    refine aw_iload_n 54 dX4_lays_53 rfl rfl ?_
    refine aw_aload_n 55 dX4_lays_54 rfl rfl ?_
    refine aw_xV 58 (m_nC hC _ hrt.1) mvX4_cueMany q2259 (rdl (mh_obj _ _)) rfl rfl rfl (by decide) (by decide) (Nat.le_refl _) (Nat.le_refl _) rfl (Nat.le_of_ble_eq_true rfl) dX4_lays_55 rfl ?_
    rw [k1.rw]
    refine aw_icmp_ge 92 61 (by omega) dX4_lays_58 rfl rfl (fun c_58 => absurd c_58 (by omega)) (fun c_58 => ?_)
    refine aw_aload_n 62 dX4_lays_61 rfl rfl ?_
    refine aw_iload_n 63 dX4_lays_62 rfl rfl ?_
    refine aw_iload_n 64 dX4_lays_63 rfl rfl ?_
    refine aw_xV 67 (m_has hC _ _ _ hrt (k1.cu (by omega)) (by omega)) mvX4_has q2315 (rdl (mh_obj _ _)) rfl rfl rfl (by decide) (by decide) (Nat.le_refl _) (Nat.le_refl _) rfl (Nat.le_of_ble_eq_true rfl) dX4_lays_64 rfl ?_
    rw [k1.rw]
    refine aw_if_eqB 86 70 dX4_lays_67 rfl rfl (fun c_67 => ?_) (fun c_67 => ?_)
    · refine aw_iinc 89 dX4_lays_86 rfl rfl (as_3 rfl) (by decide) ?_
      refine aw_goto 53 dX4_lays_89 rfl ?_
      first | (rw [show kLy σ a (i + 1) = k_laysSpeeds a i (1000 * a) (kLy σ a i) from if_pos ⟨by assumption, by assumption⟩] at ih; exact ih) | (rw [show kLy σ a (i + 1) = kLy σ a i from if_neg (fun z => by first | exact absurd z.1 (by assumption) | exact absurd z.2 (by assumption))] at ih; exact ih)
    · refine aw_aload_n 71 dX4_lays_70 rfl rfl ?_
      refine aw_get 74 ci4 32 (by decide) q2063 (Or.inl rfl) (rdl (mh_obj _ _)) rfl dX4_lays_71 rfl ?_
      refine aw_iload_n 75 dX4_lays_74 rfl rfl ?_
      refine aw_iald 76 (rdl (mh_32 hC _)) (by omega) dX4_lays_75 rfl (by decide) ?_
      have hq := (congrFun k3 i).trans (ht.2.2.2 i (by omega) (by assumption)).1
      refine aw_st (show _ = [iv (stt σ a i)] from congrArg (fun x => [iv x]) hq) ?_
      refine aw_if_ne 86 79 (by omega) dX4_lays_76 rfl rfl (fun c_76 => ?_) (fun c_76 => ?_)
      · refine aw_iinc 89 dX4_lays_86 rfl rfl (as_3 rfl) (by decide) ?_
        refine aw_goto 53 dX4_lays_89 rfl ?_
        first | (rw [show kLy σ a (i + 1) = k_laysSpeeds a i (1000 * a) (kLy σ a i) from if_pos ⟨by assumption, by assumption⟩] at ih; exact ih) | (rw [show kLy σ a (i + 1) = kLy σ a i from if_neg (fun z => by first | exact absurd z.1 (by assumption) | exact absurd z.2 (by assumption))] at ih; exact ih)
      · have hcm := stt_can hr ha (c := i) (by omega) (by assumption); have hd := (congrFun k4 i).trans (ht.2.2.2 i (by omega) (by assumption)).2
        refine aw_aload_n 80 dX4_lays_79 rfl rfl ?_
        refine aw_iload_n 81 dX4_lays_80 rfl rfl ?_
        refine aw_iload_n 82 dX4_lays_81 rfl rfl ?_
        refine aw_iload_n 83 dX4_lays_82 rfl rfl ?_
        refine aw_xVv 86 (m_laysSpeeds hC (kLy σ a i) _ _ _ hrt (k1.ax ha) (k1.cu (by omega)) (by rw [show (kLy σ a i).2 33 (i : Int).toNat = dtt σ a i from hd]; unfold canM; rw [k1.rw]; exact hcm) (by omega)) mvX4_laysSpeeds q2408 (rdl (mh_obj _ _)) rfl rfl rfl (by decide) (by decide) (Nat.le_refl _) (Nat.le_refl _) rfl (Nat.le_of_ble_eq_true rfl) dX4_lays_83 rfl ?_
        refine aw_iinc 89 dX4_lays_86 rfl rfl (as_3 rfl) (by decide) ?_
        refine aw_goto 53 dX4_lays_89 rfl ?_
        first | (rw [show kLy σ a (i + 1) = k_laysSpeeds a i (1000 * a) (kLy σ a i) from if_pos ⟨by assumption, by assumption⟩] at ih; exact ih) | (rw [show kLy σ a (i + 1) = kLy σ a i from if_neg (fun z => by first | exact absurd z.1 (by assumption) | exact absurd z.2 (by assumption))] at ih; exact ih)
theorem l_lays3 {l : Launch} {g : AG} {C : MCx} (hC : MOK C) (σ : MSt) (a : Int) (G : Nat → Int) (ha : 0 ≤ a ∧ a < 4) : ∀ (n i : Nat), i + n = 999 → AWc l g miX4_lays 15 0 0 (fun r2 h2 => r2 = none ∧ h2 = mh C (sR σ 35 (psL (1000 * a) G 999))) (fun _ _ _ => False) 0 0 (mh C (sR σ 35 (psL (1000 * a) G i))) 94 [some (.ref C.1), some (iv a), some (iv (1000 * a)), some (iv ((i : Int) + 1))] [] := by
  intro n
  induction n with
  | zero =>
    intro i hi
    have e : i = 999 := by omega
    subst e
    refine aw_iload_n 95 dX4_lays_94 rfl rfl ?_
    refine aw_sipush 98 dX4_lays_95 rfl (by decide) ?_
    refine aw_icmp_ge 128 101 (by omega) dX4_lays_98 rfl rfl (fun c_98 => ?_) (fun c_98 => absurd c_98 (by omega))
    exact aw_xv (rfl) rfl dX4_lays_128
  | succ n ih =>
    intro i hi
    have ih := ih (i + 1) (by omega)
    have e : psL (1000 * a) G (i + 1) = va_up (psL (1000 * a) G i) (1000 * a + ((i : Int) + 1)).toNat (psL (1000 * a) G i (1000 * a + ((i : Int) + 1)).toNat + psL (1000 * a) G i (1000 * a + i).toNat) := rfl
    refine aw_iload_n 95 dX4_lays_94 rfl rfl ?_
    refine aw_sipush 98 dX4_lays_95 rfl (by decide) ?_
    refine aw_icmp_ge 128 101 (by omega) dX4_lays_98 rfl rfl (fun c_98 => absurd c_98 (by omega)) (fun c_98 => ?_)
    refine aw_aload_n 102 dX4_lays_101 rfl rfl ?_
    refine aw_get 105 ci4 35 (by decide) q2066 (Or.inl rfl) (rdl (mh_obj _ _)) rfl dX4_lays_102 rfl ?_
    refine aw_iload_n 106 dX4_lays_105 rfl rfl ?_
    refine aw_iload_n 107 dX4_lays_106 rfl rfl ?_
    refine aw_iadd 108 dX4_lays_107 rfl ?_
    refine aw_dup2 109 dX4_lays_108 rfl rfl rfl ?_
    refine aw_iald 110 (rdl (mh_35 hC _)) (by omega) dX4_lays_109 rfl (by decide) ?_
    refine aw_aload_n 111 dX4_lays_110 rfl rfl ?_
    refine aw_get 114 ci4 35 (by decide) q2066 (Or.inl rfl) (rdl (mh_obj _ _)) rfl dX4_lays_111 rfl ?_
    refine aw_iload_n 115 dX4_lays_114 rfl rfl ?_
    refine aw_iload_n 116 dX4_lays_115 rfl rfl ?_
    refine aw_iadd 117 dX4_lays_116 rfl ?_
    refine aw_iconst 118 dX4_lays_117 rfl ?_
    refine aw_isub 119 dX4_lays_118 rfl ?_
    refine aw_st (show _ = iv (1000 * a + i) :: _ from congrArg (fun x => iv x :: _) (by omega)) ?_
    refine aw_iald 120 (rdl (mh_35 hC _)) (by omega) dX4_lays_119 rfl (by decide) ?_
    refine aw_iadd 121 dX4_lays_120 rfl ?_
    refine aw_iast 122 (mh_35 hC _) (by omega) dX4_lays_121 rfl (by decide) ?_
    refine aw_h (mhs_35 hC _ _) ?_
    refine aw_iinc 125 dX4_lays_122 rfl rfl (as_3 rfl) (by decide) ?_
    refine aw_goto 94 dX4_lays_125 rfl ?_
    rw [sR_sR]; rw [e] at ih; exact ih
theorem m_lays {l : Launch} {g : AG} {C : MCx} (hC : MOK C) (σ : MSt) (a : Int) (hr : mR σ) (hT : mT σ) (ha : isAx σ a): AMx l g miX4_lays 15 [.ref C.1, iv a] (mh C σ) (none) (mh C (k_lays a σ)) := by
  refine aw_start 2 (by decide) rfl (Nat.le_of_ble_eq_true rfl) ?_
  show AWc l g miX4_lays 15 0 0 _ _ 0 0 (mh C σ) 0 [some (.ref C.1), some (iv a), none, none] []
  have h20 := hr.nC
  have h5 := hr.2.1
  have ha1 := ha.1
  have ha2 := ha.2
  have ht := k_takesAll_ok hr a
  refine aw_aload_n 1 dX4_lays_0 rfl rfl ?_
  refine aw_iload_n 2 dX4_lays_1 rfl rfl ?_
  refine aw_xVv 5 (m_takesAll hC _ _ hr hT (by omega)) mvX4_takesAll q2365 (rdl (mh_obj _ _)) rfl rfl rfl (by decide) (by decide) (Nat.le_refl _) (Nat.le_refl _) rfl (Nat.le_of_ble_eq_true rfl) dX4_lays_2 rfl ?_
  refine aw_sipush 8 dX4_lays_5 rfl (by decide) ?_
  refine aw_iload_n 9 dX4_lays_8 rfl rfl ?_
  refine aw_imul 10 dX4_lays_9 rfl ?_
  refine aw_istore_n 11 dX4_lays_10 rfl (as_2 rfl) (by decide) ?_
  refine aw_iconst 12 dX4_lays_11 rfl ?_
  refine aw_istore_n 13 dX4_lays_12 rfl (as_3 rfl) (by decide) ?_
  refine aw_h (congrArg (mh C) (sR_id (σ := k_takesAll a σ) (k := 35) rfl).symm) ?_
  refine l_lays1 hC (k_takesAll a σ) a (by omega) ?_ 1000 0 rfl
  rw [clB_all _ (by omega), ht.2.2.1]
  refine aw_aload_n 36 dX4_lays_35 rfl rfl ?_
  refine aw_get 39 ci4 35 (by decide) q2066 (Or.inl rfl) (rdl (mh_obj _ _)) rfl dX4_lays_36 rfl ?_
  refine aw_iload_n 40 dX4_lays_39 rfl rfl ?_
  refine aw_aload_n 41 dX4_lays_40 rfl rfl ?_
  refine aw_get 44 ci4 7 (by decide) q2038 (Or.inl rfl) (rdl (mh_obj _ _)) rfl dX4_lays_41 rfl ?_
  refine aw_iconst 45 dX4_lays_44 rfl ?_
  refine aw_iload_n 46 dX4_lays_45 rfl rfl ?_
  refine aw_imul 47 dX4_lays_46 rfl ?_
  refine aw_iconst 48 dX4_lays_47 rfl ?_
  refine aw_iadd 49 dX4_lays_48 rfl ?_
  refine aw_iald 50 (rdl (mh_7 hC _)) (by omega) dX4_lays_49 rfl (by decide) ?_
  refine aw_st (show _ = [iv (σ.2 7 (3 * a + 2).toNat), iv (1000 * a + 0), .ref (C.2.1 35)] from by rw [show (sR (k_takesAll a σ) 35 (vaB (1000 * a) (σ.2 35) fun _ => 0)).2 7 = σ.2 7 from ht.1.2.1 7 (by decide), Int.add_zero]) ?_
  refine aw_iast 51 (mh_35 hC _) (by omega) dX4_lays_50 rfl (by decide) ?_
  refine aw_h (mhs_35 hC _ _) ?_
  rw [sR_sR]; refine aw_h (show _ = mh C (kLy σ a 0) from congrArg (fun f => mh C (sR (k_takesAll a σ) 35 f)) (vaB_up (b := 1000 * a) (σ.2 35) (fun _ => 0) (i := 0) (σ.2 7 (3 * a + 2).toNat) (by omega) (by decide) (by decide))) ?_
  refine aw_iconst 52 dX4_lays_51 rfl ?_
  refine aw_istore_n 53 dX4_lays_52 rfl (as_3 rfl) (by decide) ?_
  refine l_lays2 hC σ a hr ha (fun o => ?_) (r_nC (rw_ σ)).toNat 0 (by omega)
  refine aw_iconst 93 dX4_lays_92 rfl ?_
  refine aw_istore_n 94 dX4_lays_93 rfl (as_3 rfl) (by decide) ?_
  refine aw_h (congrArg (mh C) (sR_id (σ := kLy σ a (r_nC (rw_ σ)).toNat) (k := 35) rfl).symm) ?_; exact l_lays3 hC (kLy σ a (r_nC (rw_ σ)).toNat) a ((kLy σ a (r_nC (rw_ σ)).toNat).2 35) (by omega) 999 0 rfl
