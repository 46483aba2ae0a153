/-! CameraMovesModel: what becomes of all moves of an axis -/
set_option maxRecDepth 100000
/-- the first n places are taken back -/
def clr (f : Nat → Int) : Nat → Nat → Int
  | 0 => f
  | n + 1 => va_up (clr f n) n 0
theorem clr_at (f : Nat → Int) (j : Nat) : ∀ n : Nat, clr f n j = if j < n then 0 else f j := by
  intro n
  induction n with
  | zero => rfl
  | succ n ih =>
    simp only [clr, va_up_at, ih]
    (repeat' split) <;> first | rfl | omega
/-- one move is told -/
def tkU (a c place free : Int) (σ : MSt) : MSt := sR (sR (sR σ 34 (va_up (σ.2 34) c.toNat 1)) 33 (va_up (σ.2 33) c.toNat (mvD (rw_ σ) a c place))) 32 (va_up (σ.2 32) c.toNat (mvS (rw_ σ) a c place free))
def tkK (a : Int) : Nat → Int → Int → Int → MSt → MSt
  | 0, _, _, _, σ => σ
  | n + 1, last, place, free, σ => if fn (rw_ σ) a last = -1 then σ else tkK a n (fn (rw_ σ) a last) (if mvS (rw_ σ) a (fn (rw_ σ) a last) place free = 0 then r_tg (rw_ σ) (fn (rw_ σ) a last) a else place) (if mvS (rw_ σ) a (fn (rw_ σ) a last) place free = 0 then r_fr (rw_ σ) (fn (rw_ σ) a last) + r_ln (rw_ σ) (fn (rw_ σ) a last) else free) (tkU a (fn (rw_ σ) a last) place free σ)
def k_takesAll (a : Int) (σ : MSt) : MSt := tkK a 20 (-1) (σ.2 7 (3 * a + 2).toNat) 0 (sR σ 34 (clr (σ.2 34) (r_nC (rw_ σ)).toNat))
theorem l_takes1 {l : Launch} {g : AG} {C : MCx} (hC : MOK C) {R : Option Value} {H1 : AH} (σ : MSt) (a : Int) (hr : mR σ) (kk : ∀ o : Option Value, AWc l g miX4_takesAll 14 0 0 (fun r2 h2 => r2 = R ∧ h2 = H1) (fun _ _ _ => False) 0 0 (mh C (sR σ 34 (clr (σ.2 34) (r_nC (rw_ σ)).toNat))) 23 [some (.ref C.1), some (iv a), o, none, none, none, none] []) : ∀ (n i : Nat), (i : Int) + n = r_nC (rw_ σ) → AWc l g miX4_takesAll 14 0 0 (fun r2 h2 => r2 = R ∧ h2 = H1) (fun _ _ _ => False) 0 0 (mh C (sR σ 34 (clr (σ.2 34) i))) 2 [some (.ref C.1), some (iv a), some (iv i), none, none, none, none] [] := by
  have h20 := hr.nC
  intro n
  induction n with
  | zero =>
    intro i hi
    have e : (r_nC (rw_ σ)).toNat = i := by omega
    rw [e] at kk
    refine aw_iload_n 3 dX4_takesAll_2 rfl rfl ?_
    refine aw_aload_n 4 dX4_takesAll_3 rfl rfl ?_
    refine aw_xV 7 (m_nC hC (sR σ 34 (clr (σ.2 34) i)) hr.1) mvX4_cueMany q2259 (rdl (mh_obj _ _)) rfl rfl rfl (by decide) (by decide) (Nat.le_refl _) (Nat.le_refl _) rfl (Nat.le_of_ble_eq_true rfl) dX4_takesAll_4 rfl ?_
    refine aw_st (show _ = [iv (r_nC (rw_ σ)), iv (i : Int)] from rfl) ?_
    refine aw_icmp_ge 23 10 (by omega) dX4_takesAll_7 rfl rfl (fun c_7 => ?_) (fun c_7 => absurd c_7 (by omega))
    exact kk _
  | succ n ih =>
    intro i hi
    have ih := ih (i + 1) (by omega)
    refine aw_iload_n 3 dX4_takesAll_2 rfl rfl ?_
    refine aw_aload_n 4 dX4_takesAll_3 rfl rfl ?_
    refine aw_xV 7 (m_nC hC (sR σ 34 (clr (σ.2 34) i)) hr.1) mvX4_cueMany q2259 (rdl (mh_obj _ _)) rfl rfl rfl (by decide) (by decide) (Nat.le_refl _) (Nat.le_refl _) rfl (Nat.le_of_ble_eq_true rfl) dX4_takesAll_4 rfl ?_
    refine aw_st (show _ = [iv (r_nC (rw_ σ)), iv (i : Int)] from rfl) ?_
    refine aw_icmp_ge 23 10 (by omega) dX4_takesAll_7 rfl rfl (fun c_7 => absurd c_7 (by omega)) (fun c_7 => ?_)
    refine aw_aload_n 11 dX4_takesAll_10 rfl rfl ?_
    refine aw_get 14 ci4 34 (by decide) q2065 (Or.inl rfl) (rdl (mh_obj _ _)) rfl dX4_takesAll_11 rfl ?_
    refine aw_iload_n 15 dX4_takesAll_14 rfl rfl ?_
    refine aw_iconst 16 dX4_takesAll_15 rfl ?_
    refine aw_zast 17 (mh_34 hC _) (by omega) (by decide) dX4_takesAll_16 rfl (by decide) ?_
    refine aw_h (mhs_34 hC _ _) ?_
    refine aw_iinc 20 dX4_takesAll_17 rfl rfl (as_2 rfl) (by decide) ?_
    refine aw_goto 2 dX4_takesAll_20 rfl ?_
    rw [sR_sR]; exact ih
theorem l_takes2 {l : Launch} {g : AG} {C : MCx} (hC : MOK C) (a : Int) : ∀ (f : Nat) (σ : MSt) (last place latest free : Int) (o5 o6 : Option Value), mR σ → mT σ → isAx σ a → cnF (rw_ σ) a last (r_nC (rw_ σ)).toNat ≤ f → (∀ k : Nat, (k : Int) < r_nC (rw_ σ) → r_has (rw_ σ) k a → (σ.2 34 k = 0 ↔ last = -1 ∨ bh (rw_ σ) k last)) → (-9999 ≤ place ∧ place ≤ 9999) → (latest = -1 ∧ free = 0 ∨ isCu σ latest ∧ free = r_fr (rw_ σ) latest + r_ln (rw_ σ) latest) → AWc l g miX4_takesAll 14 0 0 (fun r2 h2 => r2 = none ∧ h2 = mh C (tkK a f last place free σ)) (fun _ _ _ => False) 0 0 (mh C σ) 43 [some (.ref C.1), some (iv a), some (iv place), some (iv latest), some (iv (fn (rw_ σ) a last)), o5, o6] [] := by
  intro f
  induction f with
  | zero =>
    intro σ last place latest free o5 o6 hr hT ha hc hk hp hL
    have h20 := hr.nC
    have hf : fn (rw_ σ) a last = -1 := by
      rcases fn_spec (ρ := rw_ σ) (a := a) (last := last) h20.1 with ⟨z, -⟩ | ⟨z1, z2, -⟩
      · exact z
      · exact absurd z2 (cnF_0 (rw_ σ) a last (r_nC (rw_ σ)).toNat (by omega) _ z1.1 (by omega))
    refine aw_iload 45 dX4_takesAll_43 rfl rfl ?_
    refine aw_iconst 46 dX4_takesAll_45 rfl ?_
    refine aw_icmp_eq 190 49 (by omega) dX4_takesAll_46 rfl rfl (fun c_46 => ?_) (fun c_46 => absurd c_46 (by omega))
    exact aw_xv (rfl) rfl dX4_takesAll_190
  | succ f ih =>
    intro σ last place latest free o5 o6 hr hT ha hc hk hp hL
    have h20 := hr.nC
    by_cases hf : fn (rw_ σ) a last = -1
    · rw [show tkK a (f + 1) last place free σ = σ from if_pos hf]
      refine aw_iload 45 dX4_takesAll_43 rfl rfl ?_
      refine aw_iconst 46 dX4_takesAll_45 rfl ?_
      refine aw_icmp_eq 190 49 (by omega) dX4_takesAll_46 rfl rfl (fun c_46 => ?_) (fun c_46 => absurd c_46 (by omega))
      exact aw_xv (rfl) rfl dX4_takesAll_190
    · rw [show tkK a (f + 1) last place free σ = _ from if_neg hf]
      obtain ⟨hcu, hpd, hmin⟩ : (0 ≤ fn (rw_ σ) a last ∧ fn (rw_ σ) a last < r_nC (rw_ σ)) ∧ pd (rw_ σ) a last (fn (rw_ σ) a last) ∧ ∀ k : Int, 0 ≤ k → k < r_nC (rw_ σ) → pd (rw_ σ) a last k → k ≠ fn (rw_ σ) a last → bh (rw_ σ) k (fn (rw_ σ) a last) := by
        rcases fn_spec (ρ := rw_ σ) (a := a) (last := last) h20.1 with ⟨z, -⟩ | z
        · exact absurd z hf
        · exact z
      have hcn := cn_next (a := a) (last := last) h20.1 hf
      have hkn : ∀ k : Nat, (k : Int) < r_nC (rw_ σ) → r_has (rw_ σ) k a → (va_up (σ.2 34) (fn (rw_ σ) a last).toNat 1 k = 0 ↔ fn (rw_ σ) a last = -1 ∨ bh (rw_ σ) k (fn (rw_ σ) a last)) := by
        intro k h1 h2
        have hn := pd_next (a := a) (last := last) (k := k) h20.1 hf (by omega) h1
        rw [va_up_at]
        by_cases hkc : k = (fn (rw_ σ) a last).toNat
        · rw [if_pos hkc]
          constructor
          · intro z; omega
          · rintro (z | z)
            · exact absurd z hf
            · exact absurd (show (k : Int) = fn (rw_ σ) a last by omega) (hn.mp ⟨h2, Or.inr z⟩).2
        · rw [if_neg hkc]
          constructor
          · intro z
            exact Or.inr (hmin k (by omega) h1 ⟨h2, (hk k h1 h2).mp z⟩ (by omega))
          · rintro (z | z)
            · exact absurd z hf
            · exact (hk k h1 h2).mpr (hn.mp ⟨h2, Or.inr z⟩).1.2
      have hTn : ∀ j, 0 ≤ va_up (σ.2 34) (fn (rw_ σ) a last).toNat 1 j ∧ va_up (σ.2 34) (fn (rw_ σ) a last).toNat 1 j ≤ 1 := by
        intro j
        have := hT j
        rw [va_up_at]
        split <;> omega
      have htg := hr.2.2.1.tg ha hr.2.1.2 hcu hpd.1
      have ih := fun (p2 l2 f2 : Int) (o5 o6 : Option Value) => ih (tkU a (fn (rw_ σ) a last) place free σ) (fn (rw_ σ) a last) p2 l2 f2 o5 o6 hr hTn ha (by show cnF (rw_ σ) a (fn (rw_ σ) a last) (r_nC (rw_ σ)).toNat ≤ f; omega) hkn
      have hfn : ∀ S, nxF (rw_ σ) (va_up (σ.2 34) (fn (rw_ σ) a last).toNat 1) a (r_nC (rw_ σ)).toNat = S ↔ fn (rw_ σ) a (fn (rw_ σ) a last) = S := fun S => by
        rw [nxF_eq (last := fn (rw_ σ) a last) _ (fun k h1 h2 => hkn k (by omega) h2)]
        exact Iff.rfl
      have hcu' := (hr.cue hcu.1 hcu.2).1
      have hD : -19998 ≤ mvD (rw_ σ) a (fn (rw_ σ) a last) place ∧ mvD (rw_ σ) a (fn (rw_ σ) a last) place ≤ 19998 := by unfold mvD; omega
      have hS := mvS_rg (rw_ σ) a (fn (rw_ σ) a last) place free
      obtain ⟨s1, s2, s3, s4⟩ := sm_v hr ha
      have hab : ab (mvD (rw_ σ) a (fn (rw_ σ) a last) place) = ((mvD (rw_ σ) a (fn (rw_ σ) a last) place).natAbs : Int) := rfl
      have hls := lst_spec (v := r_sp (rw_ σ) a) (r := r_rp (rw_ σ) a) (g := ab (mvD (rw_ σ) a (fn (rw_ σ) a last) place)) s3 (by omega) (by omega)
      generalize hce : fn (rw_ σ) a last = c at *
      refine aw_iload 45 dX4_takesAll_43 rfl rfl ?_
      refine aw_iconst 46 dX4_takesAll_45 rfl ?_
      refine aw_icmp_eq 190 49 (by omega) dX4_takesAll_46 rfl rfl (fun c_46 => absurd c_46 (by omega)) (fun c_46 => ?_)
      refine aw_aload_n 50 dX4_takesAll_49 rfl rfl ?_
      refine aw_get 53 ci4 34 (by decide) q2065 (Or.inl rfl) (rdl (mh_obj _ _)) rfl dX4_takesAll_50 rfl ?_
      refine aw_iload 55 dX4_takesAll_53 rfl rfl ?_
      refine aw_iconst 56 dX4_takesAll_55 rfl ?_
      refine aw_zast 57 (mh_34 hC _) (by omega) (by decide) dX4_takesAll_56 rfl (by decide) ?_
      refine aw_h (mhs_34 hC _ _) ?_
      refine aw_aload_n 58 dX4_takesAll_57 rfl rfl ?_
      refine aw_iload 60 dX4_takesAll_58 rfl rfl ?_
      refine aw_iconst 61 dX4_takesAll_60 rfl ?_
      refine aw_xV 64 (m_of0 hC (sR σ 34 (va_up (σ.2 34) c.toNat 1)) _ hr.1 (by omega)) mvX4_of q2299 (rdl (mh_obj _ _)) rfl rfl rfl (by decide) (by decide) (Nat.le_refl _) (Nat.le_refl _) rfl (Nat.le_of_ble_eq_true rfl) dX4_takesAll_61 rfl ?_
      refine aw_st (show _ = [iv (r_fr (rw_ σ) c)] from rfl) ?_
      refine aw_istore 66 dX4_takesAll_64 rfl (as_5 rfl) (by decide) ?_
      refine aw_join (bI (r_fr (rw_ σ) c < free)) 94 ?_ (fun kz1 => ?_)
      · refine aw_istore 96 dX4_takesAll_94 rfl (as_6 rfl) (by decide) ?_
        refine aw_aload_n 97 dX4_takesAll_96 rfl rfl ?_
        refine aw_get 100 ci4 33 (by decide) q2064 (Or.inl rfl) (rdl (mh_obj _ _)) rfl dX4_takesAll_97 rfl ?_
        refine aw_iload 102 dX4_takesAll_100 rfl rfl ?_
        refine aw_aload_n 103 dX4_takesAll_102 rfl rfl ?_
        refine aw_iload 105 dX4_takesAll_103 rfl rfl ?_
        refine aw_iconst 106 dX4_takesAll_105 rfl ?_
        refine aw_iload_n 107 dX4_takesAll_106 rfl rfl ?_
        refine aw_iadd 108 dX4_takesAll_107 rfl ?_
        refine aw_xV 111 (m_of3 hC (sR σ 34 (va_up (σ.2 34) c.toNat 1)) _ _ hr.1 (by omega) (by omega)) mvX4_of q2299 (rdl (mh_obj _ _)) rfl rfl rfl (by decide) (by decide) (Nat.le_refl _) (Nat.le_refl _) rfl (Nat.le_of_ble_eq_true rfl) dX4_takesAll_108 rfl ?_
        refine aw_iload_n 112 dX4_takesAll_111 rfl rfl ?_
        refine aw_isub 113 dX4_takesAll_112 rfl ?_
        refine aw_iast 114 (mh_33 hC _) (by omega) dX4_takesAll_113 rfl (by decide) ?_
        refine aw_h (mhs_33 hC _ _) ?_
        refine aw_h (show _ = mh C (sR (sR σ 34 (va_up (σ.2 34) c.toNat 1)) 33 (va_up (σ.2 33) c.toNat (mvD (rw_ σ) a c place))) from rfl) ?_
        refine aw_aload_n 115 dX4_takesAll_114 rfl rfl ?_
        refine aw_get 118 ci4 32 (by decide) q2063 (Or.inl rfl) (rdl (mh_obj _ _)) rfl dX4_takesAll_115 rfl ?_
        refine aw_iload 120 dX4_takesAll_118 rfl rfl ?_
        refine aw_join (mvS (rw_ σ) a c place free) 156 ?_ (fun kz2 => ?_)
        · refine aw_iast 157 (mh_32 hC _) (by omega) dX4_takesAll_156 rfl (by decide) ?_
          refine aw_h (mhs_32 hC _ _) ?_
          refine aw_h (show _ = mh C (tkU a c place free σ) from rfl) ?_
          refine aw_aload_n 158 dX4_takesAll_157 rfl rfl ?_
          refine aw_get 161 ci4 32 (by decide) q2063 (Or.inl rfl) (rdl (mh_obj _ _)) rfl dX4_takesAll_158 rfl ?_
          refine aw_iload 163 dX4_takesAll_161 rfl rfl ?_
          refine aw_iald 164 (rdl (mh_32 hC _)) (by omega) dX4_takesAll_163 rfl (by decide) ?_
          refine aw_st (congrArg (fun x => iv x :: _) (show _ = mvS (rw_ σ) a c place free from if_pos rfl)) ?_
          refine aw_if_ne 180 167 (by omega) dX4_takesAll_164 rfl rfl (fun c_164 => ?_) (fun c_164 => ?_)
          · refine aw_aload_n 181 dX4_takesAll_180 rfl rfl ?_
            refine aw_iload_n 182 dX4_takesAll_181 rfl rfl ?_
            refine aw_xV 185 (m_nextCue hC (tkU a c place free σ) _ hr hTn (by omega)) mvX4_nextCue q2369 (rdl (mh_obj _ _)) rfl rfl rfl (by decide) (by decide) (Nat.le_refl _) (Nat.le_refl _) rfl (Nat.le_of_ble_eq_true rfl) dX4_takesAll_182 rfl ?_
            refine aw_st (show _ = [iv (fn (rw_ σ) a c)] from congrArg (fun x => [iv x]) ((hfn _).mp rfl).symm) ?_
            refine aw_istore 187 dX4_takesAll_185 rfl (as_4 rfl) (by decide) ?_
            refine aw_goto 43 dX4_takesAll_187 rfl ?_
            first | (rw [if_pos (by assumption), if_pos (by assumption)]; exact ih _ _ _ _ _ htg (Or.inr ⟨hcu, rfl⟩)) | (rw [if_neg (by assumption), if_neg (by assumption)]; exact ih _ _ _ _ _ hp hL)
          · refine aw_aload_n 168 dX4_takesAll_167 rfl rfl ?_
            refine aw_iload 170 dX4_takesAll_168 rfl rfl ?_
            refine aw_iconst 171 dX4_takesAll_170 rfl ?_
            refine aw_iload_n 172 dX4_takesAll_171 rfl rfl ?_
            refine aw_iadd 173 dX4_takesAll_172 rfl ?_
            refine aw_xV 176 (m_of3 hC (tkU a c place free σ) _ _ hr.1 (by omega) (by omega)) mvX4_of q2299 (rdl (mh_obj _ _)) rfl rfl rfl (by decide) (by decide) (Nat.le_refl _) (Nat.le_refl _) rfl (Nat.le_of_ble_eq_true rfl) dX4_takesAll_173 rfl ?_
            refine aw_st (show _ = [iv (r_tg (rw_ σ) c a)] from rfl) ?_
            refine aw_istore_n 177 dX4_takesAll_176 rfl (as_2 rfl) (by decide) ?_
            refine aw_iload 179 dX4_takesAll_177 rfl rfl ?_
            refine aw_istore_n 180 dX4_takesAll_179 rfl (as_3 rfl) (by decide) ?_
            refine aw_aload_n 181 dX4_takesAll_180 rfl rfl ?_
            refine aw_iload_n 182 dX4_takesAll_181 rfl rfl ?_
            refine aw_xV 185 (m_nextCue hC (tkU a c place free σ) _ hr hTn (by omega)) mvX4_nextCue q2369 (rdl (mh_obj _ _)) rfl rfl rfl (by decide) (by decide) (Nat.le_refl _) (Nat.le_refl _) rfl (Nat.le_of_ble_eq_true rfl) dX4_takesAll_182 rfl ?_
            refine aw_st (show _ = [iv (fn (rw_ σ) a c)] from congrArg (fun x => [iv x]) ((hfn _).mp rfl).symm) ?_
            refine aw_istore 187 dX4_takesAll_185 rfl (as_4 rfl) (by decide) ?_
            refine aw_goto 43 dX4_takesAll_187 rfl ?_
            first | (rw [if_pos (by assumption), if_pos (by assumption)]; exact ih _ _ _ _ _ htg (Or.inr ⟨hcu, rfl⟩)) | (rw [if_neg (by assumption), if_neg (by assumption)]; exact ih _ _ _ _ _ hp hL)
        · refine aw_iload 122 dX4_takesAll_120 rfl rfl ?_
          refine aw_if_eqB 129 125 dX4_takesAll_122 rfl rfl (fun c_122 => ?_) (fun c_122 => ?_)
          · refine aw_aload_n 130 dX4_takesAll_129 rfl rfl ?_
            refine aw_iload 132 dX4_takesAll_130 rfl rfl ?_
            refine aw_iconst 133 dX4_takesAll_132 rfl ?_
            refine aw_xV 136 (m_of1 hC (sR (sR σ 34 (va_up (σ.2 34) c.toNat 1)) 33 (va_up (σ.2 33) c.toNat (mvD (rw_ σ) a c place))) _ hr.1 (by omega)) mvX4_of q2299 (rdl (mh_obj _ _)) rfl rfl rfl (by decide) (by decide) (Nat.le_refl _) (Nat.le_refl _) rfl (Nat.le_of_ble_eq_true rfl) dX4_takesAll_133 rfl ?_
            refine aw_st (show _ = iv (r_ln (rw_ σ) c) :: _ from rfl) ?_
            refine aw_aload_n 137 dX4_takesAll_136 rfl rfl ?_
            refine aw_iload_n 138 dX4_takesAll_137 rfl rfl ?_
            refine aw_aload_n 139 dX4_takesAll_138 rfl rfl ?_
            refine aw_get 142 ci4 33 (by decide) q2064 (Or.inl rfl) (rdl (mh_obj _ _)) rfl dX4_takesAll_139 rfl ?_
            refine aw_iload 144 dX4_takesAll_142 rfl rfl ?_
            refine aw_iald 145 (rdl (mh_33 hC _)) (by omega) dX4_takesAll_144 rfl (by decide) ?_
            refine aw_st (congrArg (fun x => iv x :: _) (show _ = mvD (rw_ σ) a c place from if_pos rfl)) ?_
            refine aw_xV 148 (m_leastOf hC (sR (sR σ 34 (va_up (σ.2 34) c.toNat 1)) 33 (va_up (σ.2 33) c.toNat (mvD (rw_ σ) a c place))) _ _ hr ha hD) mvX4_leastOf q2323 (rdl (mh_obj _ _)) rfl rfl rfl (by decide) (by decide) (Nat.le_refl _) (Nat.le_refl _) rfl (Nat.le_of_ble_eq_true rfl) dX4_takesAll_145 rfl ?_
            refine aw_st (show _ = iv (lst (r_sp (rw_ σ) a) (r_rp (rw_ σ) a) (ab (mvD (rw_ σ) a c place))) :: _ from rfl) ?_
            refine aw_icmp_ge 155 151 (by omega) dX4_takesAll_148 rfl rfl (fun c_148 => ?_) (fun c_148 => ?_)
            · refine aw_iconst 156 dX4_takesAll_155 rfl ?_
              exact kz2 _ (by unfold mvS; first | exact (if_pos (by assumption)).symm | (rw [if_neg (by assumption)]; first | exact (if_pos (by omega)).symm | exact (if_neg (by omega)).symm))
            · refine aw_iconst 152 dX4_takesAll_151 rfl ?_
              refine aw_goto 156 dX4_takesAll_152 rfl ?_
              exact kz2 _ (by unfold mvS; first | exact (if_pos (by assumption)).symm | (rw [if_neg (by assumption)]; first | exact (if_pos (by omega)).symm | exact (if_neg (by omega)).symm))
          · refine aw_iconst 126 dX4_takesAll_125 rfl ?_
            refine aw_goto 156 dX4_takesAll_126 rfl ?_
            exact kz2 _ (by unfold mvS; first | exact (if_pos (by assumption)).symm | (rw [if_neg (by assumption)]; first | exact (if_pos (by omega)).symm | exact (if_neg (by omega)).symm))
      · refine aw_iload_n 67 dX4_takesAll_66 rfl rfl ?_
        refine aw_iconst 68 dX4_takesAll_67 rfl ?_
        refine aw_icmp_eq 93 71 (by omega) dX4_takesAll_68 rfl rfl (fun c_68 => ?_) (fun c_68 => ?_)
        · refine aw_iconst 94 dX4_takesAll_93 rfl ?_
          exact kz1 _ (by first | exact (bI_t (by omega)).symm | exact (bI_f (by omega)).symm)
        · have hL2 : isCu σ latest ∧ free = r_fr (rw_ σ) latest + r_ln (rw_ σ) latest := (by rcases hL with z | z; (exact absurd z.1 (by assumption)); exact z); have hl := (hr.cue hL2.1.1 hL2.1.2).1
          refine aw_aload_n 72 dX4_takesAll_71 rfl rfl ?_
          refine aw_iload_n 73 dX4_takesAll_72 rfl rfl ?_
          refine aw_iconst 74 dX4_takesAll_73 rfl ?_
          refine aw_xV 77 (m_of0 hC (sR σ 34 (va_up (σ.2 34) c.toNat 1)) _ hr.1 (by omega)) mvX4_of q2299 (rdl (mh_obj _ _)) rfl rfl rfl (by decide) (by decide) (Nat.le_refl _) (Nat.le_refl _) rfl (Nat.le_of_ble_eq_true rfl) dX4_takesAll_74 rfl ?_
          refine aw_st (show _ = [iv (r_fr (rw_ σ) latest)] from rfl) ?_
          refine aw_aload_n 78 dX4_takesAll_77 rfl rfl ?_
          refine aw_iload_n 79 dX4_takesAll_78 rfl rfl ?_
          refine aw_iconst 80 dX4_takesAll_79 rfl ?_
          refine aw_xV 83 (m_of1 hC (sR σ 34 (va_up (σ.2 34) c.toNat 1)) _ hr.1 (by omega)) mvX4_of q2299 (rdl (mh_obj _ _)) rfl rfl rfl (by decide) (by decide) (Nat.le_refl _) (Nat.le_refl _) rfl (Nat.le_of_ble_eq_true rfl) dX4_takesAll_80 rfl ?_
          refine aw_st (show _ = [iv (r_ln (rw_ σ) latest), iv (r_fr (rw_ σ) latest)] from rfl) ?_
          refine aw_iadd 84 dX4_takesAll_83 rfl ?_
          refine aw_iload 86 dX4_takesAll_84 rfl rfl ?_
          refine aw_icmp_le 93 89 (by omega) dX4_takesAll_86 rfl rfl (fun c_86 => ?_) (fun c_86 => ?_)
          · refine aw_iconst 94 dX4_takesAll_93 rfl ?_
            exact kz1 _ (by first | exact (bI_t (by omega)).symm | exact (bI_f (by omega)).symm)
          · refine aw_iconst 90 dX4_takesAll_89 rfl ?_
            refine aw_goto 94 dX4_takesAll_90 rfl ?_
            exact kz1 _ (by first | exact (bI_t (by omega)).symm | exact (bI_f (by omega)).symm)
theorem m_takesAll {l : Launch} {g : AG} {C : MCx} (hC : MOK C) (σ : MSt) (a : Int) (hr : mR σ) (hT : mT σ) (ha : isAx σ a): AMx l g miX4_takesAll 14 [.ref C.1, iv a] (mh C σ) (none) (mh C (k_takesAll a σ)) := by
  refine aw_start 5 (by decide) rfl (Nat.le_of_ble_eq_true rfl) ?_
  show AWc l g miX4_takesAll 14 0 0 _ _ 0 0 (mh C σ) 0 [some (.ref C.1), some (iv a), none, none, none, none, none] []
  have h20 := hr.nC
  have h5 := hr.2.1
  have h7 := hr.2.2.2 (3 * a + 2).toNat
  have hT2 : mT (sR σ 34 (clr (σ.2 34) (r_nC (rw_ σ)).toNat)) := by
    intro j
    have := hT j
    show 0 ≤ clr (σ.2 34) (r_nC (rw_ σ)).toNat j ∧ clr (σ.2 34) (r_nC (rw_ σ)).toNat j ≤ 1
    rw [clr_at]
    split <;> omega
  have hk : ∀ k : Nat, (k : Int) < r_nC (rw_ σ) → r_has (rw_ σ) k a → (clr (σ.2 34) (r_nC (rw_ σ)).toNat k = 0 ↔ (-1 : Int) = -1 ∨ bh (rw_ σ) k (-1)) := fun k h1 _ => ⟨fun _ => Or.inl rfl, fun _ => by rw [clr_at, if_pos (by omega)]⟩
  have hcn := cnF_le (rw_ σ) a (-1) (r_nC (rw_ σ)).toNat
  refine aw_iconst 1 dX4_takesAll_0 rfl ?_
  refine aw_istore_n 2 dX4_takesAll_1 rfl (as_2 rfl) (by decide) ?_
  refine aw_h (congrArg (mh C) (sR_id (σ := σ) (k := 34) rfl).symm) ?_; refine l_takes1 hC σ a hr (fun o => ?_) (r_nC (rw_ σ)).toNat 0 (by omega)
  refine aw_aload_n 24 dX4_takesAll_23 rfl rfl ?_
  refine aw_get 27 ci4 7 (by decide) q2038 (Or.inl rfl) (rdl (mh_obj _ _)) rfl dX4_takesAll_24 rfl ?_
  refine aw_iconst 28 dX4_takesAll_27 rfl ?_
  refine aw_iload_n 29 dX4_takesAll_28 rfl rfl ?_
  refine aw_imul 30 dX4_takesAll_29 rfl ?_
  refine aw_iconst 31 dX4_takesAll_30 rfl ?_
  refine aw_iadd 32 dX4_takesAll_31 rfl ?_
  refine aw_iald 33 (rdl (mh_7 hC _)) (by omega) dX4_takesAll_32 rfl (by decide) ?_
  refine aw_istore_n 34 dX4_takesAll_33 rfl (as_2 rfl) (by decide) ?_
  refine aw_iconst 35 dX4_takesAll_34 rfl ?_
  refine aw_istore_n 36 dX4_takesAll_35 rfl (as_3 rfl) (by decide) ?_
  refine aw_aload_n 37 dX4_takesAll_36 rfl rfl ?_
  refine aw_iload_n 38 dX4_takesAll_37 rfl rfl ?_
  refine aw_xV 41 (m_nextCue hC (sR σ 34 (clr (σ.2 34) (r_nC (rw_ σ)).toNat)) _ hr hT2 (by omega)) mvX4_nextCue q2369 (rdl (mh_obj _ _)) rfl rfl rfl (by decide) (by decide) (Nat.le_refl _) (Nat.le_refl _) rfl (Nat.le_of_ble_eq_true rfl) dX4_takesAll_38 rfl ?_
  refine aw_st (show _ = [iv (fn (rw_ σ) a (-1))] from congrArg (fun x => [iv x]) (nxF_eq (last := -1) (r_nC (rw_ σ)).toNat (fun k h1 h2 => hk k (by omega) h2))) ?_
  refine aw_istore 43 dX4_takesAll_41 rfl (as_4 rfl) (by decide) ?_
  exact l_takes2 hC a 20 (sR σ 34 (clr (σ.2 34) (r_nC (rw_ σ)).toNat)) (-1) (σ.2 7 (3 * a + 2).toNat) (-1) 0 _ _ hr hT2 ha (by show cnF (rw_ σ) a (-1) (r_nC (rw_ σ)).toNat ≤ 20; omega) hk h7 (Or.inl ⟨rfl, rfl⟩)
