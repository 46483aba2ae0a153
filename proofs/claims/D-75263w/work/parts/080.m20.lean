/-! CameraMovesModel: positions of an axis's frames -/
set_option maxRecDepth 100000
/-- a function at a thousand places from b on -/
def vaB (b : Int) (f φ : Nat → Int) : Nat → Int := fun j => if b ≤ j ∧ (j : Int) < b + 1000 then φ ((j : Int) - b).toNat else f j
theorem vaB_at {b : Int} (f φ : Nat → Int) {i : Int} (hb : 0 ≤ b) (h0 : 0 ≤ i) (h1 : i < 1000) : vaB b f φ (b + i).toNat = φ i.toNat := by
  unfold vaB
  rw [if_pos (by omega)]
  congr 1
  omega
theorem vaB_out {b : Int} (f φ : Nat → Int) {j : Nat} (h : (j : Int) < b ∨ b + 1000 ≤ j) : vaB b f φ j = f j := by
  unfold vaB
  rw [if_neg (by omega)]
theorem vaB_up {b : Int} (f φ : Nat → Int) {i : Int} (v : Int) (hb : 0 ≤ b) (h0 : 0 ≤ i) (h1 : i < 1000) : va_up (vaB b f φ) (b + i).toNat v = vaB b f (va_up φ i.toNat v) := by
  funext j
  unfold vaB
  simp only [va_up_at]
  by_cases h : b ≤ (j : Int) ∧ (j : Int) < b + 1000
  · rw [if_pos h, if_pos h]
    by_cases e : j = (b + i).toNat
    · rw [if_pos e, if_pos (by omega)]
    · rw [if_neg e, if_neg (by omega)]
  · rw [if_neg h, if_neg h, if_neg (by omega)]
theorem vaB_congr {b : Int} (f : Nat → Int) {φ ψ : Nat → Int} (h : ∀ i : Nat, i < 1000 → φ i = ψ i) : vaB b f φ = vaB b f ψ := by
  funext j
  unfold vaB
  split
  · exact h _ (by omega)
  · rfl
theorem vaB_own {b : Int} (f : Nat → Int) (hb : 0 ≤ b) : vaB b f (fun i => f (b.toNat + i)) = f := by
  funext j
  unfold vaB
  split
  · show f (b.toNat + ((j : Int) - b).toNat) = f j
    congr 1
    omega
  · rfl
/-- speeds from frame o + 1 on -/
def spL (s : Int → Int) (o : Int) (f : Nat → Int) : Nat → Nat → Int
  | 0 => f
  | n + 1 => va_up (spL s o f n) (o + ((n : Int) + 1)).toNat (s ((n : Int) + 1))
theorem spL_vaB {b : Int} (s : Int → Int) (o : Int) (f φ : Nat → Int) (hb : 0 ≤ b) (ho : 0 ≤ o) : ∀ n : Nat, o + n < 1000 → spL s (b + o) (vaB b f φ) n = vaB b f (spL s o φ n) := by
  intro n
  induction n with
  | zero => intro _; rfl
  | succ n ih =>
    intro h
    simp only [spL]
    rw [ih (by omega), Int.add_assoc, vaB_up _ _ _ hb (by omega) (by omega)]
/-- each place is added to the one ahead -/
def psL (b : Int) (f : Nat → Int) : Nat → Nat → Int
  | 0 => f
  | n + 1 => va_up (psL b f n) (b + ((n : Int) + 1)).toNat (psL b f n (b + ((n : Int) + 1)).toNat + psL b f n (b + n).toNat)
theorem psL_vaB {b : Int} (f φ : Nat → Int) (hb : 0 ≤ b) : ∀ n : Nat, n < 1000 → psL b (vaB b f φ) n = vaB b f (psL 0 φ n) := by
  intro n
  induction n with
  | zero => intro _; rfl
  | succ n ih =>
    intro h
    simp only [psL]
    rw [ih (by omega), vaB_at _ _ hb (by omega) (by omega), vaB_at _ _ hb (by omega) (by omega), vaB_up _ _ _ hb (by omega) (by omega)]
    simp
/-- the speeds of a move by d in f frames -/
def spM (r d f : Int) : Int → Int := spd (pk r (ab d) f) r f (sm (pk r (ab d) f) r f - ab d) (sgn1 d)
def spC (σ : MSt) (a : Int) (c : Nat) : Int → Int := spM (r_rp (rw_ σ) a) (dtt σ a c) (r_ln (rw_ σ) c)
/-- the speeds of the first n cues of an axis -/
def lyL (σ : MSt) (a : Int) : Nat → Nat → Int
  | 0 => va_up (fun _ => 0) 0 (σ.2 7 (3 * a + 2).toNat)
  | n + 1 => if r_has (rw_ σ) n a ∧ stt σ a n = 0 then spL (spC σ a n) (r_fr (rw_ σ) n) (lyL σ a n) (r_ln (rw_ σ) n).toNat else lyL σ a n
/-- the positions of an axis -/
def pos (σ : MSt) (a : Int) : Nat → Int := psL 0 (lyL σ a (r_nC (rw_ σ)).toNat) 999
theorem SC.sp {σ τ : MSt} (h : SC σ τ) : spC τ = spC σ := by
  unfold spC
  rw [h.rw, h.dt]
theorem SC.ly {σ τ : MSt} (h : SC σ τ) (a : Int) : ∀ n, lyL τ a n = lyL σ a n := by
  intro n
  induction n with
  | zero => unfold lyL; rw [h.2.1 7 (by decide)]
  | succ n ih =>
    simp only [lyL]
    rw [ih, h.rw, h.sp, h.st]
theorem SC.po {σ τ : MSt} (h : SC σ τ) : pos τ = pos σ := by
  funext a
  unfold pos
  rw [h.rw, h.ly]
/-- the speed of a move that is looked at -/
theorem spd_rg {p r f e sg k : Int} (hp : 0 ≤ p ∧ p ≤ 99) (hr : 1 ≤ r ∧ r ≤ 20) (hs : -1 ≤ sg ∧ sg ≤ 1) (hk : 1 ≤ k ∧ k ≤ f) : -99 ≤ spd p r f e sg k ∧ spd p r f e sg k ≤ 99 := by
  have h := rs_rg hp hr hk
  unfold spd
  have hx : -1 ≤ (if rs p r f k = p ∧ pc p r f k.toNat ≤ e then p - 1 else rs p r f k) ∧ (if rs p r f k = p ∧ pc p r f k.toNat ≤ e then p - 1 else rs p r f k) ≤ 99 := by split <;> omega
  generalize (if rs p r f k = p ∧ pc p r f k.toNat ≤ e then p - 1 else rs p r f k) = x at hx
  rcases (by omega : sg = -1 ∨ sg = 0 ∨ sg = 1) with z | z | z <;> subst z <;> omega
/-- a move that can be made -/
abbrev canM (σ : MSt) (a d f : Int) : Prop := (-19998 ≤ d ∧ d ≤ 19998) ∧ (1 ≤ f ∧ f ≤ 999) ∧ ab d ≤ sm (r_sp (rw_ σ) a) (r_rp (rw_ σ) a) f
theorem spM_rg {σ : MSt} (hr : mR σ) {a d f k : Int} (ha : isAx σ a) (hm : canM σ a d f) (hk : 1 ≤ k ∧ k ≤ f) : -99 ≤ spM (r_rp (rw_ σ) a) d f k ∧ spM (r_rp (rw_ σ) a) d f k ≤ 99 := by
  have h := k_looksAt_ok hr ha hm.1 (by have := hm.2.1; omega) hm.2.2
  exact spd_rg h.1 h.2.1 h.2.2.2.1 hk
def k_laysSpeeds (a c b : Int) (σ : MSt) : MSt := sR (k_looksAt a (σ.2 33 c.toNat) (r_ln (rw_ σ) c) σ) 35 (spL (spM (r_rp (rw_ σ) a) (σ.2 33 c.toNat) (r_ln (rw_ σ) c)) (b + r_fr (rw_ σ) c) (σ.2 35) (r_ln (rw_ σ) c).toNat)
theorem l_laysSpeeds {l : Launch} {g : AG} {C : MCx} (hC : MOK C) (σ τ : MSt) (a c b d f : Int) (hr : mR σ) (ha : isAx σ a) (hc : isCu σ c) (hm : canM σ a d f) (hf : f = r_ln (rw_ σ) c) (hb : 0 ≤ b ∧ b ≤ 3000) (hτ : τ = k_looksAt a d f σ) : ∀ (n i : Nat) (o6 : Option Value), (i : Int) + n = f → AWc l g miX4_laysSpeeds 13 0 0 (fun r2 h2 => r2 = none ∧ h2 = mh C (sR τ 35 (spL (spM (r_rp (rw_ σ) a) d f) (b + r_fr (rw_ σ) c) (σ.2 35) f.toNat))) (fun _ _ _ => False) 0 0 (mh C (sR τ 35 (spL (spM (r_rp (rw_ σ) a) d f) (b + r_fr (rw_ σ) c) (σ.2 35) i))) 23 [some (.ref C.1), some (iv a), some (iv c), some (iv b), some (iv (pc (pk (r_rp (rw_ σ) a) (ab d) f) (r_rp (rw_ σ) a) f i)), some (iv ((i : Int) + 1)), o6] [] := by
  have hl : mLk τ := by
    rw [hτ]
    exact k_looksAt_ok hr ha hm.1 (by have := hm.2.1; omega) hm.2.2
  have hrt : mR τ := by rw [hτ]; exact hr
  have h27 : τ.1 27 = pk (r_rp (rw_ σ) a) (ab d) f := by rw [hτ]; rfl
  have h28 : τ.1 28 = sm (pk (r_rp (rw_ σ) a) (ab d) f) (r_rp (rw_ σ) a) f - ab d := by rw [hτ]; rfl
  have h29 : τ.1 29 = r_rp (rw_ σ) a := by rw [hτ]; rfl
  have h30 : τ.1 30 = f := by rw [hτ]; rfl
  have h31 : τ.1 31 = sgn1 d := by rw [hτ]; rfl
  have hρ : rw_ τ = rw_ σ := by rw [hτ]; rfl
  obtain ⟨l1, l2, l3, l4, l5⟩ := id hl
  have h20 := hr.nC
  have hcu := (hr.cue hc.1 hc.2).1
  have hc1 := hc.1
  have hc2 := hc.2
  rw [h27] at l1
  rw [h29] at l2
  rw [h30] at l3
  rw [h28] at l5
  have hspM : spM (r_rp (rw_ σ) a) d f = spd (pk (r_rp (rw_ σ) a) (ab d) f) (r_rp (rw_ σ) a) f (sm (pk (r_rp (rw_ σ) a) (ab d) f) (r_rp (rw_ σ) a) f - ab d) (sgn1 d) := rfl
  generalize hSM : spM (r_rp (rw_ σ) a) d f = S at hspM ⊢
  generalize pk (r_rp (rw_ σ) a) (ab d) f = p at l1 l5 h27 h28 hspM ⊢
  generalize sm p (r_rp (rw_ σ) a) f - ab d = e at l5 h28 hspM
  clear hτ hSM
  intro n
  induction n with
  | zero =>
    intro i o6 hi
    have e : f.toNat = i := by omega
    rw [e]
    refine aw_iload 25 dX4_laysSpeeds_23 rfl rfl ?_
    refine aw_aload_n 26 dX4_laysSpeeds_25 rfl rfl ?_
    refine aw_get 29 ci4 30 (by decide) q2061 (Or.inl rfl) (rdl (mh_obj _ _)) rfl dX4_laysSpeeds_26 rfl ?_
    refine aw_st (show _ = [iv f, iv ((i : Int) + 1)] from congrArg (fun x => [iv x, iv ((i : Int) + 1)]) h30) ?_
    refine aw_icmp_gt 115 32 (by omega) dX4_laysSpeeds_29 rfl rfl (fun c_29 => ?_) (fun c_29 => absurd c_29 (by omega))
    exact aw_xv (rfl) rfl dX4_laysSpeeds_115
  | succ n ih =>
    intro i o6 hi
    have ih := fun o => ih (i + 1) o (by omega)
    have hk : 1 ≤ (i : Int) + 1 ∧ (i : Int) + 1 ≤ f := by omega
    have hs := rs_rg (p := p) (r := r_rp (rw_ σ) a) (f := f) l1 l2 hk
    have hp := pc_rg p (r_rp (rw_ σ) a) f i
    have hp1 : pc p (r_rp (rw_ σ) a) f (i + 1) = pc p (r_rp (rw_ σ) a) f i + (if rs p (r_rp (rw_ σ) a) f ((i : Int) + 1) = p then 1 else 0) := rfl
    have hS : S ((i : Int) + 1) = sgn1 d * (if rs p (r_rp (rw_ σ) a) f ((i : Int) + 1) = p ∧ pc p (r_rp (rw_ σ) a) f (i + 1) ≤ e then p - 1 else rs p (r_rp (rw_ σ) a) f ((i : Int) + 1)) := by rw [hspM]; rfl
    have hG : spL S (b + r_fr (rw_ σ) c) (σ.2 35) (i + 1) = va_up (spL S (b + r_fr (rw_ σ) c) (σ.2 35) i) (b + r_fr (rw_ σ) c + ((i : Int) + 1)).toNat (S ((i : Int) + 1)) := rfl
    have hrr : AMx l g miX4_rawSpeed 10 [.ref C.1, iv ((i : Int) + 1)] (mh C (sR τ 35 (spL S (b + r_fr (rw_ σ) c) (σ.2 35) i))) (some (iv (rs p (r_rp (rw_ σ) a) f ((i : Int) + 1)))) (mh C (sR τ 35 (spL S (b + r_fr (rw_ σ) c) (σ.2 35) i))) := by
      have h := m_rawSpeed (l := l) (g := g) hC (sR τ 35 (spL S (b + r_fr (rw_ σ) c) (σ.2 35) i)) ((i : Int) + 1) hl (by show 1 ≤ (i : Int) + 1 ∧ (i : Int) + 1 ≤ τ.1 30; rw [h30]; exact hk)
      have e1 : rs ((sR τ 35 (spL S (b + r_fr (rw_ σ) c) (σ.2 35) i)).1 27) ((sR τ 35 (spL S (b + r_fr (rw_ σ) c) (σ.2 35) i)).1 29) ((sR τ 35 (spL S (b + r_fr (rw_ σ) c) (σ.2 35) i)).1 30) ((i : Int) + 1) = rs p (r_rp (rw_ σ) a) f ((i : Int) + 1) := by
        show rs (τ.1 27) (τ.1 29) (τ.1 30) ((i : Int) + 1) = _
        rw [h27, h29, h30]
      rw [e1] at h
      exact h
    have hof : AMx l g miX4_of 11 [.ref C.1, iv c, iv 0] (mh C (sR τ 35 (spL S (b + r_fr (rw_ σ) c) (σ.2 35) i))) (some (iv (r_fr (rw_ σ) c))) (mh C (sR τ 35 (spL S (b + r_fr (rw_ σ) c) (σ.2 35) i))) := by
      have h := m_of0 (l := l) (g := g) hC (sR τ 35 (spL S (b + r_fr (rw_ σ) c) (σ.2 35) i)) c hrt.1 (by omega)
      rw [show rw_ (sR τ 35 (spL S (b + r_fr (rw_ σ) c) (σ.2 35) i)) = rw_ σ from hρ] at h
      exact h
    refine aw_iload 25 dX4_laysSpeeds_23 rfl rfl ?_
    refine aw_aload_n 26 dX4_laysSpeeds_25 rfl rfl ?_
    refine aw_get 29 ci4 30 (by decide) q2061 (Or.inl rfl) (rdl (mh_obj _ _)) rfl dX4_laysSpeeds_26 rfl ?_
    refine aw_st (show _ = [iv f, iv ((i : Int) + 1)] from congrArg (fun x => [iv x, iv ((i : Int) + 1)]) h30) ?_
    refine aw_icmp_gt 115 32 (by omega) dX4_laysSpeeds_29 rfl rfl (fun c_29 => absurd c_29 (by omega)) (fun c_29 => ?_)
    refine aw_aload_n 33 dX4_laysSpeeds_32 rfl rfl ?_
    refine aw_iload 35 dX4_laysSpeeds_33 rfl rfl ?_
    refine aw_xV 38 (hrr) mvX4_rawSpeed q2349 (rdl (mh_obj _ _)) rfl rfl rfl (by decide) (by decide) (Nat.le_refl _) (Nat.le_refl _) rfl (Nat.le_of_ble_eq_true rfl) dX4_laysSpeeds_35 rfl ?_
    refine aw_istore 40 dX4_laysSpeeds_38 rfl (as_6 rfl) (by decide) ?_
    refine aw_iload 42 dX4_laysSpeeds_40 rfl rfl ?_
    refine aw_join ((if rs p (r_rp (rw_ σ) a) f ((i : Int) + 1) = p then 1 else 0)) 56 ?_ (fun kz1 => ?_)
    · refine aw_iadd 57 dX4_laysSpeeds_56 rfl ?_
      refine aw_istore 59 dX4_laysSpeeds_57 rfl (as_4 rfl) (by decide) ?_
      rw [← hp1]
      refine aw_aload_n 60 dX4_laysSpeeds_59 rfl rfl ?_
      refine aw_get 63 ci4 35 (by decide) q2066 (Or.inl rfl) (rdl (mh_obj _ _)) rfl dX4_laysSpeeds_60 rfl ?_
      refine aw_iload_n 64 dX4_laysSpeeds_63 rfl rfl ?_
      refine aw_aload_n 65 dX4_laysSpeeds_64 rfl rfl ?_
      refine aw_iload_n 66 dX4_laysSpeeds_65 rfl rfl ?_
      refine aw_iconst 67 dX4_laysSpeeds_66 rfl ?_
      refine aw_xV 70 (hof) mvX4_of q2299 (rdl (mh_obj _ _)) rfl rfl rfl (by decide) (by decide) (Nat.le_refl _) (Nat.le_refl _) rfl (Nat.le_of_ble_eq_true rfl) dX4_laysSpeeds_67 rfl ?_
      refine aw_iadd 71 dX4_laysSpeeds_70 rfl ?_
      refine aw_iload 73 dX4_laysSpeeds_71 rfl rfl ?_
      refine aw_iadd 74 dX4_laysSpeeds_73 rfl ?_
      refine aw_aload_n 75 dX4_laysSpeeds_74 rfl rfl ?_
      refine aw_get 78 ci4 31 (by decide) q2062 (Or.inl rfl) (rdl (mh_obj _ _)) rfl dX4_laysSpeeds_75 rfl ?_
      try (refine aw_st (show _ = iv (sgn1 d) :: _ from congrArg (fun x => iv x :: _) h31) ?_)
      refine aw_join ((if rs p (r_rp (rw_ σ) a) f ((i : Int) + 1) = p ∧ pc p (r_rp (rw_ σ) a) f (i + 1) ≤ e then p - 1 else rs p (r_rp (rw_ σ) a) f ((i : Int) + 1))) 107 ?_ (fun kz2 => ?_)
      · refine aw_imul 108 dX4_laysSpeeds_107 rfl ?_
        rw [← hS]
        refine aw_iast 109 (mh_35 hC _) (by omega) dX4_laysSpeeds_108 rfl (by decide) ?_
        refine aw_h (mhs_35 hC _ _) ?_
        refine aw_iinc 112 dX4_laysSpeeds_109 rfl rfl (as_5 rfl) (by decide) ?_
        refine aw_goto 23 dX4_laysSpeeds_112 rfl ?_
        rw [sR_sR]; exact ih _
      · try (refine aw_st (show _ = iv (sgn1 d) :: _ from congrArg (fun x => iv x :: _) h31) ?_)
        refine aw_iload 80 dX4_laysSpeeds_78 rfl rfl ?_
        refine aw_aload_n 81 dX4_laysSpeeds_80 rfl rfl ?_
        refine aw_get 84 ci4 27 (by decide) q2058 (Or.inl rfl) (rdl (mh_obj _ _)) rfl dX4_laysSpeeds_81 rfl ?_
        refine aw_st (show _ = iv p :: _ from congrArg (fun x => iv x :: _) h27) ?_
        refine aw_icmp_ne 105 87 (by omega) dX4_laysSpeeds_84 rfl rfl (fun c_84 => ?_) (fun c_84 => ?_)
        · refine aw_iload 107 dX4_laysSpeeds_105 rfl rfl ?_
          exact kz2 _ (by first | exact (if_pos ⟨by assumption, by assumption⟩).symm | exact (if_neg (fun z => by first | exact absurd z.1 (by assumption) | exact absurd z.2 (by omega))).symm)
        · refine aw_iload 89 dX4_laysSpeeds_87 rfl rfl ?_
          refine aw_aload_n 90 dX4_laysSpeeds_89 rfl rfl ?_
          refine aw_get 93 ci4 28 (by decide) q2059 (Or.inl rfl) (rdl (mh_obj _ _)) rfl dX4_laysSpeeds_90 rfl ?_
          refine aw_st (show _ = iv e :: _ from congrArg (fun x => iv x :: _) h28) ?_
          refine aw_icmp_gt 105 96 (by omega) dX4_laysSpeeds_93 rfl rfl (fun c_93 => ?_) (fun c_93 => ?_)
          · refine aw_iload 107 dX4_laysSpeeds_105 rfl rfl ?_
            exact kz2 _ (by first | exact (if_pos ⟨by assumption, by assumption⟩).symm | exact (if_neg (fun z => by first | exact absurd z.1 (by assumption) | exact absurd z.2 (by omega))).symm)
          · refine aw_aload_n 97 dX4_laysSpeeds_96 rfl rfl ?_
            refine aw_get 100 ci4 27 (by decide) q2058 (Or.inl rfl) (rdl (mh_obj _ _)) rfl dX4_laysSpeeds_97 rfl ?_
            refine aw_st (show _ = iv p :: _ from congrArg (fun x => iv x :: _) h27) ?_
            refine aw_iconst 101 dX4_laysSpeeds_100 rfl ?_
            refine aw_isub 102 dX4_laysSpeeds_101 rfl ?_
            refine aw_goto 107 dX4_laysSpeeds_102 rfl ?_
            exact kz2 _ (by first | exact (if_pos ⟨by assumption, by assumption⟩).symm | exact (if_neg (fun z => by first | exact absurd z.1 (by assumption) | exact absurd z.2 (by omega))).symm)
    · refine aw_iload 44 dX4_laysSpeeds_42 rfl rfl ?_
      refine aw_aload_n 45 dX4_laysSpeeds_44 rfl rfl ?_
      refine aw_get 48 ci4 27 (by decide) q2058 (Or.inl rfl) (rdl (mh_obj _ _)) rfl dX4_laysSpeeds_45 rfl ?_
      refine aw_st (show _ = iv p :: _ from congrArg (fun x => iv x :: _) h27) ?_
      refine aw_icmp_ne 55 51 (by omega) dX4_laysSpeeds_48 rfl rfl (fun c_48 => ?_) (fun c_48 => ?_)
      · refine aw_iconst 56 dX4_laysSpeeds_55 rfl ?_
        exact kz1 _ (by first | exact (if_pos (by assumption)).symm | exact (if_neg (by assumption)).symm)
      · refine aw_iconst 52 dX4_laysSpeeds_51 rfl ?_
        refine aw_goto 56 dX4_laysSpeeds_52 rfl ?_
        exact kz1 _ (by first | exact (if_pos (by assumption)).symm | exact (if_neg (by assumption)).symm)
theorem m_laysSpeeds {l : Launch} {g : AG} {C : MCx} (hC : MOK C) (σ : MSt) (a c b : Int) (hr : mR σ) (ha : isAx σ a) (hc : isCu σ c) (hm : canM σ a (σ.2 33 c.toNat) (r_ln (rw_ σ) c)) (hb : 0 ≤ b ∧ b ≤ 3000): AMx l g miX4_laysSpeeds 13 [.ref C.1, iv a, iv c, iv b] (mh C σ) (none) (mh C (k_laysSpeeds a c b σ)) := by
  refine aw_start 3 (by decide) rfl (Nat.le_of_ble_eq_true rfl) ?_
  show AWc l g miX4_laysSpeeds 13 0 0 _ _ 0 0 (mh C σ) 0 [some (.ref C.1), some (iv a), some (iv c), some (iv b), none, none, none] []
  have h20 := hr.nC
  have hc1 := hc.1
  have hc2 := hc.2
  refine aw_aload_n 1 dX4_laysSpeeds_0 rfl rfl ?_
  refine aw_iload_n 2 dX4_laysSpeeds_1 rfl rfl ?_
  refine aw_aload_n 3 dX4_laysSpeeds_2 rfl rfl ?_
  refine aw_get 6 ci4 33 (by decide) q2064 (Or.inl rfl) (rdl (mh_obj _ _)) rfl dX4_laysSpeeds_3 rfl ?_
  refine aw_iload_n 7 dX4_laysSpeeds_6 rfl rfl ?_
  refine aw_iald 8 (rdl (mh_33 hC _)) (by omega) dX4_laysSpeeds_7 rfl (by decide) ?_
  refine aw_aload_n 9 dX4_laysSpeeds_8 rfl rfl ?_
  refine aw_iload_n 10 dX4_laysSpeeds_9 rfl rfl ?_
  refine aw_iconst 11 dX4_laysSpeeds_10 rfl ?_
  refine aw_xV 14 (m_of1 hC _ _ hr.1 (by omega)) mvX4_of q2299 (rdl (mh_obj _ _)) rfl rfl rfl (by decide) (by decide) (Nat.le_refl _) (Nat.le_refl _) rfl (Nat.le_of_ble_eq_true rfl) dX4_laysSpeeds_11 rfl ?_
  refine aw_xVv 17 (m_looksAt hC σ _ _ _ hr ha hm.1 (by omega) hm.2.2) mvX4_looksAt q2341 (rdl (mh_obj _ _)) rfl rfl rfl (by decide) (by decide) (Nat.le_refl _) (Nat.le_refl _) rfl (Nat.le_of_ble_eq_true rfl) dX4_laysSpeeds_14 rfl ?_
  refine aw_iconst 18 dX4_laysSpeeds_17 rfl ?_
  refine aw_istore 20 dX4_laysSpeeds_18 rfl (as_4 rfl) (by decide) ?_
  refine aw_iconst 21 dX4_laysSpeeds_20 rfl ?_
  refine aw_istore 23 dX4_laysSpeeds_21 rfl (as_5 rfl) (by decide) ?_
  refine aw_h (congrArg (mh C) (sR_id (σ := k_looksAt a (σ.2 33 c.toNat) (r_ln (rw_ σ) c) σ) (k := 35) rfl).symm) ?_; exact l_laysSpeeds hC σ (k_looksAt a (σ.2 33 c.toNat) (r_ln (rw_ σ) c) σ) a c b (σ.2 33 c.toNat) (r_ln (rw_ σ) c) hr ha hc hm rfl hb rfl (r_ln (rw_ σ) c).toNat 0 _ (by omega)
