/-! CameraMovesModel: positions and speeds of all frames -/
set_option maxRecDepth 100000
theorem sof_ab {f : Nat → Int} {B : Int} (h : ∀ k, -B ≤ f k ∧ f k ≤ B) : ∀ n : Nat, -(B * n) ≤ sof f n ∧ sof f n ≤ B * n := by
  intro n
  induction n with
  | zero => simp [sof]
  | succ n ih =>
    have := h n
    simp only [sof]
    rw [show B * ((n + 1 : Nat) : Int) = B * n + B by rw [Int.natCast_add, Int.mul_add]; simp]
    omega
theorem psL_at (φ : Nat → Int) : ∀ (n j : Nat), psL 0 φ n j = if j ≤ n then sof φ (j + 1) else φ j := by
  intro n
  induction n with
  | zero =>
    intro j
    show φ j = _
    split
    · rw [show j = 0 by omega]; simp [sof]
    · rfl
  | succ n ih =>
    intro j
    simp only [psL, va_up_at]
    rw [show (0 + ((n : Int) + 1)).toNat = n + 1 by omega, show (0 + (n : Int)).toNat = n by omega, ih, ih, ih, if_neg (show ¬ n + 1 ≤ n by omega), if_pos (Nat.le_refl n)]
    by_cases h : j = n + 1
    · subst h
      rw [if_pos rfl, if_pos (Nat.le_refl _)]
      show _ = sof φ (n + 1) + φ (n + 1)
      omega
    · rw [if_neg h]
      by_cases h2 : j ≤ n
      · rw [if_pos h2, if_pos (by omega)]
      · rw [if_neg h2, if_neg (by omega)]
theorem pos_at (σ : MSt) (a : Int) {j : Nat} (h : j ≤ 999) : pos σ a j = sof (lyL σ a (r_nC (rw_ σ)).toNat) (j + 1) := by
  unfold pos
  rw [psL_at, if_pos h]
theorem spL_at (s : Int → Int) {o : Int} (f : Nat → Int) (ho : 0 ≤ o) : ∀ (n j : Nat), spL s o f n j = if o < j ∧ (j : Int) ≤ o + n then s ((j : Int) - o) else f j := by
  intro n
  induction n with
  | zero => intro j; exact (if_neg (by omega)).symm
  | succ n ih =>
    intro j
    simp only [spL, va_up_at, ih]
    by_cases h : j = (o + ((n : Int) + 1)).toNat
    · rw [if_pos h, if_pos (by omega)]
      congr 1
      omega
    · rw [if_neg h]
      by_cases h2 : o < (j : Int) ∧ (j : Int) ≤ o + n
      · rw [if_pos h2, if_pos (by omega)]
      · rw [if_neg h2, if_neg (by omega)]
theorem lyL_rg {σ : MSt} (hr : mR σ) {a : Int} (ha : isAx σ a) : ∀ n : Nat, (n : Int) ≤ r_nC (rw_ σ) → (lyL σ a n 0 = σ.2 7 (3 * a + 2).toNat) ∧ ∀ j, 1 ≤ j → -99 ≤ lyL σ a n j ∧ lyL σ a n j ≤ 99 := by
  intro n
  induction n with
  | zero =>
    intro _
    refine ⟨rfl, fun j hj => ?_⟩
    show -99 ≤ (if j = 0 then _ else (0 : Int)) ∧ (if j = 0 then _ else (0 : Int)) ≤ 99
    rw [if_neg (by omega)]
    omega
  | succ n ih =>
    intro h
    obtain ⟨i1, i2⟩ := ih (by omega)
    have hcu := (hr.cue (c := (n : Int)) (by omega) (by omega)).1
    simp only [lyL]
    split
    · next hc =>
      refine ⟨?_, fun j hj => ?_⟩
      · rw [spL_at _ _ hcu.1, if_neg (by omega)]
        exact i1
      · rw [spL_at _ _ hcu.1]
        split
        · next hx => exact spM_rg hr ha (stt_can hr ha (c := n) (by omega) hc.2) (by omega)
        · exact i2 j hj
    · exact ⟨i1, i2⟩
theorem pos_rg {σ : MSt} (hr : mR σ) {a : Int} (ha : isAx σ a) {j : Nat} (h : j ≤ 999) : -9999000 ≤ pos σ a j ∧ pos σ a j ≤ 9999000 := by
  have h20 := hr.nC
  obtain ⟨h1, h2⟩ := lyL_rg hr ha (r_nC (rw_ σ)).toNat (by omega)
  have h3 := hr.2.2.2 (3 * a + 2).toNat
  have := sof_ab (f := lyL σ a (r_nC (rw_ σ)).toNat) (B := 9999) (fun k => by
    by_cases hk : k = 0
    · subst hk; rw [h1]; exact h3
    · have := h2 k (by omega); omega) (j + 1)
  rw [pos_at σ a h]
  omega
/-- the speed of an axis in a frame -/
def spA (σ : MSt) (a f : Int) : Int := if f = 0 then 0 else pos σ a f.toNat - pos σ a (f - 1).toNat
theorem spA_at (σ : MSt) (a : Int) {f : Int} (h0 : 1 ≤ f) (h1 : f ≤ 999) : spA σ a f = lyL σ a (r_nC (rw_ σ)).toNat f.toNat := by
  unfold spA
  rw [if_neg (by omega), pos_at σ a (by omega), pos_at σ a (by omega), show (f - 1).toNat + 1 = f.toNat by omega]
  show sof _ f.toNat + _ - _ = _
  omega
theorem spA_rg {σ : MSt} (hr : mR σ) {a : Int} (ha : isAx σ a) {f : Int} (h0 : 0 ≤ f) (h1 : f ≤ 999) : -99 ≤ spA σ a f ∧ spA σ a f ≤ 99 := by
  by_cases h : f = 0
  · unfold spA
    rw [if_pos h]
    omega
  · rw [spA_at σ a (by omega) h1]
    have h20 := hr.nC
    exact (lyL_rg hr ha (r_nC (rw_ σ)).toNat (by omega)).2 _ (by omega)
theorem SC.spa {σ τ : MSt} (h : SC σ τ) : spA τ = spA σ := by
  funext a f
  unfold spA
  rw [h.po]
/-- an axis is laid -/
def LA (σ τ : MSt) (a : Int) : Prop := SC σ τ ∧ ∀ f, 0 ≤ f → f < 1000 → τ.2 35 (1000 * a + f).toNat = pos σ a f.toNat
/-- all axes are laid -/
def LD (σ τ : MSt) : Prop := SC σ τ ∧ ∀ a, isAx σ a → LA σ τ a
theorem k_lays_la {σ : MSt} (hr : mR σ) {a : Int} (ha : isAx σ a) : LA σ (k_lays a σ) a := by
  obtain ⟨h1, h2⟩ := k_lays_ok hr ha
  have ha1 := ha.1
  refine ⟨h1, fun f h3 h4 => ?_⟩
  rw [h2, vaB_at _ _ (by omega) h3 h4]
def kLA (σ : MSt) : Nat → MSt
  | 0 => σ
  | n + 1 => k_lays n (kLA σ n)
def k_laysAll (σ : MSt) : MSt := kLA σ (σ.1 5).toNat
theorem kLA_ok {σ : MSt} (hr : mR σ) : ∀ n : Nat, (n : Int) ≤ σ.1 5 → SC σ (kLA σ n) ∧ ∀ a : Int, 0 ≤ a → a < n → LA σ (kLA σ n) a := by
  intro n
  induction n with
  | zero => intro _; exact ⟨SC.rf σ, fun a _ _ => by omega⟩
  | succ n ih =>
    intro h
    obtain ⟨i1, i2⟩ := ih (by omega)
    obtain ⟨h1, h2⟩ := k_lays_ok (i1.toR hr) (i1.ax (a := (n : Int)) ⟨by omega, by omega⟩)
    have h3 := i1.tr h1
    refine ⟨h3, fun a a0 a1 => ⟨h3, fun f f0 f1 => ?_⟩⟩
    show (k_lays n (kLA σ n)).2 35 _ = _
    rw [h2]
    by_cases e : a = n
    · subst e
      rw [vaB_at _ _ (by omega) f0 f1, i1.po]
    · rw [vaB_out _ _ (by omega)]
      exact (i2 a a0 (by omega)).2 f f0 f1
theorem k_laysAll_ok {σ : MSt} (hr : mR σ) : LD σ (k_laysAll σ) := by
  have h5 := hr.2.1
  obtain ⟨h1, h2⟩ := kLA_ok hr (σ.1 5).toNat (by omega)
  exact ⟨h1, fun a ha => h2 a ha.1 (by have := ha.2; omega)⟩
theorem l_laysAll {l : Launch} {g : AG} {C : MCx} (hC : MOK C) (σ : MSt) (hr : mR σ) (hT : mT σ) : ∀ (n i : Nat), (i : Int) + n = σ.1 5 → AWc l g miX4_laysAll 16 0 0 (fun r2 h2 => r2 = none ∧ h2 = mh C (k_laysAll σ)) (fun _ _ _ => False) 0 0 (mh C (kLA σ i)) 2 [some (.ref C.1), some (iv i)] [] := by
  have h5 := hr.2.1
  intro n
  induction n with
  | zero =>
    intro i hi
    have e : (σ.1 5).toNat = i := by omega
    have hk := (kLA_ok hr i (by omega)).1
    unfold k_laysAll
    rw [e]
    refine aw_iload_n 3 dX4_laysAll_2 rfl rfl ?_
    refine aw_aload_n 4 dX4_laysAll_3 rfl rfl ?_
    refine aw_get 7 ci4 5 (by decide) q2036 (Or.inl rfl) (rdl (mh_obj _ _)) rfl dX4_laysAll_4 rfl ?_
    refine aw_st (show _ = [iv (σ.1 5), iv (i : Int)] from congrArg (fun x => [iv x, iv (i : Int)]) (hk.1 5 (by decide))) ?_
    refine aw_icmp_ge 21 10 (by omega) dX4_laysAll_7 rfl rfl (fun c_7 => ?_) (fun c_7 => absurd c_7 (by omega))
    exact aw_xv (rfl) rfl dX4_laysAll_21
  | succ n ih =>
    intro i hi
    have ih := ih (i + 1) (by omega)
    have hk := (kLA_ok hr i (by omega)).1
    refine aw_iload_n 3 dX4_laysAll_2 rfl rfl ?_
    refine aw_aload_n 4 dX4_laysAll_3 rfl rfl ?_
    refine aw_get 7 ci4 5 (by decide) q2036 (Or.inl rfl) (rdl (mh_obj _ _)) rfl dX4_laysAll_4 rfl ?_
    refine aw_st (show _ = [iv (σ.1 5), iv (i : Int)] from congrArg (fun x => [iv x, iv (i : Int)]) (hk.1 5 (by decide))) ?_
    refine aw_icmp_ge 21 10 (by omega) dX4_laysAll_7 rfl rfl (fun c_7 => absurd c_7 (by omega)) (fun c_7 => ?_)
    refine aw_aload_n 11 dX4_laysAll_10 rfl rfl ?_
    refine aw_iload_n 12 dX4_laysAll_11 rfl rfl ?_
    refine aw_xVv 15 (m_lays hC (kLA σ i) _ (hk.toR hr) (hk.2.2 hT) (hk.ax ⟨by omega, by omega⟩)) mvX4_lays q2404 (rdl (mh_obj _ _)) rfl rfl rfl (by decide) (by decide) (Nat.le_refl _) (Nat.le_refl _) rfl (Nat.le_of_ble_eq_true rfl) dX4_laysAll_12 rfl ?_
    refine aw_iinc 18 dX4_laysAll_15 rfl rfl (as_1 rfl) (by decide) ?_
    refine aw_goto 2 dX4_laysAll_18 rfl ?_
    exact ih
theorem m_laysAll {l : Launch} {g : AG} {C : MCx} (hC : MOK C) (σ : MSt)  (hr : mR σ) (hT : mT σ): AMx l g miX4_laysAll 16 [.ref C.1] (mh C σ) (none) (mh C (k_laysAll σ)) := by
  refine aw_start 1 (by decide) rfl (Nat.le_of_ble_eq_true rfl) ?_
  show AWc l g miX4_laysAll 16 0 0 _ _ 0 0 (mh C σ) 0 [some (.ref C.1), none] []
  have h5 := hr.2.1
  refine aw_iconst 1 dX4_laysAll_0 rfl ?_
  refine aw_istore_n 2 dX4_laysAll_1 rfl (as_1 rfl) (by decide) ?_
  exact l_laysAll hC σ hr hT (σ.1 5).toNat 0 (by omega)
theorem m_placeAt {l : Launch} {g : AG} {C : MCx} (hC : MOK C) (σ : MSt) (a f : Int) (ha : 0 ≤ a ∧ a < 4) (hf : 0 ≤ f ∧ f < 1000): AMx l g miX4_placeAt 10 [.ref C.1, iv a, iv f] (mh C σ) (some (iv (σ.2 35 (1000 * a + f).toNat))) (mh C σ) := by
  refine aw_start 0 (by decide) rfl (Nat.le_of_ble_eq_true rfl) ?_
  show AWc l g miX4_placeAt 10 0 0 _ _ 0 0 (mh C σ) 0 [some (.ref C.1), some (iv a), some (iv f)] []
  refine aw_aload_n 1 dX4_placeAt_0 rfl rfl ?_
  refine aw_get 4 ci4 35 (by decide) q2066 (Or.inl rfl) (rdl (mh_obj _ _)) rfl dX4_placeAt_1 rfl ?_
  refine aw_sipush 7 dX4_placeAt_4 rfl (by decide) ?_
  refine aw_iload_n 8 dX4_placeAt_7 rfl rfl ?_
  refine aw_imul 9 dX4_placeAt_8 rfl ?_
  refine aw_iload_n 10 dX4_placeAt_9 rfl rfl ?_
  refine aw_iadd 11 dX4_placeAt_10 rfl ?_
  refine aw_iald 12 (rdl (mh_35 hC _)) (by omega) dX4_placeAt_11 rfl (by decide) ?_
  exact aw_xi (by rfl) (rfl) rfl dX4_placeAt_12
theorem m_placeL {l : Launch} {g : AG} {C : MCx} (hC : MOK C) {σ : MSt} (τ : MSt) (a f : Int) (hl : LA σ τ a) (ha : 0 ≤ a ∧ a < 4) (hf : 0 ≤ f ∧ f < 1000) : AMx l g miX4_placeAt 10 [.ref C.1, iv a, iv f] (mh C τ) (some (iv (pos σ a f.toNat))) (mh C τ) := by
  have h := m_placeAt (l := l) (g := g) hC τ a f ha hf
  rw [hl.2 f hf.1 hf.2] at h
  exact h
theorem m_speedAt {l : Launch} {g : AG} {C : MCx} (hC : MOK C) {σ : MSt} (τ : MSt) (a f : Int) (hl : LA σ τ a) (ha : 0 ≤ a ∧ a < 4) (hf : 0 ≤ f ∧ f < 1000) : AMx l g miX4_speedAt 11 [.ref C.1, iv a, iv f] (mh C τ) (some (iv (spA σ a f))) (mh C τ) := by
  refine aw_start 0 (by decide) rfl (Nat.le_of_ble_eq_true rfl) ?_
  show AWc l g miX4_speedAt 11 0 0 _ _ 0 0 (mh C τ) 0 [some (.ref C.1), some (iv a), some (iv f)] []
  refine aw_iload_n 1 dX4_speedAt_0 rfl rfl ?_
  refine aw_if_ne 8 4 (by omega) dX4_speedAt_1 rfl rfl (fun c_1 => ?_) (fun c_1 => ?_)
  · refine aw_aload_n 9 dX4_speedAt_8 rfl rfl ?_
    refine aw_iload_n 10 dX4_speedAt_9 rfl rfl ?_
    refine aw_iload_n 11 dX4_speedAt_10 rfl rfl ?_
    refine aw_xV 14 (m_placeL hC τ a f hl ha hf) mvX4_placeAt q2412 (rdl (mh_obj _ _)) rfl rfl rfl (by decide) (by decide) (Nat.le_refl _) (Nat.le_refl _) rfl (Nat.le_of_ble_eq_true rfl) dX4_speedAt_11 rfl ?_
    refine aw_aload_n 15 dX4_speedAt_14 rfl rfl ?_
    refine aw_iload_n 16 dX4_speedAt_15 rfl rfl ?_
    refine aw_iload_n 17 dX4_speedAt_16 rfl rfl ?_
    refine aw_iconst 18 dX4_speedAt_17 rfl ?_
    refine aw_isub 19 dX4_speedAt_18 rfl ?_
    refine aw_xV 22 (m_placeL hC τ a (f - 1) hl ha (by omega)) mvX4_placeAt q2412 (rdl (mh_obj _ _)) rfl rfl rfl (by decide) (by decide) (Nat.le_refl _) (Nat.le_refl _) rfl (Nat.le_of_ble_eq_true rfl) dX4_speedAt_19 rfl ?_
    refine aw_isub 23 dX4_speedAt_22 rfl ?_
    exact aw_xi (by unfold spA; first | (rw [if_pos (by assumption)]) | (rw [if_neg (by assumption)])) (rfl) rfl dX4_speedAt_23
  · refine aw_iconst 5 dX4_speedAt_4 rfl ?_
    refine aw_goto 23 dX4_speedAt_5 rfl ?_
    exact aw_xi (by unfold spA; first | (rw [if_pos (by assumption)]) | (rw [if_neg (by assumption)])) (rfl) rfl dX4_speedAt_23
/-- what isLaid leaves in thrown -/
def o_laid (a f : Int) (σ : MSt) : Int := if isAx σ a ∧ isFr f then 0 else 1
def k_laid (a f : Int) (σ : MSt) : MSt := if o_laid a f σ = 0 then k_lays a (sF σ 0 0) else sF σ 0 1
theorem k_laid_0 {σ : MSt} (hr : mR σ) {a f : Int} : (k_laid a f σ).1 0 = o_laid a f σ := by
  unfold k_laid
  split
  · next h =>
    have ha2 : isAx σ a ∧ isFr f := Decidable.byContradiction (fun z => by have : o_laid a f σ = 1 := if_neg z; omega)
    rw [h]
    exact (k_lays_ok (σ := sF σ 0 0) hr ha2.1).1.1 0 (by decide)
  · next h =>
    show 1 = o_laid a f σ
    unfold o_laid at *
    split
    · next h2 => exact absurd (if_pos h2) h
    · rfl
theorem m_isLaid {l : Launch} {g : AG} {C : MCx} (hC : MOK C) (σ : MSt) (a f : Int) (hr : mR σ) (hT : mT σ) (ha : Rg a) (hf : Rg f): AMx l g miX4_isLaid 16 [.ref C.1, iv a, iv f] (mh C σ) (some (iv (bI (o_laid a f σ = 0)))) (mh C (k_laid a f σ)) := by
  refine aw_start 0 (by decide) rfl (Nat.le_of_ble_eq_true rfl) ?_
  show AWc l g miX4_isLaid 16 0 0 _ _ 0 0 (mh C σ) 0 [some (.ref C.1), some (iv a), some (iv f)] []
  have h5 := hr.2.1
  have ho : 0 ≤ o_laid a f σ ∧ o_laid a f σ ≤ 1 := by unfold o_laid; split <;> omega
  refine aw_aload_n 1 dX4_isLaid_0 rfl rfl ?_
  refine aw_join (o_laid a f σ) 21 ?_ (fun kz1 => ?_)
  · refine aw_put 24 ci4 0 (by decide) q2031 (Or.inl rfl) rfl rfl rfl (Nat.le_of_ble_eq_true rfl) (mh_obj _ _) dX4_isLaid_21 rfl ?_
    refine aw_h (mhp_0 _ _ _) ?_
    refine aw_aload_n 25 dX4_isLaid_24 rfl rfl ?_
    refine aw_get 28 ci4 0 (by decide) q2031 (Or.inl rfl) (rdl (mh_obj _ _)) rfl dX4_isLaid_25 rfl ?_
    refine aw_st (show _ = [iv (o_laid a f σ)] from rfl) ?_
    refine aw_if_ne 36 31 (by omega) dX4_isLaid_28 rfl rfl (fun c_28 => ?_) (fun c_28 => ?_)
    · refine aw_h (show _ = mh C (k_laid a f σ) from by unfold k_laid; rw [if_neg (by assumption)]; rw [show o_laid a f σ = 1 by omega]) ?_
      refine aw_aload_n 37 dX4_isLaid_36 rfl rfl ?_
      refine aw_get 40 ci4 0 (by decide) q2031 (Or.inl rfl) (rdl (mh_obj _ _)) rfl dX4_isLaid_37 rfl ?_
      refine aw_st (show _ = [iv (o_laid a f σ)] from congrArg (fun x => [iv x]) (k_laid_0 hr)) ?_
      refine aw_if_ne 47 43 (by omega) dX4_isLaid_40 rfl rfl (fun c_40 => ?_) (fun c_40 => ?_)
      · refine aw_iconst 48 dX4_isLaid_47 rfl ?_
        exact aw_xz0 (by omega) (rfl) rfl dX4_isLaid_48
      · refine aw_iconst 44 dX4_isLaid_43 rfl ?_
        refine aw_goto 48 dX4_isLaid_44 rfl ?_
        exact aw_xz1 (by omega) (rfl) rfl dX4_isLaid_48
    · have ha2 : isAx σ a ∧ isFr f := Decidable.byContradiction (fun z => by have : o_laid a f σ = 1 := if_neg z; omega)
      refine aw_aload_n 32 dX4_isLaid_31 rfl rfl ?_
      refine aw_iload_n 33 dX4_isLaid_32 rfl rfl ?_
      refine aw_xVv 36 (m_lays hC _ _ hr hT ha2.1) mvX4_lays q2404 (rdl (mh_obj _ _)) rfl rfl rfl (by decide) (by decide) (Nat.le_refl _) (Nat.le_refl _) rfl (Nat.le_of_ble_eq_true rfl) dX4_isLaid_33 rfl ?_
      refine aw_h (show _ = mh C (k_laid a f σ) from by unfold k_laid; rw [if_pos (by assumption)]; rw [show o_laid a f σ = 0 by assumption]) ?_
      refine aw_aload_n 37 dX4_isLaid_36 rfl rfl ?_
      refine aw_get 40 ci4 0 (by decide) q2031 (Or.inl rfl) (rdl (mh_obj _ _)) rfl dX4_isLaid_37 rfl ?_
      refine aw_st (show _ = [iv (o_laid a f σ)] from congrArg (fun x => [iv x]) (k_laid_0 hr)) ?_
      refine aw_if_ne 47 43 (by omega) dX4_isLaid_40 rfl rfl (fun c_40 => ?_) (fun c_40 => ?_)
      · refine aw_iconst 48 dX4_isLaid_47 rfl ?_
        exact aw_xz0 (by omega) (rfl) rfl dX4_isLaid_48
      · refine aw_iconst 44 dX4_isLaid_43 rfl ?_
        refine aw_goto 48 dX4_isLaid_44 rfl ?_
        exact aw_xz1 (by omega) (rfl) rfl dX4_isLaid_48
  · refine aw_aload_n 2 dX4_isLaid_1 rfl rfl ?_
    refine aw_iload_n 3 dX4_isLaid_2 rfl rfl ?_
    refine aw_xV 6 (m_isAxis hC _ _ (by omega) (by omega)) mvX4_isAxis q2279 (rdl (mh_obj _ _)) rfl rfl rfl (by decide) (by decide) (Nat.le_refl _) (Nat.le_refl _) rfl (Nat.le_of_ble_eq_true rfl) dX4_isLaid_3 rfl ?_
    refine aw_if_eqB 20 9 dX4_isLaid_6 rfl rfl (fun c_6 => ?_) (fun c_6 => ?_)
    · refine aw_iconst 21 dX4_isLaid_20 rfl ?_
      exact kz1 _ (by unfold o_laid; first | exact (if_pos ⟨by assumption, by assumption⟩).symm | exact (if_neg (fun z => by first | exact absurd z.1 (by assumption) | exact absurd z.2 (by assumption))).symm)
    · refine aw_iload_n 10 dX4_isLaid_9 rfl rfl ?_
      refine aw_xS 13 (m_isFrame _ (by omega)) msX4_isFrame q2401 rfl (by decide) (by decide) (Nat.le_refl _) (Nat.le_refl _) rfl (Nat.le_of_ble_eq_true rfl) dX4_isLaid_10 rfl ?_
      refine aw_if_eqB 20 16 dX4_isLaid_13 rfl rfl (fun c_13 => ?_) (fun c_13 => ?_)
      · refine aw_iconst 21 dX4_isLaid_20 rfl ?_
        exact kz1 _ (by unfold o_laid; first | exact (if_pos ⟨by assumption, by assumption⟩).symm | exact (if_neg (fun z => by first | exact absurd z.1 (by assumption) | exact absurd z.2 (by assumption))).symm)
      · refine aw_iconst 17 dX4_isLaid_16 rfl ?_
        refine aw_goto 21 dX4_isLaid_17 rfl ?_
        exact kz1 _ (by unfold o_laid; first | exact (if_pos ⟨by assumption, by assumption⟩).symm | exact (if_neg (fun z => by first | exact absurd z.1 (by assumption) | exact absurd z.2 (by assumption))).symm)
theorem o_laid_0 {a f : Int} {σ : MSt} (h : o_laid a f σ = 0) : isAx σ a ∧ isFr f := Decidable.byContradiction (fun z => by have : o_laid a f σ = 1 := if_neg z; omega)
theorem k_laid_sc {σ : MSt} (hr : mR σ) {a f : Int} : SC (sF σ 0 (o_laid a f σ)) (k_laid a f σ) := by
  unfold k_laid
  split
  · next h =>
    rw [h]
    exact (k_lays_ok (σ := sF σ 0 0) hr (o_laid_0 h).1).1
  · next h =>
    have : o_laid a f σ = 1 := by
      unfold o_laid at *
      split at h
      · exact absurd rfl h
      · next z => exact if_neg z
    rw [this]
    exact SC.rf _
theorem stt_cg {σ τ : MSt} (h1 : rw_ τ = rw_ σ) (h2 : τ.2 7 = σ.2 7) : stt τ = stt σ := by
  unfold stt
  rw [h1, h2]
theorem dtt_cg {σ τ : MSt} (h1 : rw_ τ = rw_ σ) (h2 : τ.2 7 = σ.2 7) : dtt τ = dtt σ := by
  unfold dtt
  rw [h1, h2]
theorem lyL_cg {σ τ : MSt} (h1 : rw_ τ = rw_ σ) (h2 : τ.2 7 = σ.2 7) (a : Int) : ∀ n, lyL τ a n = lyL σ a n := by
  intro n
  induction n with
  | zero => unfold lyL; rw [h2]
  | succ n ih =>
    simp only [lyL, spC]
    rw [ih, h1, dtt_cg h1 h2, stt_cg h1 h2]
theorem pos_cg {σ τ : MSt} (h1 : rw_ τ = rw_ σ) (h2 : τ.2 7 = σ.2 7) : pos τ = pos σ := by
  funext a
  unfold pos
  rw [h1, lyL_cg h1 h2]
theorem spA_cg {σ τ : MSt} (h1 : rw_ τ = rw_ σ) (h2 : τ.2 7 = σ.2 7) : spA τ = spA σ := by
  funext a f
  unfold spA
  rw [pos_cg h1 h2]
theorem pos_F (σ : MSt) (z : Int) : pos (sF σ 0 z) = pos σ := pos_cg rfl rfl
theorem spA_F (σ : MSt) (z : Int) : spA (sF σ 0 z) = spA σ := spA_cg rfl rfl
theorem k_laid_la {σ : MSt} (hr : mR σ) {a f : Int} (h : o_laid a f σ = 0) : LA (sF σ 0 0) (k_laid a f σ) a := by
  unfold k_laid
  rw [if_pos h]
  exact k_lays_la (σ := sF σ 0 0) hr (a := a) (o_laid_0 h).1
def o_position (a f : Int) (σ : MSt) : Int × Int := (o_laid a f σ, if o_laid a f σ = 0 then pos σ a f.toNat else 0)
def o_speed (a f : Int) (σ : MSt) : Int × Int := (o_laid a f σ, if o_laid a f σ = 0 then spA σ a f else 0)
theorem m_position {l : Launch} {g : AG} {C : MCx} (hC : MOK C) (σ : MSt) (a f : Int) (hr : mR σ) (hT : mT σ) (ha : Rg a) (hf : Rg f): AMx l g miX4_position 17 [.ref C.1, iv a, iv f] (mh C σ) (some (iv (o_position a f σ).2)) (mh C (k_laid a f σ)) := by
  refine aw_start 0 (by decide) rfl (Nat.le_of_ble_eq_true rfl) ?_
  show AWc l g miX4_position 17 0 0 _ _ 0 0 (mh C σ) 0 [some (.ref C.1), some (iv a), some (iv f)] []
  have h5 := hr.2.1
  refine aw_aload_n 1 dX4_position_0 rfl rfl ?_
  refine aw_iload_n 2 dX4_position_1 rfl rfl ?_
  refine aw_iload_n 3 dX4_position_2 rfl rfl ?_
  refine aw_xV 6 (m_isLaid hC _ _ _ hr hT (by omega) (by omega)) mvX4_isLaid q2397 (rdl (mh_obj _ _)) rfl rfl rfl (by decide) (by decide) (Nat.le_refl _) (Nat.le_refl _) rfl (Nat.le_of_ble_eq_true rfl) dX4_position_3 rfl ?_
  refine aw_if_eqB 18 9 dX4_position_6 rfl rfl (fun c_6 => ?_) (fun c_6 => ?_)
  · refine aw_iconst 19 dX4_position_18 rfl ?_
    exact aw_xi (by show _ = (if o_laid a f σ = 0 then _ else _); first | exact (if_pos (by assumption)).symm | exact (if_neg (by assumption)).symm) (rfl) rfl dX4_position_19
  · obtain ⟨q1, q2⟩ := o_laid_0 (a := a) (f := f) (σ := σ) (by assumption)
    refine aw_aload_n 10 dX4_position_9 rfl rfl ?_
    refine aw_iload_n 11 dX4_position_10 rfl rfl ?_
    refine aw_iload_n 12 dX4_position_11 rfl rfl ?_
    refine aw_xV 15 (m_placeL hC _ a f (k_laid_la hr (by assumption)) (by omega) (by omega)) mvX4_placeAt q2412 (rdl (mh_obj _ _)) rfl rfl rfl (by decide) (by decide) (Nat.le_refl _) (Nat.le_refl _) rfl (Nat.le_of_ble_eq_true rfl) dX4_position_12 rfl ?_
    rw [pos_F]
    refine aw_goto 19 dX4_position_15 rfl ?_
    exact aw_xi (by show _ = (if o_laid a f σ = 0 then _ else _); first | exact (if_pos (by assumption)).symm | exact (if_neg (by assumption)).symm) (rfl) rfl dX4_position_19
theorem m_speed {l : Launch} {g : AG} {C : MCx} (hC : MOK C) (σ : MSt) (a f : Int) (hr : mR σ) (hT : mT σ) (ha : Rg a) (hf : Rg f): AMx l g miX4_speed 17 [.ref C.1, iv a, iv f] (mh C σ) (some (iv (o_speed a f σ).2)) (mh C (k_laid a f σ)) := by
  refine aw_start 0 (by decide) rfl (Nat.le_of_ble_eq_true rfl) ?_
  show AWc l g miX4_speed 17 0 0 _ _ 0 0 (mh C σ) 0 [some (.ref C.1), some (iv a), some (iv f)] []
  have h5 := hr.2.1
  refine aw_aload_n 1 dX4_speed_0 rfl rfl ?_
  refine aw_iload_n 2 dX4_speed_1 rfl rfl ?_
  refine aw_iload_n 3 dX4_speed_2 rfl rfl ?_
  refine aw_xV 6 (m_isLaid hC _ _ _ hr hT (by omega) (by omega)) mvX4_isLaid q2397 (rdl (mh_obj _ _)) rfl rfl rfl (by decide) (by decide) (Nat.le_refl _) (Nat.le_refl _) rfl (Nat.le_of_ble_eq_true rfl) dX4_speed_3 rfl ?_
  refine aw_if_eqB 18 9 dX4_speed_6 rfl rfl (fun c_6 => ?_) (fun c_6 => ?_)
  · refine aw_iconst 19 dX4_speed_18 rfl ?_
    exact aw_xi (by show _ = (if o_laid a f σ = 0 then _ else _); first | exact (if_pos (by assumption)).symm | exact (if_neg (by assumption)).symm) (rfl) rfl dX4_speed_19
  · obtain ⟨q1, q2⟩ := o_laid_0 (a := a) (f := f) (σ := σ) (by assumption)
    refine aw_aload_n 10 dX4_speed_9 rfl rfl ?_
    refine aw_iload_n 11 dX4_speed_10 rfl rfl ?_
    refine aw_iload_n 12 dX4_speed_11 rfl rfl ?_
    refine aw_xV 15 (m_speedAt hC _ a f (k_laid_la hr (by assumption)) (by omega) (by omega)) mvX4_speedAt q2420 (rdl (mh_obj _ _)) rfl rfl rfl (by decide) (by decide) (Nat.le_refl _) (Nat.le_refl _) rfl (Nat.le_of_ble_eq_true rfl) dX4_speed_12 rfl ?_
    rw [spA_F]
    refine aw_goto 19 dX4_speed_15 rfl ?_
    exact aw_xi (by show _ = (if o_laid a f σ = 0 then _ else _); first | exact (if_pos (by assumption)).symm | exact (if_neg (by assumption)).symm) (rfl) rfl dX4_speed_19
