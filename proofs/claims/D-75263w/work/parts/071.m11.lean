/-! CameraMovesModel: load -/
set_option maxRecDepth 100000
/-- what reading leaves: all but the trial's row, the new names and numbers, the token -/
def RX (σ τ : MSt) : Prop := (∀ k, k ≠ 1 → k ≠ 23 → k ≠ 24 → k ≠ 26 → τ.2 k = σ.2 k) ∧ (∀ j : Nat, j < 186 ∨ 372 ≤ j → τ.2 1 j = σ.2 1 j) ∧ (∀ j, j < 16 ∨ (22 < j ∧ j ≠ 25) → τ.1 j = σ.1 j) ∧ NX σ τ
theorem RX.rf (σ : MSt) : RX σ σ := ⟨fun _ _ _ _ _ => rfl, fun _ _ => rfl, fun _ _ => rfl, NX.rf σ⟩
theorem RX.tr {a b c : MSt} (h1 : RX a b) (h2 : RX b c) : RX a c := ⟨fun k a1 a2 a3 a4 => (h2.1 k a1 a2 a3 a4).trans (h1.1 k a1 a2 a3 a4), fun j hj => (h2.2.1 j hj).trans (h1.2.1 j hj), fun j hj => (h2.2.2.1 j hj).trans (h1.2.2.1 j hj), h1.2.2.2.tr h2.2.2.2⟩
theorem TM.rx {a b : MSt} (h : TM a b) : RX a b := ⟨fun k _ _ _ _ => by rw [h.1], fun j _ => by rw [h.1], fun j hj => h.2.1 j (by omega), h.2.2⟩
theorem TG.rx {b : Int} (hb : bOk b) {σ τ : MSt} (h : TG b σ τ) : RX σ τ := ⟨fun k hk _ _ _ => h.2.1 k hk, fun j hj => h.1 j (by have := hb.1; have := hb.2; omega), fun j hj => h.2.2.1 j (by omega), h.2.2.2⟩
theorem RX.R1 (σ : MSt) (i : Nat) (v : Int) (hi : 186 ≤ i ∧ i < 372) : RX σ (sR σ 1 (va_up (σ.2 1) i v)) := by
  refine ⟨fun k h1 _ _ _ => ?_, fun j hj => ?_, fun j _ => rfl, NX.rf σ⟩
  · show (if k = 1 then _ else σ.2 k) = _
    rw [if_neg h1]
  · show va_up (σ.2 1) i v j = _
    rw [va_up_at, if_neg (by omega)]
theorem RX.R (σ : MSt) {i : Nat} (f : Nat → Int) (hi : i = 23 ∨ i = 24 ∨ i = 26) : RX σ (sR σ i f) := by
  refine ⟨fun k _ h2 h3 h4 => ?_, fun j _ => ?_, fun j _ => rfl, NX.rf σ⟩
  · show (if k = i then _ else σ.2 k) = _
    rw [if_neg (by omega)]
  · show (if 1 = i then f else σ.2 1) j = _
    rw [if_neg (by omega)]
theorem RX.F (σ : MSt) {i : Nat} (z : Int) (hi : i = 22 ∨ i = 25) : RX σ (sF σ i z) := by
  refine ⟨fun k _ _ _ _ => rfl, fun j _ => rfl, fun j hj => ?_, ?_, Or.inl ?_⟩
  · show (if j = i then _ else σ.1 j) = _
    rw [if_neg (by omega)]
  · show σ.1 16 ≤ (if 16 = i then _ else σ.1 16)
    rw [if_neg (by omega)]
    exact Int.le_refl _
  · show (if 18 = i then _ else σ.1 18) = _
    rw [if_neg (by omega)]
theorem k_readAxis_rx {σ : MSt} (hr : mRd σ) : RX σ (k_readAxis σ) := by
  obtain ⟨r1, r2, t2, hw⟩ := x_2_ok hr
  unfold k_readAxis
  split
  · next h2 =>
    obtain ⟨-, h4, h5⟩ := hw h2
    obtain ⟨-, -, -, -, -, e1, e2, -⟩ := x_e_ok r2 (by omega)
    have h0 := hr.2.2.1
    have t3 : RX σ (x_e (x_2 σ)).1 := t2.rx.tr ((RX.R _ _ (Or.inl rfl)).tr e2.rx)
    split
    · unfold x_w
      refine (t3.tr ((RX.R _ _ (Or.inr (Or.inl rfl))).tr ((RX.R _ _ (Or.inr (Or.inl rfl))).tr ((RX.R _ _ (Or.inr (Or.inl rfl))).tr ((RX.R1 _ _ _ (by omega)).tr (RX.R1 _ _ _ (by omega))))))).tr (RX.F _ _ (Or.inl rfl))
    · exact t3
  · exact t2.rx
theorem k_readCue_rx {σ : MSt} (hr : mRd σ) : RX σ (k_readCue σ) := by
  obtain ⟨r1, t1, h⟩ := c_4_ok hr
  unfold k_readCue
  split
  · next hw =>
    obtain ⟨-, -, -, t5, -⟩ := c_5_ok hr hw
    obtain ⟨-, q5, hb, p1, r2, -, s1, -⟩ := h hw
    have hb1 := hb.1
    have hb2 := hb.2
    have u1 : TM (c_1 σ) (c_p σ).1 := (k_readValue_ok r1 0 998).2.1
    have u2 : TM (c_2 σ) (c_q σ).1 := (k_readValue_ok r2 1 (999 - (c_2 σ).2 1 (c_b σ).toNat)).2.1
    exact (t1.rx.tr (u1.rx.tr ((RX.R1 _ _ _ (by omega)).tr (u2.rx.tr ((RX.R1 _ _ _ (by omega)).tr ((RX.R1 _ _ _ (by omega)).tr (t5.rx hb))))))).tr (RX.R1 _ _ _ (by decide))
  · exact t1.rx
theorem w_B_rx {σ : MSt} (hr : mRd σ) {b k : Int} (hb : bOw b) (hk : k = 0 ∨ k = 3) : RX σ (w_B b k σ) := by
  obtain ⟨r2, r3, p1, p3, r4, q1, q3, rB, -⟩ := w_B_ok hr hb hk
  have r0 := k_must_rd hr (bI (w_ok b k σ))
  have hb1 := hb.1
  have hb2 := hb.2
  have u1 : TM (w_3 b k σ) (w_p b k σ).1 := (k_readSigned_ok r3 (-9999) 9999).2.1
  have u2 : TM (w_4 b k σ) (w_q b k σ).1 := (k_readSigned_ok r4 ((w_4 b k σ).2 1 (b + k + 1).toNat) 9999).2.1
  exact ((k_must_tm _ σ).tr (k_goesOn_tm r0)).rx.tr ((RX.R1 _ _ _ (by omega)).tr (u1.rx.tr ((RX.R1 _ _ _ (by omega)).tr (u2.rx.tr (RX.R1 _ _ _ (by omega))))))
theorem k_readWall_rx {σ : MSt} (hr : mRd σ) : RX σ (k_readWall σ) := by
  obtain ⟨r1, t1, h⟩ := w_1_ok hr
  unfold k_readWall
  split
  · next hw =>
    obtain ⟨-, q5, hb⟩ := h hw
    obtain ⟨-, -, -, -, -, -, -, rB, -⟩ := w_B_ok r1 hb (Or.inl rfl)
    have u1 := w_B_rx r1 hb (Or.inl rfl)
    have u2 := w_B_rx rB hb (Or.inr rfl)
    have u : RX (w_1 σ) (w_5 (w_b σ) (w_1 σ)) := by
      unfold w_5
      split
      · exact u1.tr u2
      · exact u1
    exact (t1.rx.tr u).tr (RX.R1 _ _ _ (by decide))
  · exact t1.rx
theorem k_readPass_rx {σ : MSt} (hr : mRd σ) : RX σ (k_readPass σ) := by
  obtain ⟨-, -, -, r, t, -⟩ := p_c_ok hr
  unfold k_readPass
  split
  · unfold p_w
    exact (t.rx.tr ((RX.R _ _ (Or.inr (Or.inr rfl))).tr ((RX.R _ _ (Or.inr (Or.inr rfl))).tr (RX.R _ _ (Or.inr (Or.inr rfl)))))).tr (RX.F _ _ (Or.inr rfl))
  · exact t.rx
theorem k_st_rx {σ : MSt} (hr : mRd σ) : RX σ (k_st σ) := by
  unfold k_st
  split
  · exact k_readAxis_rx hr
  · split
    · exact k_readCue_rx hr
    · split
      · exact k_readWall_rx hr
      · split
        · exact k_readPass_rx hr
        · exact (k_must_tm _ _).rx
theorem k_readStatement_rx {σ : MSt} (hr : mRd σ) : RX σ (k_readStatement σ) ∧ (wl (k_readStatement σ) → σ.1 16 < (k_readStatement σ).1 16) := by
  have r1 := k_st_rd hr
  have t1 := k_st_rx hr
  have r2 := k_must_rd r1 (bI ((k_st σ).1 18 = 3))
  have t2 := k_must_tm (bI ((k_st σ).1 18 = 3)) (k_st σ)
  have t3 := k_goesOn_tm r2
  refine ⟨t1.tr (t2.rx.tr t3.rx), fun hw => ?_⟩
  have q2 : wl (k_must (bI ((k_st σ).1 18 = 3)) (k_st σ)) := (k_goesOn_w r2).symm.trans hw
  obtain ⟨q3, q4⟩ := (k_must_w r1 _).mp q2
  have q5 : (k_st σ).1 18 = 3 := by
    rcases Classical.em ((k_st σ).1 18 = 3) with z | z
    · exact z
    · exact absurd (bI_f z) q4
  have q6 : σ.1 18 = 1 := by
    rcases Classical.em (σ.1 18 = 1) with z | z
    · exact z
    · exfalso
      have e : k_st σ = k_must 0 σ := by
        unfold k_st
        rw [if_neg (fun y => z y.1), if_neg (fun y => z y.1), if_neg (fun y => z y.1), if_neg (fun y => z y.1)]
      rw [e] at q3
      exact ((k_must_w hr 0).mp q3).2 rfl
  have n1 := t1.2.2.2
  have n2 : NX (k_st σ) (k_readStatement σ) := t2.2.2.tr t3.2.2
  obtain ⟨a1, a2⟩ := n1
  obtain ⟨b1, -⟩ := n2
  rcases a2 with z | z | z <;> omega
noncomputable def k_lL : Nat → MSt → MSt
  | 0, σ => σ
  | f + 1, σ => if wl σ ∧ ¬ σ.1 18 = 0 then k_lL f (k_readStatement σ) else σ
theorem k_lL_ok : ∀ (f : Nat) (σ : MSt), mRd σ → mRd (k_lL f σ) ∧ RX σ (k_lL f σ) := by
  intro f
  induction f with
  | zero => intro σ hr; exact ⟨hr, RX.rf σ⟩
  | succ f ih =>
    intro σ hr
    simp only [k_lL]
    split
    · obtain ⟨a, b⟩ := ih _ (k_readStatement_rd hr)
      exact ⟨a, (k_readStatement_rx hr).1.tr b⟩
    · exact ⟨hr, RX.rf σ⟩
/-- n zeros from place d on -/
def zfR (f : Nat → Int) (d : Int) : Nat → (Nat → Int)
  | 0 => f
  | n + 1 => va_up (zfR f d n) (d + n).toNat 0
theorem zfR_at (f : Nat → Int) {d : Int} (hd : 0 ≤ d) : ∀ (n : Nat) (j : Nat), zfR f d n j = if d ≤ j ∧ (j : Int) < d + n then 0 else f j := by
  intro n
  induction n with
  | zero => intro j; rw [if_neg (by omega)]; rfl
  | succ n ih =>
    intro j
    show va_up (zfR f d n) (d + n).toNat 0 j = _
    rw [va_up_at, ih]
    by_cases hj : j = (d + n).toNat
    · rw [if_pos hj, if_pos (by omega)]
    · rw [if_neg hj]
      by_cases h2 : d ≤ j ∧ (j : Int) < d + n
      · rw [if_pos h2, if_pos (by omega)]
      · rw [if_neg h2, if_neg (by omega)]
def k_beginReading (σ : MSt) : MSt := sR (sF (sF σ 22 0) 25 0) 1 (zfR (σ.2 1) 186 186)
theorem l_begin {l : Launch} {g : AG} {C : MCx} (hC : MOK C) (σ : MSt) (f0 : Nat → Int) : ∀ (n i : Nat), i + n = 186 → AWc l g miX4_beginReading 10 0 0 (fun r2 h2 => r2 = none ∧ h2 = mh C (sR σ 1 (zfR f0 186 186))) (fun _ _ _ => False) 0 0 (mh C (sR σ 1 (zfR f0 186 i))) 12 [some (.ref C.1), some (iv (i : Int))] [] := by
  intro n
  induction n with
  | zero =>
    intro i hi
    have hi : i = 186 := by omega
    subst hi
    refine aw_iload_n 13 dX4_beginReading_12 rfl rfl ?_
    refine aw_sipush 16 dX4_beginReading_13 rfl (by decide) ?_
    refine aw_icmp_ge 36 19 (by omega) dX4_beginReading_16 rfl rfl (fun c_16 => ?_) (fun c_16 => absurd c_16 (by omega))
    exact aw_xv (rfl) rfl dX4_beginReading_36
  | succ n ih =>
    intro i hi
    refine aw_iload_n 13 dX4_beginReading_12 rfl rfl ?_
    refine aw_sipush 16 dX4_beginReading_13 rfl (by decide) ?_
    refine aw_icmp_ge 36 19 (by omega) dX4_beginReading_16 rfl rfl (fun c_16 => absurd c_16 (by omega)) (fun c_16 => ?_)
    refine aw_aload_n 20 dX4_beginReading_19 rfl rfl ?_
    refine aw_get 23 ci4 1 (by decide) q2032 (Or.inl rfl) (rdl (mh_obj _ _)) rfl dX4_beginReading_20 rfl ?_
    refine aw_sipush 26 dX4_beginReading_23 rfl (by decide) ?_
    refine aw_iload_n 27 dX4_beginReading_26 rfl rfl ?_
    refine aw_iadd 28 dX4_beginReading_27 rfl ?_
    refine aw_iconst 29 dX4_beginReading_28 rfl ?_
    refine aw_iast 30 (mh_1 hC _) (by omega) dX4_beginReading_29 rfl (by decide) ?_
    refine aw_h (mhs_1 hC _ _) ?_
    refine aw_iinc 33 dX4_beginReading_30 rfl rfl (as_1 rfl) (by decide) ?_
    refine aw_goto 12 dX4_beginReading_33 rfl ?_
    rw [sR_sR]; exact ih (i + 1) (by omega)
theorem m_beginReading {l : Launch} {g : AG} {C : MCx} (hC : MOK C) (σ : MSt)  : AMx l g miX4_beginReading 10 [.ref C.1] (mh C σ) (none) (mh C (k_beginReading σ)) := by
  refine aw_start 1 (by decide) rfl (Nat.le_of_ble_eq_true rfl) ?_
  show AWc l g miX4_beginReading 10 0 0 _ _ 0 0 (mh C σ) 0 [some (.ref C.1), none] []
  refine aw_aload_n 1 dX4_beginReading_0 rfl rfl ?_
  refine aw_iconst 2 dX4_beginReading_1 rfl ?_
  refine aw_put 5 ci4 22 (by decide) q2053 (Or.inl rfl) rfl rfl rfl (Nat.le_of_ble_eq_true rfl) (mh_obj _ _) dX4_beginReading_2 rfl ?_
  refine aw_h (mhp_22 _ _ _) ?_
  refine aw_aload_n 6 dX4_beginReading_5 rfl rfl ?_
  refine aw_iconst 7 dX4_beginReading_6 rfl ?_
  refine aw_put 10 ci4 25 (by decide) q2056 (Or.inl rfl) rfl rfl rfl (Nat.le_of_ble_eq_true rfl) (mh_obj _ _) dX4_beginReading_7 rfl ?_
  refine aw_h (mhp_25 _ _ _) ?_
  refine aw_iconst 11 dX4_beginReading_10 rfl ?_
  refine aw_istore_n 12 dX4_beginReading_11 rfl (as_1 rfl) (by decide) ?_
  exact aw_h (congrArg (mh C) (sR_id rfl).symm) (l_begin hC _ (σ.2 1) 186 0 rfl)
