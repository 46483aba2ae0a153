/-! CameraMovesModel: edits -/
set_option maxRecDepth 100000
/-- how many edits there are, and where the first lies -/
def mE (σ : MSt) : Prop := (0 ≤ σ.1 3 ∧ σ.1 3 ≤ 10) ∧ 0 ≤ σ.1 4 ∧ σ.1 4 ≤ 9
def slotN (σ : MSt) (k : Int) : Int := 2 + (σ.1 4 + k) % 10
theorem m_slot {l : Launch} {g : AG} {C : MCx} (hC : MOK C) (σ : MSt) (k : Int) (hE : mE σ) (hk : 0 ≤ k ∧ k ≤ 10): AMx l g miX4_slot 10 [.ref C.1, iv k] (mh C σ) (some (iv (slotN σ k))) (mh C σ) := by
  refine aw_start 0 (by decide) rfl (Nat.le_of_ble_eq_true rfl) ?_
  show AWc l g miX4_slot 10 0 0 _ _ 0 0 (mh C σ) 0 [some (.ref C.1), some (iv k)] []
  obtain ⟨h1, h2, h3⟩ := hE
  refine aw_iconst 1 dX4_slot_0 rfl ?_
  refine aw_aload_n 2 dX4_slot_1 rfl rfl ?_
  refine aw_get 5 ci4 4 (by decide) q2035 (Or.inl rfl) (rdl (mh_obj _ _)) rfl dX4_slot_2 rfl ?_
  refine aw_iload_n 6 dX4_slot_5 rfl rfl ?_
  refine aw_iadd 7 dX4_slot_6 rfl ?_
  refine aw_bipush 9 dX4_slot_7 rfl (by decide) ?_
  refine aw_iremP 10 (by omega) dX4_slot_9 rfl ?_
  refine aw_iadd 11 dX4_slot_10 rfl ?_
  exact aw_xi (by rfl) (rfl) rfl dX4_slot_11
/-- the oldest edit is let go when there are ten -/
def k_room (σ : MSt) : MSt := if σ.1 3 = 10 then sF (sF σ 4 ((σ.1 4 + 1) % 10)) 3 (σ.1 3 - 1) else σ
def k_keep (σ : MSt) : MSt := sF (k_copyRow 0 (slotN (k_room σ) ((k_room σ).1 3)) (k_room σ)) 3 ((k_room σ).1 3 + 1)
theorem k_room_ok {σ : MSt} (hE : mE σ) : mE (k_room σ) ∧ (k_room σ).1 3 ≤ 9 ∧ (k_room σ).2 = σ.2 ∧ ∀ j, j ≠ 3 → j ≠ 4 → (k_room σ).1 j = σ.1 j := by
  obtain ⟨h1, h2, h3⟩ := id hE
  unfold k_room
  split
  · next h =>
    refine ⟨⟨?_, ?_⟩, ?_, rfl, fun j a b => ?_⟩
    · show 0 ≤ σ.1 3 - 1 ∧ σ.1 3 - 1 ≤ 10
      omega
    · show 0 ≤ (σ.1 4 + 1) % 10 ∧ (σ.1 4 + 1) % 10 ≤ 9
      omega
    · show σ.1 3 - 1 ≤ 9
      omega
    · show (if j = 3 then _ else if j = 4 then _ else σ.1 j) = _
      rw [if_neg a, if_neg b]
  · next h => exact ⟨hE, by omega, rfl, fun _ _ _ => rfl⟩
theorem m_keep {l : Launch} {g : AG} {C : MCx} (hC : MOK C) (σ : MSt)  (hE : mE σ): AMx l g miX4_keep 11 [.ref C.1] (mh C σ) (none) (mh C (k_keep σ)) := by
  refine aw_start 0 (by decide) rfl (Nat.le_of_ble_eq_true rfl) ?_
  show AWc l g miX4_keep 11 0 0 _ _ 0 0 (mh C σ) 0 [some (.ref C.1)] []
  obtain ⟨h1, h2, h3⟩ := id hE
  have hk := k_room_ok hE
  obtain ⟨k1, k2, k3⟩ := id hk.1
  refine aw_joinH (mh C (k_room σ)) 32 ?_ (fun kz1 => ?_)
  · refine aw_aload_n 33 dX4_keep_32 rfl rfl ?_
    refine aw_iconst 34 dX4_keep_33 rfl ?_
    refine aw_aload_n 35 dX4_keep_34 rfl rfl ?_
    refine aw_aload_n 36 dX4_keep_35 rfl rfl ?_
    refine aw_get 39 ci4 3 (by decide) q2034 (Or.inl rfl) (rdl (mh_obj _ _)) rfl dX4_keep_36 rfl ?_
    refine aw_xV 42 (m_slot hC (k_room σ) _ hk.1 (by omega)) mvX4_slot q2575 (rdl (mh_obj _ _)) rfl rfl rfl (by decide) (by decide) (Nat.le_refl _) (Nat.le_refl _) rfl (Nat.le_of_ble_eq_true rfl) dX4_keep_39 rfl ?_
    have hs : 2 ≤ slotN (k_room σ) ((k_room σ).1 3) ∧ slotN (k_room σ) ((k_room σ).1 3) < 12 := by unfold slotN; omega
    refine aw_xVv 45 (m_copyRow hC (k_room σ) 0 _ (by decide) (by omega)) mvX4_copyRow q2027 (rdl (mh_obj _ _)) rfl rfl rfl (by decide) (by decide) (Nat.le_refl _) (Nat.le_refl _) rfl (Nat.le_of_ble_eq_true rfl) dX4_keep_42 rfl ?_
    refine aw_aload_n 46 dX4_keep_45 rfl rfl ?_
    refine aw_dup 47 dX4_keep_46 rfl rfl ?_
    refine aw_get 50 ci4 3 (by decide) q2034 (Or.inl rfl) (rdl (mh_obj _ _)) rfl dX4_keep_47 rfl ?_
    refine aw_iconst 51 dX4_keep_50 rfl ?_
    refine aw_iadd 52 dX4_keep_51 rfl ?_
    refine aw_put 55 ci4 3 (by decide) q2034 (Or.inl rfl) rfl rfl rfl (Nat.le_of_ble_eq_true rfl) (mh_obj _ _) dX4_keep_52 rfl ?_
    refine aw_h (mhp_3 _ _ _) ?_
    exact aw_xv (rfl) rfl dX4_keep_55
  · refine aw_aload_n 1 dX4_keep_0 rfl rfl ?_
    refine aw_get 4 ci4 3 (by decide) q2034 (Or.inl rfl) (rdl (mh_obj _ _)) rfl dX4_keep_1 rfl ?_
    refine aw_bipush 6 dX4_keep_4 rfl (by decide) ?_
    refine aw_icmp_ne 32 9 (by omega) dX4_keep_6 rfl rfl (fun c_6 => ?_) (fun c_6 => ?_)
    · exact kz1 _ (by unfold k_room; first | (rw [if_pos (by assumption)]; rfl) | (rw [if_neg (by assumption)]))
    · refine aw_aload_n 10 dX4_keep_9 rfl rfl ?_
      refine aw_aload_n 11 dX4_keep_10 rfl rfl ?_
      refine aw_get 14 ci4 4 (by decide) q2035 (Or.inl rfl) (rdl (mh_obj _ _)) rfl dX4_keep_11 rfl ?_
      refine aw_iconst 15 dX4_keep_14 rfl ?_
      refine aw_iadd 16 dX4_keep_15 rfl ?_
      refine aw_bipush 18 dX4_keep_16 rfl (by decide) ?_
      refine aw_iremP 19 (by omega) dX4_keep_18 rfl ?_
      refine aw_put 22 ci4 4 (by decide) q2035 (Or.inl rfl) rfl rfl rfl (Nat.le_of_ble_eq_true rfl) (mh_obj _ _) dX4_keep_19 rfl ?_
      refine aw_h (mhp_4 _ _ _) ?_
      refine aw_aload_n 23 dX4_keep_22 rfl rfl ?_
      refine aw_dup 24 dX4_keep_23 rfl rfl ?_
      refine aw_get 27 ci4 3 (by decide) q2034 (Or.inl rfl) (rdl (mh_obj _ _)) rfl dX4_keep_24 rfl ?_
      refine aw_iconst 28 dX4_keep_27 rfl ?_
      refine aw_isub 29 dX4_keep_28 rfl ?_
      refine aw_put 32 ci4 3 (by decide) q2034 (Or.inl rfl) rfl rfl rfl (Nat.le_of_ble_eq_true rfl) (mh_obj _ _) dX4_keep_29 rfl ?_
      refine aw_h (mhp_3 _ _ _) ?_
      exact kz1 _ (by unfold k_room; first | (rw [if_pos (by assumption)]; rfl) | (rw [if_neg (by assumption)]))
theorem k_keep_ok {σ : MSt} (hE : mE σ) : mE (k_keep σ) ∧ (∀ j, j ≠ 3 → j ≠ 4 → (k_keep σ).1 j = σ.1 j) ∧ (∀ k, k ≠ 1 → (k_keep σ).2 k = σ.2 k) ∧ ∀ j : Nat, j < 372 → (k_keep σ).2 1 j = σ.2 1 j := by
  obtain ⟨⟨⟨a1, a2⟩, a3, a4⟩, h2, h3, h4⟩ := k_room_ok hE
  have hs : 2 ≤ slotN (k_room σ) ((k_room σ).1 3) ∧ slotN (k_room σ) ((k_room σ).1 3) < 12 := by unfold slotN; omega
  refine ⟨⟨?_, a3, a4⟩, fun j h5 h6 => ?_, fun k hk => ?_, fun j hj => ?_⟩
  · show 0 ≤ (k_room σ).1 3 + 1 ∧ (k_room σ).1 3 + 1 ≤ 10
    omega
  · exact (if_neg h5).trans (h4 j h5 h6)
  · show va_up (k_room σ).2 1 _ k = _
    rw [va_up_at, if_neg hk, h3]
  · show cpR ((k_room σ).2 1) (186 * 0) (186 * slotN (k_room σ) ((k_room σ).1 3)) 186 j = _
    rw [cpR_at _ (by decide) (by omega) _ _ (by omega), if_neg (by omega), h3]
theorem k_keep_rw {σ : MSt} (hE : mE σ) (h0 : σ.1 2 = 0) : rw_ (k_keep σ) = rw_ σ := by
  obtain ⟨-, h2, -, h4⟩ := k_keep_ok hE
  funext j
  show (if 0 ≤ j ∧ j < 186 then (k_keep σ).2 1 ((k_keep σ).1 2 + j).toNat else 0) = (if 0 ≤ j ∧ j < 186 then σ.2 1 (σ.1 2 + j).toNat else 0)
  split
  · rw [h2 2 (by decide) (by decide), h0]
    exact h4 _ (by omega)
  · rfl
theorem k_keep_mR {σ : MSt} (hr : mR σ) (hE : mE σ) (h0 : σ.1 2 = 0) : mR (k_keep σ) := by
  obtain ⟨-, h2, h3, -⟩ := k_keep_ok hE
  unfold mR mAt
  rw [k_keep_rw hE h0, h2 2 (by decide) (by decide), h2 5 (by decide) (by decide), h3 7 (by decide)]
  exact hr
theorem k_keep_th {σ : MSt} (hE : mE σ) : (k_keep σ).1 0 = σ.1 0 := (k_keep_ok hE).2.1 0 (by decide) (by decide)
def o_undo (σ : MSt) : Int × Int := if σ.1 3 = 0 then (1, 0) else (0, σ.1 3 - 1)
def k_undo (σ : MSt) : MSt := if σ.1 3 = 0 then σ else k_copyRow (slotN σ (σ.1 3 - 1)) 0 (sF σ 3 (σ.1 3 - 1))
theorem m_undo {l : Launch} {g : AG} {C : MCx} (hC : MOK C) (σ : MSt)  (hE : mE σ): AMx l g miX4_undo 12 [.ref C.1] (mh C σ) (some (iv (o_undo (sF σ 0 0)).2)) (mh C (sF (k_undo (sF σ 0 0)) 0 (o_undo (sF σ 0 0)).1)) := by
  refine aw_start 0 (by decide) rfl (Nat.le_of_ble_eq_true rfl) ?_
  show AWc l g miX4_undo 12 0 0 _ _ 0 0 (mh C σ) 0 [some (.ref C.1)] []
  have h0 : (sF σ 0 0).1 0 = 0 := rfl
  have hE : mE (sF σ 0 0) := hE
  refine aw_aload_n 1 dX4_undo_0 rfl rfl ?_
  refine aw_iconst 2 dX4_undo_1 rfl ?_
  refine aw_put 5 ci4 0 (by decide) q2031 (Or.inl rfl) rfl rfl rfl (Nat.le_of_ble_eq_true rfl) (mh_obj _ _) dX4_undo_2 rfl ?_
  refine aw_h (mhp_0 _ _ _) ?_
  generalize sF σ 0 0 = σ at h0 hE ⊢
  obtain ⟨h1, h2, h3⟩ := id hE
  refine aw_aload_n 6 dX4_undo_5 rfl rfl ?_
  refine aw_get 9 ci4 3 (by decide) q2034 (Or.inl rfl) (rdl (mh_obj _ _)) rfl dX4_undo_6 rfl ?_
  refine aw_if_ne 18 12 (by omega) dX4_undo_9 rfl rfl (fun c_9 => ?_) (fun c_9 => ?_)
  · refine aw_aload_n 19 dX4_undo_18 rfl rfl ?_
    refine aw_dup 20 dX4_undo_19 rfl rfl ?_
    refine aw_get 23 ci4 3 (by decide) q2034 (Or.inl rfl) (rdl (mh_obj _ _)) rfl dX4_undo_20 rfl ?_
    refine aw_iconst 24 dX4_undo_23 rfl ?_
    refine aw_isub 25 dX4_undo_24 rfl ?_
    refine aw_put 28 ci4 3 (by decide) q2034 (Or.inl rfl) rfl rfl rfl (Nat.le_of_ble_eq_true rfl) (mh_obj _ _) dX4_undo_25 rfl ?_
    refine aw_h (mhp_3 _ _ _) ?_
    refine aw_aload_n 29 dX4_undo_28 rfl rfl ?_
    refine aw_aload_n 30 dX4_undo_29 rfl rfl ?_
    refine aw_aload_n 31 dX4_undo_30 rfl rfl ?_
    refine aw_get 34 ci4 3 (by decide) q2034 (Or.inl rfl) (rdl (mh_obj _ _)) rfl dX4_undo_31 rfl ?_
    have hE2 : mE (sF σ 3 (σ.1 3 - 1)) := ⟨by show 0 ≤ σ.1 3 - 1 ∧ σ.1 3 - 1 ≤ 10; omega, h2, h3⟩
    have hs : 0 ≤ slotN (sF σ 3 (σ.1 3 - 1)) ((sF σ 3 (σ.1 3 - 1)).1 3) ∧ slotN (sF σ 3 (σ.1 3 - 1)) ((sF σ 3 (σ.1 3 - 1)).1 3) < 12 := by show 0 ≤ 2 + (σ.1 4 + (σ.1 3 - 1)) % 10 ∧ 2 + (σ.1 4 + (σ.1 3 - 1)) % 10 < 12; omega
    refine aw_xV 37 (m_slot hC (sF σ 3 (σ.1 3 - 1)) _ hE2 (by show 0 ≤ σ.1 3 - 1 ∧ σ.1 3 - 1 ≤ 10; omega)) mvX4_slot q2575 (rdl (mh_obj _ _)) rfl rfl rfl (by decide) (by decide) (Nat.le_refl _) (Nat.le_refl _) rfl (Nat.le_of_ble_eq_true rfl) dX4_undo_34 rfl ?_
    refine aw_iconst 38 dX4_undo_37 rfl ?_
    refine aw_xVv 41 (m_copyRow hC (sF σ 3 (σ.1 3 - 1)) _ 0 hs (by decide)) mvX4_copyRow q2027 (rdl (mh_obj _ _)) rfl rfl rfl (by decide) (by decide) (Nat.le_refl _) (Nat.le_refl _) rfl (Nat.le_of_ble_eq_true rfl) dX4_undo_38 rfl ?_
    refine aw_aload_n 42 dX4_undo_41 rfl rfl ?_
    refine aw_get 45 ci4 3 (by decide) q2034 (Or.inl rfl) (rdl (mh_obj _ _)) rfl dX4_undo_42 rfl ?_
    exact aw_xi (by unfold o_undo; first | (rw [if_pos (by assumption)]) | (rw [if_neg (by assumption)]; rfl)) (by unfold o_undo k_undo; rw [if_neg (by assumption), if_neg (by assumption)]; exact congrArg (mh C) (sF_id (σ := k_copyRow (slotN σ (σ.1 3 - 1)) 0 (sF σ 3 (σ.1 3 - 1))) (k := 0) (z := 0) h0).symm) rfl dX4_undo_45
  · refine aw_aload_n 13 dX4_undo_12 rfl rfl ?_
    refine aw_iconst 14 dX4_undo_13 rfl ?_
    refine aw_xV 17 (m_fails hC _ _) mvX4_fails q2151 (rdl (mh_obj _ _)) rfl rfl rfl (by decide) (by decide) (Nat.le_refl _) (Nat.le_refl _) rfl (Nat.le_of_ble_eq_true rfl) dX4_undo_14 rfl ?_
    exact aw_xi (by unfold o_undo; first | (rw [if_pos (by assumption)]) | (rw [if_neg (by assumption)]; rfl)) (by unfold o_undo k_undo; rw [if_pos (by assumption), if_pos (by assumption)]) rfl dX4_undo_17
theorem m_setK {l : Launch} {g : AG} {C : MCx} (hC : MOK C) (σ : MSt) (k v : Int) (ha : mAt σ) (hk : 0 ≤ k ∧ k < 186) : AMx l g miX4_set 10 [.ref C.1, iv k, iv v] (mh C σ) none (mh C (k_set k v σ)) := m_set hC σ k v (by rcases ha with h | h <;> omega)
theorem m_setOfK {l : Launch} {g : AG} {C : MCx} (hC : MOK C) (σ : MSt) (c w v : Int) (ha : mAt σ) (hc : 0 ≤ c ∧ c < 20) (hw : 0 ≤ w ∧ w < 7) : AMx l g miX4_setOf 11 [.ref C.1, iv c, iv w, iv v] (mh C σ) none (mh C (k_set (9 + 7 * c + w) v σ)) := m_setOf hC σ c w v ha hc hw
theorem k_set_rw {σ : MSt} (ha : mAt σ) {k : Int} (v : Int) (hk : 0 ≤ k ∧ k < 186) : rw_ (k_set k v σ) = rU (rw_ σ) k v := rw_up ha v hk
def o_addCue (s L a p : Int) (σ : MSt) : Int × Int := if isAx σ a then (if (0 ≤ s ∧ s ≤ 998) ∧ (1 ≤ L ∧ L ≤ 999 - s) ∧ (σ.2 7 (3 * a).toNat ≤ p ∧ p ≤ σ.2 7 (3 * a + 1).toNat) then (if r_nC (rw_ σ) = 20 then (3, 0) else (0, r_nC (rw_ σ))) else (2, 0)) else (1, 0)
/-- a cue put behind all cues -/
def k_newCue (s L a p c : Int) (σ : MSt) : MSt := k_set (9 + 7 * c + (3 + a)) p (k_set (9 + 7 * c + 2) (ob 0 a) (k_set (9 + 7 * c + 1) L (k_set (9 + 7 * c + 0) s (k_set 8 (c + 1) σ))))
def k_addCue (s L a p : Int) (σ : MSt) : MSt := if (o_addCue s L a p σ).1 = 0 then k_newCue s L a p (r_nC (rw_ σ)) (k_keep σ) else σ
theorem ob_0 (a : Int) : (1 : Int32) <<< (Int32.ofInt a &&& 31) = Int32.ofInt (ob 0 a) := by
  unfold ob
  rw [Int32.ofInt_toInt, show Int32.ofInt 0 = 0 from rfl, Int32.zero_or]
theorem m_addCue {l : Launch} {g : AG} {C : MCx} (hC : MOK C) (σ : MSt) (s L a p : Int) (hr : mR σ) (hE : mE σ) (h2 : σ.1 2 = 0) (hs : Rg s) (hL : Rg L) (ha : Rg a) (hp : Rg p): AMx l g miX4_addCue 13 [.ref C.1, iv s, iv L, iv a, iv p] (mh C σ) (some (iv (o_addCue s L a p (sF σ 0 0)).2)) (mh C (sF (k_addCue s L a p (sF σ 0 0)) 0 (o_addCue s L a p (sF σ 0 0)).1)) := by
  refine aw_start 1 (by decide) rfl (Nat.le_of_ble_eq_true rfl) ?_
  show AWc l g miX4_addCue 13 0 0 _ _ 0 0 (mh C σ) 0 [some (.ref C.1), some (iv s), some (iv L), some (iv a), some (iv p), none] []
  have h0 : (sF σ 0 0).1 0 = 0 := rfl
  have hr : mR (sF σ 0 0) := hr
  have hE : mE (sF σ 0 0) := hE
  have h2 : (sF σ 0 0).1 2 = 0 := h2
  refine aw_aload_n 1 dX4_addCue_0 rfl rfl ?_
  refine aw_iconst 2 dX4_addCue_1 rfl ?_
  refine aw_put 5 ci4 0 (by decide) q2031 (Or.inl rfl) rfl rfl rfl (Nat.le_of_ble_eq_true rfl) (mh_obj _ _) dX4_addCue_2 rfl ?_
  refine aw_h (mhp_0 _ _ _) ?_
  generalize sF σ 0 0 = σ at h0 hr hE h2 ⊢
  have h5 := hr.2.1
  have h20 := hr.nC
  have l1 := hr.2.2.2 (3 * a).toNat
  have l2 := hr.2.2.2 (3 * a + 1).toNat
  have hr1 := k_keep_mR hr hE h2
  have e1 := k_keep_rw hE h2
  refine aw_aload_n 6 dX4_addCue_5 rfl rfl ?_
  refine aw_iload_n 7 dX4_addCue_6 rfl rfl ?_
  refine aw_xV 10 (m_isAxis hC _ _ (by omega) (by omega)) mvX4_isAxis q2279 (rdl (mh_obj _ _)) rfl rfl rfl (by decide) (by decide) (Nat.le_refl _) (Nat.le_refl _) rfl (Nat.le_of_ble_eq_true rfl) dX4_addCue_7 rfl ?_
  refine aw_if_neB 19 13 dX4_addCue_10 rfl rfl (fun c_10 => ?_) (fun c_10 => ?_)
  · refine aw_iload_n 20 dX4_addCue_19 rfl rfl ?_
    refine aw_iconst 21 dX4_addCue_20 rfl ?_
    refine aw_sipush 24 dX4_addCue_21 rfl (by decide) ?_
    refine aw_xS 27 (m_isIn _ _ _ (by omega) (by omega) (by omega)) msX4_isIn q2163 rfl (by decide) (by decide) (Nat.le_refl _) (Nat.le_refl _) rfl (Nat.le_of_ble_eq_true rfl) dX4_addCue_24 rfl ?_
    refine aw_if_eqB 61 30 dX4_addCue_27 rfl rfl (fun c_27 => ?_) (fun c_27 => ?_)
    · have ho : o_addCue s L a p σ = (2, 0) := (if_pos (by assumption)).trans (if_neg (by omega))
      refine aw_aload_n 62 dX4_addCue_61 rfl rfl ?_
      refine aw_iconst 63 dX4_addCue_62 rfl ?_
      refine aw_xV 66 (m_fails hC _ _) mvX4_fails q2151 (rdl (mh_obj _ _)) rfl rfl rfl (by decide) (by decide) (Nat.le_refl _) (Nat.le_refl _) rfl (Nat.le_of_ble_eq_true rfl) dX4_addCue_63 rfl ?_
      exact aw_xi (by rw [ho]) (by unfold k_addCue; rw [ho, if_neg (by decide)]) rfl dX4_addCue_66
    · refine aw_iload_n 31 dX4_addCue_30 rfl rfl ?_
      refine aw_iconst 32 dX4_addCue_31 rfl ?_
      refine aw_sipush 35 dX4_addCue_32 rfl (by decide) ?_
      refine aw_iload_n 36 dX4_addCue_35 rfl rfl ?_
      refine aw_isub 37 dX4_addCue_36 rfl ?_
      refine aw_xS 40 (m_isIn _ _ _ (by omega) (by omega) (by omega)) msX4_isIn q2163 rfl (by decide) (by decide) (Nat.le_refl _) (Nat.le_refl _) rfl (Nat.le_of_ble_eq_true rfl) dX4_addCue_37 rfl ?_
      refine aw_if_eqB 61 43 dX4_addCue_40 rfl rfl (fun c_40 => ?_) (fun c_40 => ?_)
      · have ho : o_addCue s L a p σ = (2, 0) := (if_pos (by assumption)).trans (if_neg (by omega))
        refine aw_aload_n 62 dX4_addCue_61 rfl rfl ?_
        refine aw_iconst 63 dX4_addCue_62 rfl ?_
        refine aw_xV 66 (m_fails hC _ _) mvX4_fails q2151 (rdl (mh_obj _ _)) rfl rfl rfl (by decide) (by decide) (Nat.le_refl _) (Nat.le_refl _) rfl (Nat.le_of_ble_eq_true rfl) dX4_addCue_63 rfl ?_
        exact aw_xi (by rw [ho]) (by unfold k_addCue; rw [ho, if_neg (by decide)]) rfl dX4_addCue_66
      · refine aw_iload 45 dX4_addCue_43 rfl rfl ?_
        refine aw_aload_n 46 dX4_addCue_45 rfl rfl ?_
        refine aw_iload_n 47 dX4_addCue_46 rfl rfl ?_
        refine aw_xV 50 (m_low hC _ _ (by omega)) mvX4_low q2283 (rdl (mh_obj _ _)) rfl rfl rfl (by decide) (by decide) (Nat.le_refl _) (Nat.le_refl _) rfl (Nat.le_of_ble_eq_true rfl) dX4_addCue_47 rfl ?_
        refine aw_aload_n 51 dX4_addCue_50 rfl rfl ?_
        refine aw_iload_n 52 dX4_addCue_51 rfl rfl ?_
        refine aw_xV 55 (m_high hC _ _ (by omega)) mvX4_high q2287 (rdl (mh_obj _ _)) rfl rfl rfl (by decide) (by decide) (Nat.le_refl _) (Nat.le_refl _) rfl (Nat.le_of_ble_eq_true rfl) dX4_addCue_52 rfl ?_
        refine aw_xS 58 (m_isIn _ _ _ (by omega) (by omega) (by omega)) msX4_isIn q2163 rfl (by decide) (by decide) (Nat.le_refl _) (Nat.le_refl _) rfl (Nat.le_of_ble_eq_true rfl) dX4_addCue_55 rfl ?_
        refine aw_if_neB 67 61 dX4_addCue_58 rfl rfl (fun c_58 => ?_) (fun c_58 => ?_)
        · refine aw_aload_n 68 dX4_addCue_67 rfl rfl ?_
          refine aw_xV 71 (m_nC hC _ hr.1) mvX4_cueMany q2259 (rdl (mh_obj _ _)) rfl rfl rfl (by decide) (by decide) (Nat.le_refl _) (Nat.le_refl _) rfl (Nat.le_of_ble_eq_true rfl) dX4_addCue_68 rfl ?_
          refine aw_bipush 73 dX4_addCue_71 rfl (by decide) ?_
          refine aw_icmp_ne 82 76 (by omega) dX4_addCue_73 rfl rfl (fun c_73 => ?_) (fun c_73 => ?_)
          · have ho : o_addCue s L a p σ = (0, r_nC (rw_ σ)) := (if_pos (by assumption)).trans ((if_pos (by omega)).trans (if_neg (by assumption)))
            refine aw_aload_n 83 dX4_addCue_82 rfl rfl ?_
            refine aw_xVv 86 (m_keep hC _ hE) mvX4_keep q2583 (rdl (mh_obj _ _)) rfl rfl rfl (by decide) (by decide) (Nat.le_refl _) (Nat.le_refl _) rfl (Nat.le_of_ble_eq_true rfl) dX4_addCue_83 rfl ?_
            refine aw_aload_n 87 dX4_addCue_86 rfl rfl ?_
            refine aw_xV 90 (m_nC hC (k_keep σ) hr1.1) mvX4_cueMany q2259 (rdl (mh_obj _ _)) rfl rfl rfl (by decide) (by decide) (Nat.le_refl _) (Nat.le_refl _) rfl (Nat.le_of_ble_eq_true rfl) dX4_addCue_87 rfl ?_
            rw [e1]
            refine aw_istore 92 dX4_addCue_90 rfl (as_5 rfl) (by decide) ?_
            refine aw_aload_n 93 dX4_addCue_92 rfl rfl ?_
            refine aw_bipush 95 dX4_addCue_93 rfl (by decide) ?_
            refine aw_iload 97 dX4_addCue_95 rfl rfl ?_
            refine aw_iconst 98 dX4_addCue_97 rfl ?_
            refine aw_iadd 99 dX4_addCue_98 rfl ?_
            refine aw_xVv 102 (m_setK hC _ _ _ hr1.1 (by decide)) mvX4_set q2547 (rdl (mh_obj _ _)) rfl rfl rfl (by decide) (by decide) (Nat.le_refl _) (Nat.le_refl _) rfl (Nat.le_of_ble_eq_true rfl) dX4_addCue_99 rfl ?_
            refine aw_aload_n 103 dX4_addCue_102 rfl rfl ?_
            refine aw_iload 105 dX4_addCue_103 rfl rfl ?_
            refine aw_iconst 106 dX4_addCue_105 rfl ?_
            refine aw_iload_n 107 dX4_addCue_106 rfl rfl ?_
            refine aw_xVv 110 (m_setOfK hC (k_set 8 (r_nC (rw_ σ) + 1) (k_keep σ)) _ 0 _ hr1.1 (by omega) (by decide)) mvX4_setOf q2543 (rdl (mh_obj _ _)) rfl rfl rfl (by decide) (by decide) (Nat.le_refl _) (Nat.le_refl _) rfl (Nat.le_of_ble_eq_true rfl) dX4_addCue_107 rfl ?_
            refine aw_aload_n 111 dX4_addCue_110 rfl rfl ?_
            refine aw_iload 113 dX4_addCue_111 rfl rfl ?_
            refine aw_iconst 114 dX4_addCue_113 rfl ?_
            refine aw_iload_n 115 dX4_addCue_114 rfl rfl ?_
            refine aw_xVv 118 (m_setOfK hC _ _ 1 _ hr1.1 (by omega) (by decide)) mvX4_setOf q2543 (rdl (mh_obj _ _)) rfl rfl rfl (by decide) (by decide) (Nat.le_refl _) (Nat.le_refl _) rfl (Nat.le_of_ble_eq_true rfl) dX4_addCue_115 rfl ?_
            refine aw_aload_n 119 dX4_addCue_118 rfl rfl ?_
            refine aw_iload 121 dX4_addCue_119 rfl rfl ?_
            refine aw_iconst 122 dX4_addCue_121 rfl ?_
            refine aw_iconst 123 dX4_addCue_122 rfl ?_
            refine aw_iload_n 124 dX4_addCue_123 rfl rfl ?_
            refine aw_ishl 125 (ob 0 a) dX4_addCue_124 rfl (by exact ob_0 a) ?_
            refine aw_xVv 128 (m_setOfK hC _ _ 2 _ hr1.1 (by omega) (by decide)) mvX4_setOf q2543 (rdl (mh_obj _ _)) rfl rfl rfl (by decide) (by decide) (Nat.le_refl _) (Nat.le_refl _) rfl (Nat.le_of_ble_eq_true rfl) dX4_addCue_125 rfl ?_
            refine aw_aload_n 129 dX4_addCue_128 rfl rfl ?_
            refine aw_iload 131 dX4_addCue_129 rfl rfl ?_
            refine aw_iconst 132 dX4_addCue_131 rfl ?_
            refine aw_iload_n 133 dX4_addCue_132 rfl rfl ?_
            refine aw_iadd 134 dX4_addCue_133 rfl ?_
            refine aw_iload 136 dX4_addCue_134 rfl rfl ?_
            refine aw_xVv 139 (m_setOfK hC _ _ (3 + a) _ hr1.1 (by omega) (by omega)) mvX4_setOf q2543 (rdl (mh_obj _ _)) rfl rfl rfl (by decide) (by decide) (Nat.le_refl _) (Nat.le_refl _) rfl (Nat.le_of_ble_eq_true rfl) dX4_addCue_136 rfl ?_
            refine aw_iload 141 dX4_addCue_139 rfl rfl ?_
            exact aw_xi (by rw [ho]) (by unfold k_addCue; rw [ho, if_pos rfl]; exact congrArg (mh C) (sF_id (σ := k_newCue s L a p (r_nC (rw_ σ)) (k_keep σ)) (k := 0) (z := 0) ((k_keep_th hE).trans h0)).symm) rfl dX4_addCue_141
          · have ho : o_addCue s L a p σ = (3, 0) := (if_pos (by assumption)).trans ((if_pos (by omega)).trans (if_pos (by assumption)))
            refine aw_aload_n 77 dX4_addCue_76 rfl rfl ?_
            refine aw_iconst 78 dX4_addCue_77 rfl ?_
            refine aw_xV 81 (m_fails hC _ _) mvX4_fails q2151 (rdl (mh_obj _ _)) rfl rfl rfl (by decide) (by decide) (Nat.le_refl _) (Nat.le_refl _) rfl (Nat.le_of_ble_eq_true rfl) dX4_addCue_78 rfl ?_
            exact aw_xi (by rw [ho]) (by unfold k_addCue; rw [ho, if_neg (by decide)]) rfl dX4_addCue_81
        · have ho : o_addCue s L a p σ = (2, 0) := (if_pos (by assumption)).trans (if_neg (by omega))
          refine aw_aload_n 62 dX4_addCue_61 rfl rfl ?_
          refine aw_iconst 63 dX4_addCue_62 rfl ?_
          refine aw_xV 66 (m_fails hC _ _) mvX4_fails q2151 (rdl (mh_obj _ _)) rfl rfl rfl (by decide) (by decide) (Nat.le_refl _) (Nat.le_refl _) rfl (Nat.le_of_ble_eq_true rfl) dX4_addCue_63 rfl ?_
          exact aw_xi (by rw [ho]) (by unfold k_addCue; rw [ho, if_neg (by decide)]) rfl dX4_addCue_66
  · have ho : o_addCue s L a p σ = (1, 0) := if_neg (by assumption)
    refine aw_aload_n 14 dX4_addCue_13 rfl rfl ?_
    refine aw_iconst 15 dX4_addCue_14 rfl ?_
    refine aw_xV 18 (m_fails hC _ _) mvX4_fails q2151 (rdl (mh_obj _ _)) rfl rfl rfl (by decide) (by decide) (Nat.le_refl _) (Nat.le_refl _) rfl (Nat.le_of_ble_eq_true rfl) dX4_addCue_15 rfl ?_
    exact aw_xi (by rw [ho]) (by unfold k_addCue; rw [ho, if_neg (by decide)]) rfl dX4_addCue_18
/-- how many bits -/
def nd (s : Int) : Int := (Int32.ofInt s &&& Int32.ofInt (s - 1)).toInt
def onL : Nat → Int → Int
  | 0, _ => 0
  | n + 1, s => if s = 0 then 0 else 1 + onL n (nd s)
def onF (s : Int) : Int := hb s 0 + hb s 1 + hb s 2 + hb s 3
theorem onL_all : ∀ s : Fin 16, onL 4 s.val = onF s.val ∧ (∀ _ : (s.val : Int) ≠ 0, 0 ≤ nd s.val ∧ nd s.val ≤ 15) ∧ nd (nd (nd (nd s.val))) = 0 := by decide +kernel
def itz (s : Int) : Nat → Int
  | 0 => s
  | n + 1 => itz (nd s) n
theorem l_ones {l : Launch} {g : AG} {C : MCx} {H : AH} (x : Int) : ∀ (n : Nat) (s v : Int), 0 ≤ s ∧ s ≤ 15 → itz s n = 0 → AWc l g miX4_ones 10 0 0 (fun r2 h2 => r2 = some (iv (v + onL n s)) ∧ h2 = H) (fun _ _ _ => False) 0 0 H 4 [some (.ref C.1), some (iv x), some (iv v), some (iv s)] [] := by
  intro n
  induction n with
  | zero =>
    intro s v h hz
    have hz : s = 0 := hz
    refine aw_iload_n 5 dX4_ones_4 rfl rfl ?_
    refine aw_if_eq 20 8 (by omega) dX4_ones_5 rfl rfl (fun c_5 => ?_) (fun c_5 => absurd c_5 (by omega))
    refine aw_iload_n 21 dX4_ones_20 rfl rfl ?_
    exact aw_xi (by show v = v + 0; omega) (rfl) rfl dX4_ones_21
  | succ n ih =>
    intro s v h hz
    have hz : itz (nd s) n = 0 := hz
    by_cases h0 : s = 0
    · rw [show onL (n + 1) s = 0 from if_pos h0]
      refine aw_iload_n 5 dX4_ones_4 rfl rfl ?_
      refine aw_if_eq 20 8 (by omega) dX4_ones_5 rfl rfl (fun c_5 => ?_) (fun c_5 => absurd c_5 (by omega))
      refine aw_iload_n 21 dX4_ones_20 rfl rfl ?_
      exact aw_xi (by omega) (rfl) rfl dX4_ones_21
    · rw [show onL (n + 1) s = 1 + onL n (nd s) from if_neg h0, ← Int.add_assoc]
      obtain ⟨m, hm⟩ := Int.eq_ofNat_of_zero_le h.1
      have hnd : ∀ _ : s ≠ 0, 0 ≤ nd s ∧ nd s ≤ 15 := by
        subst hm
        exact (onL_all ⟨m, by omega⟩).2.1
      refine aw_iload_n 5 dX4_ones_4 rfl rfl ?_
      refine aw_if_eq 20 8 (by omega) dX4_ones_5 rfl rfl (fun c_5 => absurd c_5 (by omega)) (fun c_5 => ?_)
      refine aw_iinc 11 dX4_ones_8 rfl rfl (as_2 rfl) (by decide) ?_
      refine aw_iload_n 12 dX4_ones_11 rfl rfl ?_
      refine aw_iload_n 13 dX4_ones_12 rfl rfl ?_
      refine aw_iconst 14 dX4_ones_13 rfl ?_
      refine aw_isub 15 dX4_ones_14 rfl ?_
      refine aw_iand 16 (nd s) dX4_ones_15 rfl (by exact i_of _) ?_
      refine aw_istore_n 17 dX4_ones_16 rfl (as_3 rfl) (by decide) ?_
      refine aw_goto 4 dX4_ones_17 rfl ?_
      exact ih (nd s) (v + 1) (hnd h0) hz
theorem m_ones {l : Launch} {g : AG} {C : MCx} (hC : MOK C) (σ : MSt) (s : Int) (hs : 0 ≤ s ∧ s ≤ 15): AMx l g miX4_ones 10 [.ref C.1, iv s] (mh C σ) (some (iv (onF s))) (mh C σ) := by
  refine aw_start 2 (by decide) rfl (Nat.le_of_ble_eq_true rfl) ?_
  show AWc l g miX4_ones 10 0 0 _ _ 0 0 (mh C σ) 0 [some (.ref C.1), some (iv s), none, none] []
  obtain ⟨m, hm⟩ := Int.eq_ofNat_of_zero_le hs.1
  have hq : onL 4 s = onF s ∧ (∀ _ : s ≠ 0, 0 ≤ nd s ∧ nd s ≤ 15) ∧ nd (nd (nd (nd s))) = 0 := by
    subst hm
    exact onL_all ⟨m, by omega⟩
  refine aw_iconst 1 dX4_ones_0 rfl ?_
  refine aw_istore_n 2 dX4_ones_1 rfl (as_2 rfl) (by decide) ?_
  refine aw_iload_n 3 dX4_ones_2 rfl rfl ?_
  refine aw_istore_n 4 dX4_ones_3 rfl (as_3 rfl) (by decide) ?_
  rw [← hq.1, ← Int.zero_add (onL 4 s)]; exact l_ones s 4 s 0 hs hq.2.2
def o_setTarget (c a p : Int) (σ : MSt) : Int × Int := if isCu σ c ∧ isAx σ a then (if σ.2 7 (3 * a).toNat ≤ p ∧ p ≤ σ.2 7 (3 * a + 1).toNat then (0, onF (ob (r_hs (rw_ σ) c) a)) else (2, 0)) else (1, 0)
def k_aim (c a p : Int) (σ : MSt) : MSt := k_set (9 + 7 * c + (3 + a)) p (k_set (9 + 7 * c + 2) (ob (r_hs (rw_ σ) c) a) σ)
def k_setTarget (c a p : Int) (σ : MSt) : MSt := if (o_setTarget c a p σ).1 = 0 then k_aim c a p (k_keep σ) else σ
theorem m_setTarget {l : Launch} {g : AG} {C : MCx} (hC : MOK C) (σ : MSt) (c a p : Int) (hr : mR σ) (hE : mE σ) (h2 : σ.1 2 = 0) (hc : Rg c) (ha : Rg a) (hp : Rg p): AMx l g miX4_setTarget 13 [.ref C.1, iv c, iv a, iv p] (mh C σ) (some (iv (o_setTarget c a p (sF σ 0 0)).2)) (mh C (sF (k_setTarget c a p (sF σ 0 0)) 0 (o_setTarget c a p (sF σ 0 0)).1)) := by
  refine aw_start 0 (by decide) rfl (Nat.le_of_ble_eq_true rfl) ?_
  show AWc l g miX4_setTarget 13 0 0 _ _ 0 0 (mh C σ) 0 [some (.ref C.1), some (iv c), some (iv a), some (iv p)] []
  have h0 : (sF σ 0 0).1 0 = 0 := rfl
  have hr : mR (sF σ 0 0) := hr
  have hE : mE (sF σ 0 0) := hE
  have h2 : (sF σ 0 0).1 2 = 0 := h2
  refine aw_aload_n 1 dX4_setTarget_0 rfl rfl ?_
  refine aw_iconst 2 dX4_setTarget_1 rfl ?_
  refine aw_put 5 ci4 0 (by decide) q2031 (Or.inl rfl) rfl rfl rfl (Nat.le_of_ble_eq_true rfl) (mh_obj _ _) dX4_setTarget_2 rfl ?_
  refine aw_h (mhp_0 _ _ _) ?_
  generalize sF σ 0 0 = σ at h0 hr hE h2 ⊢
  have h5 := hr.2.1
  have h20 := hr.nC
  have l1 := hr.2.2.2 (3 * a).toNat
  have l2 := hr.2.2.2 (3 * a + 1).toNat
  have hr1 := k_keep_mR hr hE h2
  have e1 := k_keep_rw hE h2
  refine aw_aload_n 6 dX4_setTarget_5 rfl rfl ?_
  refine aw_iload_n 7 dX4_setTarget_6 rfl rfl ?_
  refine aw_xV 10 (m_isCue hC _ _ hr (by omega)) mvX4_isCue q2295 (rdl (mh_obj _ _)) rfl rfl rfl (by decide) (by decide) (Nat.le_refl _) (Nat.le_refl _) rfl (Nat.le_of_ble_eq_true rfl) dX4_setTarget_7 rfl ?_
  refine aw_if_eqB 21 13 dX4_setTarget_10 rfl rfl (fun c_10 => ?_) (fun c_10 => ?_)
  · have ho : o_setTarget c a p σ = (1, 0) := if_neg (fun z => by first | exact absurd z.1 (by assumption) | exact absurd z.2 (by assumption))
    refine aw_aload_n 22 dX4_setTarget_21 rfl rfl ?_
    refine aw_iconst 23 dX4_setTarget_22 rfl ?_
    refine aw_xV 26 (m_fails hC _ _) mvX4_fails q2151 (rdl (mh_obj _ _)) rfl rfl rfl (by decide) (by decide) (Nat.le_refl _) (Nat.le_refl _) rfl (Nat.le_of_ble_eq_true rfl) dX4_setTarget_23 rfl ?_
    exact aw_xi (by rw [ho]) (by unfold k_setTarget; rw [ho, if_neg (by decide)]) rfl dX4_setTarget_26
  · refine aw_aload_n 14 dX4_setTarget_13 rfl rfl ?_
    refine aw_iload_n 15 dX4_setTarget_14 rfl rfl ?_
    refine aw_xV 18 (m_isAxis hC _ _ (by omega) (by omega)) mvX4_isAxis q2279 (rdl (mh_obj _ _)) rfl rfl rfl (by decide) (by decide) (Nat.le_refl _) (Nat.le_refl _) rfl (Nat.le_of_ble_eq_true rfl) dX4_setTarget_15 rfl ?_
    refine aw_if_neB 27 21 dX4_setTarget_18 rfl rfl (fun c_18 => ?_) (fun c_18 => ?_)
    · refine aw_iload_n 28 dX4_setTarget_27 rfl rfl ?_
      refine aw_aload_n 29 dX4_setTarget_28 rfl rfl ?_
      refine aw_iload_n 30 dX4_setTarget_29 rfl rfl ?_
      refine aw_xV 33 (m_low hC _ _ (by omega)) mvX4_low q2283 (rdl (mh_obj _ _)) rfl rfl rfl (by decide) (by decide) (Nat.le_refl _) (Nat.le_refl _) rfl (Nat.le_of_ble_eq_true rfl) dX4_setTarget_30 rfl ?_
      refine aw_aload_n 34 dX4_setTarget_33 rfl rfl ?_
      refine aw_iload_n 35 dX4_setTarget_34 rfl rfl ?_
      refine aw_xV 38 (m_high hC _ _ (by omega)) mvX4_high q2287 (rdl (mh_obj _ _)) rfl rfl rfl (by decide) (by decide) (Nat.le_refl _) (Nat.le_refl _) rfl (Nat.le_of_ble_eq_true rfl) dX4_setTarget_35 rfl ?_
      refine aw_xS 41 (m_isIn _ _ _ (by omega) (by omega) (by omega)) msX4_isIn q2163 rfl (by decide) (by decide) (Nat.le_refl _) (Nat.le_refl _) rfl (Nat.le_of_ble_eq_true rfl) dX4_setTarget_38 rfl ?_
      refine aw_if_neB 50 44 dX4_setTarget_41 rfl rfl (fun c_41 => ?_) (fun c_41 => ?_)
      · have ho : o_setTarget c a p σ = (0, onF (ob (r_hs (rw_ σ) c) a)) := (if_pos ⟨by assumption, by assumption⟩).trans (if_pos (by assumption))
        have hcu := (hr.cue (c := c) (by omega) (by omega)).2.1
        have hob := hb_f hcu (show 0 ≤ a ∧ a < 4 by omega)
        have he : rw_ (k_set (9 + 7 * c + (3 + a)) p (k_set (9 + 7 * c + 2) (ob (r_hs (rw_ σ) c) a) (k_keep σ))) = rU (rU (rw_ σ) (9 + 7 * c + 2) (ob (r_hs (rw_ σ) c) a)) (9 + 7 * c + (3 + a)) p := by rw [k_set_rw (show mAt (k_set (9 + 7 * c + 2) (ob (r_hs (rw_ σ) c) a) (k_keep σ)) from hr1.1) _ (by omega), k_set_rw hr1.1 _ (by omega), e1]
        refine aw_aload_n 51 dX4_setTarget_50 rfl rfl ?_
        refine aw_xVv 54 (m_keep hC _ hE) mvX4_keep q2583 (rdl (mh_obj _ _)) rfl rfl rfl (by decide) (by decide) (Nat.le_refl _) (Nat.le_refl _) rfl (Nat.le_of_ble_eq_true rfl) dX4_setTarget_51 rfl ?_
        refine aw_aload_n 55 dX4_setTarget_54 rfl rfl ?_
        refine aw_iload_n 56 dX4_setTarget_55 rfl rfl ?_
        refine aw_iconst 57 dX4_setTarget_56 rfl ?_
        refine aw_aload_n 58 dX4_setTarget_57 rfl rfl ?_
        refine aw_iload_n 59 dX4_setTarget_58 rfl rfl ?_
        refine aw_iconst 60 dX4_setTarget_59 rfl ?_
        refine aw_xV 63 (m_of2 hC (k_keep σ) c hr1.1 (by omega)) mvX4_of q2299 (rdl (mh_obj _ _)) rfl rfl rfl (by decide) (by decide) (Nat.le_refl _) (Nat.le_refl _) rfl (Nat.le_of_ble_eq_true rfl) dX4_setTarget_60 rfl ?_
        rw [e1]
        refine aw_iconst 64 dX4_setTarget_63 rfl ?_
        refine aw_iload_n 65 dX4_setTarget_64 rfl rfl ?_
        refine aw_ishl 66 ((1 : Int32) <<< (Int32.ofInt a &&& 31)).toInt dX4_setTarget_65 rfl (by exact i_of _) ?_
        refine aw_ior 67 (ob (r_hs (rw_ σ) c) a) dX4_setTarget_66 rfl (by exact ob_e _ _) ?_
        refine aw_xVv 70 (m_setOfK hC (k_keep σ) c 2 _ hr1.1 (by omega) (by decide)) mvX4_setOf q2543 (rdl (mh_obj _ _)) rfl rfl rfl (by decide) (by decide) (Nat.le_refl _) (Nat.le_refl _) rfl (Nat.le_of_ble_eq_true rfl) dX4_setTarget_67 rfl ?_
        refine aw_aload_n 71 dX4_setTarget_70 rfl rfl ?_
        refine aw_iload_n 72 dX4_setTarget_71 rfl rfl ?_
        refine aw_iconst 73 dX4_setTarget_72 rfl ?_
        refine aw_iload_n 74 dX4_setTarget_73 rfl rfl ?_
        refine aw_iadd 75 dX4_setTarget_74 rfl ?_
        refine aw_iload_n 76 dX4_setTarget_75 rfl rfl ?_
        refine aw_xVv 79 (m_setOfK hC (k_set (9 + 7 * c + 2) (ob (r_hs (rw_ σ) c) a) (k_keep σ)) c (3 + a) _ hr1.1 (by omega) (by omega)) mvX4_setOf q2543 (rdl (mh_obj _ _)) rfl rfl rfl (by decide) (by decide) (Nat.le_refl _) (Nat.le_refl _) rfl (Nat.le_of_ble_eq_true rfl) dX4_setTarget_76 rfl ?_
        refine aw_aload_n 80 dX4_setTarget_79 rfl rfl ?_
        refine aw_aload_n 81 dX4_setTarget_80 rfl rfl ?_
        refine aw_iload_n 82 dX4_setTarget_81 rfl rfl ?_
        refine aw_iconst 83 dX4_setTarget_82 rfl ?_
        refine aw_xV 86 (m_of2 hC (k_set (9 + 7 * c + (3 + a)) p (k_set (9 + 7 * c + 2) (ob (r_hs (rw_ σ) c) a) (k_keep σ))) c hr1.1 (by omega)) mvX4_of q2299 (rdl (mh_obj _ _)) rfl rfl rfl (by decide) (by decide) (Nat.le_refl _) (Nat.le_refl _) rfl (Nat.le_of_ble_eq_true rfl) dX4_setTarget_83 rfl ?_
        rw [he]; refine aw_st (show _ = [iv (ob (r_hs (rw_ σ) c) a), .ref C.1] from by rw [show r_hs (rU (rU (rw_ σ) (9 + 7 * c + 2) (ob (r_hs (rw_ σ) c) a)) (9 + 7 * c + (3 + a)) p) c = ob (r_hs (rw_ σ) c) a from (if_neg (by omega)).trans (if_pos rfl)]) ?_
        refine aw_xV 89 (m_ones hC _ _ (by omega)) mvX4_ones q2591 (rdl (mh_obj _ _)) rfl rfl rfl (by decide) (by decide) (Nat.le_refl _) (Nat.le_refl _) rfl (Nat.le_of_ble_eq_true rfl) dX4_setTarget_86 rfl ?_
        exact aw_xi (by rw [ho]) (by unfold k_setTarget k_aim; rw [ho, if_pos rfl, e1]; exact congrArg (mh C) (sF_id (σ := k_set (9 + 7 * c + (3 + a)) p (k_set (9 + 7 * c + 2) (ob (r_hs (rw_ σ) c) a) (k_keep σ))) (k := 0) (z := 0) ((k_keep_th hE).trans h0)).symm) rfl dX4_setTarget_89
      · have ho : o_setTarget c a p σ = (2, 0) := (if_pos ⟨by assumption, by assumption⟩).trans (if_neg (by assumption))
        refine aw_aload_n 45 dX4_setTarget_44 rfl rfl ?_
        refine aw_iconst 46 dX4_setTarget_45 rfl ?_
        refine aw_xV 49 (m_fails hC _ _) mvX4_fails q2151 (rdl (mh_obj _ _)) rfl rfl rfl (by decide) (by decide) (Nat.le_refl _) (Nat.le_refl _) rfl (Nat.le_of_ble_eq_true rfl) dX4_setTarget_46 rfl ?_
        exact aw_xi (by rw [ho]) (by unfold k_setTarget; rw [ho, if_neg (by decide)]) rfl dX4_setTarget_49
    · have ho : o_setTarget c a p σ = (1, 0) := if_neg (fun z => by first | exact absurd z.1 (by assumption) | exact absurd z.2 (by assumption))
      refine aw_aload_n 22 dX4_setTarget_21 rfl rfl ?_
      refine aw_iconst 23 dX4_setTarget_22 rfl ?_
      refine aw_xV 26 (m_fails hC _ _) mvX4_fails q2151 (rdl (mh_obj _ _)) rfl rfl rfl (by decide) (by decide) (Nat.le_refl _) (Nat.le_refl _) rfl (Nat.le_of_ble_eq_true rfl) dX4_setTarget_23 rfl ?_
      exact aw_xi (by rw [ho]) (by unfold k_setTarget; rw [ho, if_neg (by decide)]) rfl dX4_setTarget_26
theorem cb_e (s a : Int) : Int32.ofInt s &&& Int32.ofInt (Int32.ofInt (((1 : Int32) <<< (Int32.ofInt a &&& 31)).toInt) ^^^ Int32.ofInt (-1)).toInt = Int32.ofInt (cb s a) := by
  unfold cb
  rw [Int32.ofInt_toInt, Int32.ofInt_toInt, Int32.ofInt_toInt]
  rfl
def o_removeTarget (c a : Int) (σ : MSt) : Int × Int := (o_told c a σ, if o_told c a σ = 0 then r_tg (rw_ σ) c a else 0)
def k_unaim (c a : Int) (σ : MSt) : MSt := k_set (9 + 7 * c + 2) (cb (r_hs (rw_ σ) c) a) σ
def k_removeTarget (c a : Int) (σ : MSt) : MSt := if o_told c a σ = 0 then k_unaim c a (k_keep (sF σ 0 0)) else sF σ 0 (o_told c a σ)
theorem m_removeTarget {l : Launch} {g : AG} {C : MCx} (hC : MOK C) (σ : MSt) (c a : Int) (hr : mR σ) (hE : mE σ) (h2 : σ.1 2 = 0) (hc : Rg c) (ha : Rg a): AMx l g miX4_removeTarget 14 [.ref C.1, iv c, iv a] (mh C σ) (some (iv (o_removeTarget c a σ).2)) (mh C (k_removeTarget c a σ)) := by
  refine aw_start 0 (by decide) rfl (Nat.le_of_ble_eq_true rfl) ?_
  show AWc l g miX4_removeTarget 14 0 0 _ _ 0 0 (mh C σ) 0 [some (.ref C.1), some (iv c), some (iv a)] []
  have h5 := hr.2.1
  have h20 := hr.nC
  have ht := o_told_rg c a σ
  have hr1 := k_keep_mR (σ := sF σ 0 0) hr hE h2
  have e1 : rw_ (k_keep (sF σ 0 0)) = rw_ σ := k_keep_rw (σ := sF σ 0 0) hE h2
  refine aw_aload_n 1 dX4_removeTarget_0 rfl rfl ?_
  refine aw_iload_n 2 dX4_removeTarget_1 rfl rfl ?_
  refine aw_iload_n 3 dX4_removeTarget_2 rfl rfl ?_
  refine aw_xV 6 (m_isTold hC _ _ _ hr (by omega) (by omega)) mvX4_isTold q2311 (rdl (mh_obj _ _)) rfl rfl rfl (by decide) (by decide) (Nat.le_refl _) (Nat.le_refl _) rfl (Nat.le_of_ble_eq_true rfl) dX4_removeTarget_3 rfl ?_
  refine aw_if_neB 11 9 dX4_removeTarget_6 rfl rfl (fun c_6 => ?_) (fun c_6 => ?_)
  · obtain ⟨q1, q2, q3⟩ := o_told_0 (c := c) (a := a) (σ := σ) (by assumption)
    rw [show o_told c a σ = 0 by assumption]
    have he : rw_ (k_set (9 + 7 * c + 2) (cb (r_hs (rw_ σ) c) a) (k_keep (sF σ 0 0))) = rU (rw_ σ) (9 + 7 * c + 2) (cb (r_hs (rw_ σ) c) a) := by rw [k_set_rw hr1.1 _ (by omega), e1]
    refine aw_aload_n 12 dX4_removeTarget_11 rfl rfl ?_
    refine aw_xVv 15 (m_keep hC (sF σ 0 0) hE) mvX4_keep q2583 (rdl (mh_obj _ _)) rfl rfl rfl (by decide) (by decide) (Nat.le_refl _) (Nat.le_refl _) rfl (Nat.le_of_ble_eq_true rfl) dX4_removeTarget_12 rfl ?_
    refine aw_aload_n 16 dX4_removeTarget_15 rfl rfl ?_
    refine aw_iload_n 17 dX4_removeTarget_16 rfl rfl ?_
    refine aw_iconst 18 dX4_removeTarget_17 rfl ?_
    refine aw_aload_n 19 dX4_removeTarget_18 rfl rfl ?_
    refine aw_iload_n 20 dX4_removeTarget_19 rfl rfl ?_
    refine aw_iconst 21 dX4_removeTarget_20 rfl ?_
    refine aw_xV 24 (m_of2 hC (k_keep (sF σ 0 0)) c hr1.1 (by omega)) mvX4_of q2299 (rdl (mh_obj _ _)) rfl rfl rfl (by decide) (by decide) (Nat.le_refl _) (Nat.le_refl _) rfl (Nat.le_of_ble_eq_true rfl) dX4_removeTarget_21 rfl ?_
    rw [e1]
    refine aw_iconst 25 dX4_removeTarget_24 rfl ?_
    refine aw_iload_n 26 dX4_removeTarget_25 rfl rfl ?_
    refine aw_ishl 27 ((1 : Int32) <<< (Int32.ofInt a &&& 31)).toInt dX4_removeTarget_26 rfl (by exact i_of _) ?_
    refine aw_iconst 28 dX4_removeTarget_27 rfl ?_
    refine aw_ixor 29 (Int32.ofInt (((1 : Int32) <<< (Int32.ofInt a &&& 31)).toInt) ^^^ Int32.ofInt (-1)).toInt dX4_removeTarget_28 rfl (by exact i_of _) ?_
    refine aw_iand 30 (cb (r_hs (rw_ σ) c) a) dX4_removeTarget_29 rfl (by exact cb_e _ _) ?_
    refine aw_xVv 33 (m_setOfK hC (k_keep (sF σ 0 0)) c 2 _ hr1.1 (by omega) (by decide)) mvX4_setOf q2543 (rdl (mh_obj _ _)) rfl rfl rfl (by decide) (by decide) (Nat.le_refl _) (Nat.le_refl _) rfl (Nat.le_of_ble_eq_true rfl) dX4_removeTarget_30 rfl ?_
    refine aw_aload_n 34 dX4_removeTarget_33 rfl rfl ?_
    refine aw_iload_n 35 dX4_removeTarget_34 rfl rfl ?_
    refine aw_iconst 36 dX4_removeTarget_35 rfl ?_
    refine aw_iload_n 37 dX4_removeTarget_36 rfl rfl ?_
    refine aw_iadd 38 dX4_removeTarget_37 rfl ?_
    refine aw_xV 41 (m_of3 hC (k_set (9 + 7 * c + 2) (cb (r_hs (rw_ σ) c) a) (k_keep (sF σ 0 0))) c a hr1.1 (by omega) (by omega)) mvX4_of q2299 (rdl (mh_obj _ _)) rfl rfl rfl (by decide) (by decide) (Nat.le_refl _) (Nat.le_refl _) rfl (Nat.le_of_ble_eq_true rfl) dX4_removeTarget_38 rfl ?_
    rw [he]
    exact aw_xi (by show _ = (if o_told c a σ = 0 then r_tg (rw_ σ) c a else _); rw [if_pos (by assumption)]; exact if_neg (by omega)) (by unfold k_removeTarget k_unaim; rw [if_pos (by assumption), e1]) rfl dX4_removeTarget_41
  · refine aw_iconst 10 dX4_removeTarget_9 rfl ?_
    exact aw_xi (by show _ = (if o_told c a σ = 0 then _ else _); rw [if_neg (by assumption)]) (by unfold k_removeTarget; rw [if_neg (by assumption)]) rfl dX4_removeTarget_10
