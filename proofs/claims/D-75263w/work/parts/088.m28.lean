/-! CameraMovesModel: what is removed; the most that a cue costs -/
set_option maxRecDepth 100000
/-- what questions with a trial change -/
def TR (σ τ : MSt) : Prop := (∀ j, j < 27 ∨ 31 < j → τ.1 j = σ.1 j) ∧ (∀ k, k ≠ 1 → k < 32 ∨ 35 < k → τ.2 k = σ.2 k) ∧ (∀ j, j < 186 ∨ 372 ≤ j → τ.2 1 j = σ.2 1 j) ∧ (mT σ → mT τ)
theorem TR.rf (σ : MSt) : TR σ σ := ⟨fun _ _ => rfl, fun _ _ _ => rfl, fun _ _ => rfl, id⟩
theorem TR.tr {a b c : MSt} (h1 : TR a b) (h2 : TR b c) : TR a c := ⟨fun j hj => (h2.1 j hj).trans (h1.1 j hj), fun k h hk => (h2.2.1 k h hk).trans (h1.2.1 k h hk), fun j hj => (h2.2.2.1 j hj).trans (h1.2.2.1 j hj), fun h => h2.2.2.2 (h1.2.2.2 h)⟩
theorem SC.trl {σ τ : MSt} (h : SC σ τ) : TR σ τ := ⟨h.1, fun k _ hk => h.2.1 k hk, fun j _ => congrFun (h.2.1 1 (by decide)) j, h.2.2⟩
theorem TR.rw {σ τ : MSt} (h : TR σ τ) (h0 : σ.1 2 = 0) : rw_ τ = rw_ σ := by
  funext j
  show (if 0 ≤ j ∧ j < 186 then τ.2 1 (τ.1 2 + j).toNat else 0) = (if 0 ≤ j ∧ j < 186 then σ.2 1 (σ.1 2 + j).toNat else 0)
  split
  · rw [h.1 2 (by decide), h0]
    exact h.2.2.1 _ (by omega)
  · rfl
theorem TR.toR {σ τ : MSt} (h : TR σ τ) (h0 : σ.1 2 = 0) (hr : mR σ) : mR τ := by
  unfold mR mAt
  rw [h.rw h0, h.1 2 (by decide), h.1 5 (by decide), h.2.1 7 (by decide) (by decide)]
  exact hr
/-- a trial that is ended -/
theorem TR.back {σ τ : MSt} (h0 : σ.1 2 = 0) (h : (∀ j, j ≠ 2 → j < 27 ∨ 31 < j → τ.1 j = σ.1 j) ∧ (∀ k, k ≠ 1 → k < 32 ∨ 35 < k → τ.2 k = σ.2 k) ∧ (∀ j, j < 186 ∨ 372 ≤ j → τ.2 1 j = σ.2 1 j) ∧ (mT σ → mT τ)) : TR σ (sF τ 2 0) := by
  refine ⟨fun j hj => ?_, h.2.1, h.2.2.1, h.2.2.2⟩
  show (if j = 2 then 0 else τ.1 j) = _
  split
  · next e => rw [e, h0]
  · next e => exact h.1 j e hj
/-- in a trial -/
def TI (σ τ : MSt) : Prop := (∀ j, j ≠ 2 → j < 27 ∨ 31 < j → τ.1 j = σ.1 j) ∧ (∀ k, k ≠ 1 → k < 32 ∨ 35 < k → τ.2 k = σ.2 k) ∧ (∀ j, j < 186 ∨ 372 ≤ j → τ.2 1 j = σ.2 1 j) ∧ (mT σ → mT τ)
theorem TI.beg (σ : MSt) : TI σ (k_beginTrial σ) := by
  refine ⟨fun j h _ => if_neg h, fun k h _ => ?_, fun j hj => ?_, fun h => h⟩
  · show va_up σ.2 1 _ k = σ.2 k
    rw [va_up_at, if_neg h]
  · show cpR (σ.2 1) (186 * 0) (186 * 1) 186 j = σ.2 1 j
    rw [cpR_at _ (by decide) (by decide) _ _ (by decide), if_neg (by omega)]
theorem TI.sc {σ τ υ : MSt} (h : TI σ τ) (h2 : SC τ υ) : TI σ υ := ⟨fun j h1 hj => (h2.1 j hj).trans (h.1 j h1 hj), fun k h1 hk => (h2.2.1 k hk).trans (h.2.1 k h1 hk), fun j hj => (congrFun (h2.2.1 1 (by decide)) j).trans (h.2.2.1 j hj), fun q => h2.2.2 (h.2.2.2 q)⟩
theorem TI.R1 {σ τ : MSt} (h : TI σ τ) {f : Nat → Int} (hf : ∀ j, j < 186 ∨ 372 ≤ j → f j = τ.2 1 j) : TI σ (sR τ 1 f) := by
  refine ⟨h.1, fun k h1 hk => ?_, fun j hj => (hf j hj).trans (h.2.2.1 j hj), h.2.2.2⟩
  show va_up τ.2 1 f k = _
  rw [va_up_at, if_neg h1]
  exact h.2.1 k h1 hk
theorem TI.mv {σ τ : MSt} (h : TI σ τ) (ha : τ.1 2 = 186) {c f : Int} (hc : 0 ≤ c ∧ c < 20) : TI σ (k_mv c f τ) := h.R1 fun j hj => by rw [va_up_at, if_neg (by omega)]
theorem TI.back {σ τ : MSt} (h0 : σ.1 2 = 0) (h : TI σ τ) : TR σ (sF τ 2 0) := TR.back h0 h
/-- n numbers from place o + i on, each the one e places behind -/
def rmR (f : Nat → Int) (o e : Int) : Nat → (Nat → Int)
  | 0 => f
  | n + 1 => va_up (rmR f o e n) (o + n).toNat (rmR f o e n (o + n + e).toNat)
theorem rmR_at (f : Nat → Int) {o e : Int} (ho : 0 ≤ o) (he : 0 ≤ e) : ∀ (n j : Nat), rmR f o e n j = if o ≤ j ∧ (j : Int) < o + n then f (j + e).toNat else f j := by
  intro n
  induction n with
  | zero => intro j; rw [if_neg (by omega)]; rfl
  | succ n ih =>
    intro j
    simp only [rmR, va_up_at]
    by_cases hj : j = (o + n).toNat
    · rw [if_pos hj, if_pos (by omega), ih, if_neg (by omega)]
      exact congrArg f (by omega)
    · rw [if_neg hj, ih]
      by_cases h2 : o ≤ (j : Int) ∧ (j : Int) < o + n
      · rw [if_pos h2, if_pos (by omega)]
      · rw [if_neg h2, if_neg (by omega)]
def k_removes (b e m k : Int) (σ : MSt) : MSt := sR σ 1 (rmR (σ.2 1) (σ.1 2 + (b + e * k)) e (e * (m - 1) - e * k).toNat)
/-- a row out of which e places at p are gone, up to place q -/
def rmv (ρ : Int → Int) (p q e : Int) : Int → Int := fun j => if p ≤ j ∧ j < q then ρ (j + e) else ρ j
theorem k_removes_rw {σ : MSt} (ha : mAt σ) {b e m k : Int} (hb : 0 ≤ b + e * k) (hm : b + e * (m - 1) + e ≤ 186) (he : 0 ≤ e) : rw_ (k_removes b e m k σ) = rmv (rw_ σ) (b + e * k) (b + e * (m - 1)) e := by
  have ha' : σ.1 2 = 0 ∨ σ.1 2 = 186 := ha
  funext j
  show (if 0 ≤ j ∧ j < 186 then rmR (σ.2 1) (σ.1 2 + (b + e * k)) e (e * (m - 1) - e * k).toNat (σ.1 2 + j).toNat else 0) = (if b + e * k ≤ j ∧ j < b + e * (m - 1) then rw_ σ (j + e) else rw_ σ j)
  rw [rmR_at _ (by omega) he]
  unfold rw_
  by_cases h1 : 0 ≤ j ∧ j < 186
  · rw [if_pos h1]
    by_cases h2 : b + e * k ≤ j ∧ j < b + e * (m - 1)
    · rw [if_pos h2, if_pos (by omega), if_pos (by omega)]
      exact congrArg (σ.2 1) (by omega)
    · rw [if_neg h2, if_neg (by omega), if_pos h1]
  · rw [if_neg h1, if_neg (by omega), if_neg h1]
theorem l_removes {l : Launch} {g : AG} {C : MCx} (hC : MOK C) (σ : MSt) (b e m k : Int) (ha : mAt σ) (hb : 0 ≤ b + e * k) (hm : b + e * (m - 1) + e ≤ 186) (he : 0 ≤ e) (hR : Rg (e * (m - 1)) ∧ Rg (e * k)) : ∀ (n i : Nat), (i : Int) + n = (e * (m - 1) - e * k).toNat → AWc l g miX4_removes 11 0 0 (fun r2 h2 => r2 = none ∧ h2 = mh C (k_removes b e m k σ)) (fun _ _ _ => False) 0 0 (mh C (sR σ 1 (rmR (σ.2 1) (σ.1 2 + (b + e * k)) e i))) 6 [some (.ref C.1), some (iv b), some (iv e), some (iv m), some (iv k), some (iv (e * k + i))] [] := by
  have ha' : σ.1 2 = 0 ∨ σ.1 2 = 186 := ha
  intro n
  induction n with
  | zero =>
    intro i hi
    have hi2 : (e * (m - 1) - e * k).toNat = i := by omega
    unfold k_removes
    rw [hi2]
    refine aw_iload 8 dX4_removes_6 rfl rfl ?_
    refine aw_iload_n 9 dX4_removes_8 rfl rfl ?_
    refine aw_iload_n 10 dX4_removes_9 rfl rfl ?_
    refine aw_iconst 11 dX4_removes_10 rfl ?_
    refine aw_isub 12 dX4_removes_11 rfl ?_
    refine aw_imul 13 dX4_removes_12 rfl ?_
    refine aw_icmp_ge 40 16 (by omega) dX4_removes_13 rfl rfl (fun c_13 => ?_) (fun c_13 => absurd c_13 (by omega))
    exact aw_xv (rfl) rfl dX4_removes_40
  | succ n ih =>
    intro i hi
    have ih := ih (i + 1) (by omega)
    have hu : rmR (σ.2 1) (σ.1 2 + (b + e * k)) e (i + 1) = va_up (rmR (σ.2 1) (σ.1 2 + (b + e * k)) e i) (σ.1 2 + (b + e * k) + i).toNat (rmR (σ.2 1) (σ.1 2 + (b + e * k)) e i (σ.1 2 + (b + e * k) + i + e).toNat) := rfl
    refine aw_iload 8 dX4_removes_6 rfl rfl ?_
    refine aw_iload_n 9 dX4_removes_8 rfl rfl ?_
    refine aw_iload_n 10 dX4_removes_9 rfl rfl ?_
    refine aw_iconst 11 dX4_removes_10 rfl ?_
    refine aw_isub 12 dX4_removes_11 rfl ?_
    refine aw_imul 13 dX4_removes_12 rfl ?_
    refine aw_icmp_ge 40 16 (by omega) dX4_removes_13 rfl rfl (fun c_13 => absurd c_13 (by omega)) (fun c_13 => ?_)
    refine aw_aload_n 17 dX4_removes_16 rfl rfl ?_
    refine aw_iload_n 18 dX4_removes_17 rfl rfl ?_
    refine aw_iload 20 dX4_removes_18 rfl rfl ?_
    refine aw_iadd 21 dX4_removes_20 rfl ?_
    refine aw_aload_n 22 dX4_removes_21 rfl rfl ?_
    refine aw_iload_n 23 dX4_removes_22 rfl rfl ?_
    refine aw_iload 25 dX4_removes_23 rfl rfl ?_
    refine aw_iadd 26 dX4_removes_25 rfl ?_
    refine aw_iload_n 27 dX4_removes_26 rfl rfl ?_
    refine aw_iadd 28 dX4_removes_27 rfl ?_
    refine aw_xV 31 (m_get hC (sR σ 1 (rmR (σ.2 1) (σ.1 2 + (b + e * k)) e i)) (b + (e * k + i) + e) (by show 0 ≤ σ.1 2 + (b + (e * k + i) + e) ∧ σ.1 2 + (b + (e * k + i) + e) < 2232; omega)) mvX4_get q2263 (rdl (mh_obj _ _)) rfl rfl rfl (by decide) (by decide) (Nat.le_refl _) (Nat.le_refl _) rfl (Nat.le_of_ble_eq_true rfl) dX4_removes_28 rfl ?_
    refine aw_xVv 34 (m_set hC (sR σ 1 (rmR (σ.2 1) (σ.1 2 + (b + e * k)) e i)) (b + (e * k + i)) _ (by show 0 ≤ σ.1 2 + (b + (e * k + i)) ∧ σ.1 2 + (b + (e * k + i)) < 2232; omega)) mvX4_set q2547 (rdl (mh_obj _ _)) rfl rfl rfl (by decide) (by decide) (Nat.le_refl _) (Nat.le_refl _) rfl (Nat.le_of_ble_eq_true rfl) dX4_removes_31 rfl ?_
    refine aw_iinc 37 dX4_removes_34 rfl rfl (as_5 rfl) (by decide) ?_
    refine aw_goto 6 dX4_removes_37 rfl ?_
    rw [sR_sR]; rw [hu] at ih; refine aw_h (congrArg (fun f => mh C (sR σ 1 f)) (show va_up (rmR (σ.2 1) (σ.1 2 + (b + e * k)) e i) (σ.1 2 + (b + (e * k + i))).toNat (rmR (σ.2 1) (σ.1 2 + (b + e * k)) e i (σ.1 2 + (b + (e * k + i) + e)).toNat) = va_up (rmR (σ.2 1) (σ.1 2 + (b + e * k)) e i) (σ.1 2 + (b + e * k) + i).toNat (rmR (σ.2 1) (σ.1 2 + (b + e * k)) e i (σ.1 2 + (b + e * k) + i + e).toNat) from by rw [show σ.1 2 + (b + (e * k + i)) = σ.1 2 + (b + e * k) + i by omega, show σ.1 2 + (b + (e * k + i) + e) = σ.1 2 + (b + e * k) + i + e by omega])) ?_; rw [show e * k + (i : Int) + 1 = e * k + ((i + 1 : Nat) : Int) by omega]; exact ih
theorem m_removes {l : Launch} {g : AG} {C : MCx} (hC : MOK C) (σ : MSt) (b e m k : Int) (ha : mAt σ) (hb : 0 ≤ b + e * k) (hm : b + e * (m - 1) + e ≤ 186) (he : 0 ≤ e) (hR : Rg (e * (m - 1)) ∧ Rg (e * k)): AMx l g miX4_removes 11 [.ref C.1, iv b, iv e, iv m, iv k] (mh C σ) (none) (mh C (k_removes b e m k σ)) := by
  refine aw_start 1 (by decide) rfl (Nat.le_of_ble_eq_true rfl) ?_
  show AWc l g miX4_removes 11 0 0 _ _ 0 0 (mh C σ) 0 [some (.ref C.1), some (iv b), some (iv e), some (iv m), some (iv k), none] []
  refine aw_iload_n 1 dX4_removes_0 rfl rfl ?_
  refine aw_iload 3 dX4_removes_1 rfl rfl ?_
  refine aw_imul 4 dX4_removes_3 rfl ?_
  refine aw_istore 6 dX4_removes_4 rfl (as_5 rfl) (by decide) ?_
  refine aw_h (congrArg (mh C) (sR_id (σ := σ) (k := 1) rfl).symm) ?_
  rw [show e * k = e * k + ((0 : Nat) : Int) by omega]
  exact l_removes hC σ b e m k ha hb hm he hR (e * (m - 1) - e * k).toNat 0 (by omega)
def k_set (k v : Int) (σ : MSt) : MSt := sR σ 1 (va_up (σ.2 1) (σ.1 2 + k).toNat v)
def k_removesCue (c : Int) (σ : MSt) : MSt := k_set 8 (r_nC (rw_ σ) - 1) (k_removes 9 7 (r_nC (rw_ σ)) c σ)
/-- a row out of which a cue is gone -/
def rmC (ρ : Int → Int) (c : Int) : Int → Int := rU (rmv ρ (9 + 7 * c) (9 + 7 * (r_nC ρ - 1)) 7) 8 (r_nC ρ - 1)
theorem k_removesCue_rw {σ : MSt} (hr : mR σ) {c : Int} (hc : isCu σ c) : rw_ (k_removesCue c σ) = rmC (rw_ σ) c := by
  have h20 := hr.nC
  have hc1 := hc.1
  have hc2 := hc.2
  have h1 : mAt (k_removes 9 7 (r_nC (rw_ σ)) c σ) := hr.1
  unfold k_removesCue k_set rmC
  rw [rw_up h1 _ (by decide), k_removes_rw hr.1 (by omega) (by omega) (by decide)]
theorem rmC_f (ρ : Int → Int) {c : Int} (hn : r_nC ρ ≤ 20) (hc : 0 ≤ c ∧ c < r_nC ρ) : (∀ a, a < 4 → r_sp (rmC ρ c) a = r_sp ρ a) ∧ (∀ a, a < 4 → r_rp (rmC ρ c) a = r_rp ρ a) ∧ r_nC (rmC ρ c) = r_nC ρ - 1 ∧ r_nW (rmC ρ c) = r_nW ρ ∧ (∀ x k, 0 ≤ x → 0 ≤ k → r_w (rmC ρ c) x k = r_w ρ x k) ∧ ∀ x, 0 ≤ x → x < r_nC ρ - 1 → r_fr (rmC ρ c) x = r_fr ρ (if x < c then x else x + 1) ∧ r_ln (rmC ρ c) x = r_ln ρ (if x < c then x else x + 1) ∧ r_hs (rmC ρ c) x = r_hs ρ (if x < c then x else x + 1) ∧ ∀ b, 0 ≤ b → b < 4 → r_tg (rmC ρ c) x b = r_tg ρ (if x < c then x else x + 1) b := by
  refine ⟨fun a _ => ?_, fun a _ => ?_, ?_, ?_, fun x k _ _ => ?_, fun x _ _ => ⟨?_, ?_, ?_, fun b _ _ => ?_⟩⟩
  all_goals
    unfold rmC
    generalize r_nC ρ = N at *
    simp only [r_sp, r_rp, r_nC, r_nW, r_w, r_fr, r_ln, r_hs, r_tg, rU, rmv]
    (repeat' split) <;> first | rfl | (exfalso; omega) | exact absurd trivial (by assumption) | exact congrArg ρ (by omega)
theorem RI_rmC {n : Int} {ρ : Int → Int} (h : RI n ρ) (h4 : n ≤ 4) {c : Int} (hc : 0 ≤ c ∧ c < r_nC ρ) : RI n (rmC ρ c) := by
  have h20 := h.2.1
  obtain ⟨e1, e2, e3, e4, e5, e6⟩ := rmC_f ρ h20.2 hc
  refine ⟨fun a a0 a1 => by rw [e1 a (by omega), e2 a (by omega)]; exact h.1 a a0 a1, by rw [e3]; omega, fun x x0 x1 => ?_, by rw [e4]; exact h.2.2.2.1, fun w w0 w1 => ?_⟩
  · rw [e3] at x1
    obtain ⟨f1, f2, f3, f4⟩ := e6 x x0 x1
    exact cuOk_cg f1 f2 f3 f4 (h.2.2.1 _ (by split <;> omega) (by split <;> omega))
  · rw [e4] at w1
    have q := h.2.2.2.2 w w0 w1
    unfold waOk at *
    rw [e5 w 0 w0 (by decide), e5 w 1 w0 (by decide), e5 w 2 w0 (by decide), e5 w 3 w0 (by decide), e5 w 4 w0 (by decide), e5 w 5 w0 (by decide)]
    exact q
theorem k_removesCue_mR {σ : MSt} (hr : mR σ) {c : Int} (hc : isCu σ c) : mR (k_removesCue c σ) := by
  refine ⟨hr.1, hr.2.1, ?_, hr.2.2.2⟩
  rw [k_removesCue_rw hr hc]
  exact RI_rmC hr.2.2.1 hr.2.1.2 hc
theorem m_removesCue {l : Launch} {g : AG} {C : MCx} (hC : MOK C) (σ : MSt) (c : Int) (hr : mR σ) (hc : isCu σ c): AMx l g miX4_removesCue 12 [.ref C.1, iv c] (mh C σ) (none) (mh C (k_removesCue c σ)) := by
  refine aw_start 0 (by decide) rfl (Nat.le_of_ble_eq_true rfl) ?_
  show AWc l g miX4_removesCue 12 0 0 _ _ 0 0 (mh C σ) 0 [some (.ref C.1), some (iv c)] []
  have h20 := hr.nC
  have hc1 := hc.1
  have hc2 := hc.2
  have h1 : mAt (k_removes 9 7 (r_nC (rw_ σ)) c σ) := hr.1
  have h1' : σ.1 2 = 0 ∨ σ.1 2 = 186 := hr.1
  have h3 : r_nC (rw_ (k_removes 9 7 (r_nC (rw_ σ)) c σ)) = r_nC (rw_ σ) := by
    rw [k_removes_rw hr.1 (by omega) (by omega) (by decide)]
    exact if_neg (by omega)
  refine aw_aload_n 1 dX4_removesCue_0 rfl rfl ?_
  refine aw_bipush 3 dX4_removesCue_1 rfl (by decide) ?_
  refine aw_bipush 5 dX4_removesCue_3 rfl (by decide) ?_
  refine aw_aload_n 6 dX4_removesCue_5 rfl rfl ?_
  refine aw_xV 9 (m_nC hC _ hr.1) mvX4_cueMany q2259 (rdl (mh_obj _ _)) rfl rfl rfl (by decide) (by decide) (Nat.le_refl _) (Nat.le_refl _) rfl (Nat.le_of_ble_eq_true rfl) dX4_removesCue_6 rfl ?_
  refine aw_iload_n 10 dX4_removesCue_9 rfl rfl ?_
  refine aw_xVv 13 (m_removes hC σ 9 7 (r_nC (rw_ σ)) c hr.1 (by omega) (by omega) (by decide) (by omega)) mvX4_removes q2567 (rdl (mh_obj _ _)) rfl rfl rfl (by decide) (by decide) (Nat.le_refl _) (Nat.le_refl _) rfl (Nat.le_of_ble_eq_true rfl) dX4_removesCue_10 rfl ?_
  refine aw_aload_n 14 dX4_removesCue_13 rfl rfl ?_
  refine aw_bipush 16 dX4_removesCue_14 rfl (by decide) ?_
  refine aw_aload_n 17 dX4_removesCue_16 rfl rfl ?_
  refine aw_xV 20 (m_nC hC _ h1) mvX4_cueMany q2259 (rdl (mh_obj _ _)) rfl rfl rfl (by decide) (by decide) (Nat.le_refl _) (Nat.le_refl _) rfl (Nat.le_of_ble_eq_true rfl) dX4_removesCue_17 rfl ?_
  rw [h3]
  refine aw_iconst 21 dX4_removesCue_20 rfl ?_
  refine aw_isub 22 dX4_removesCue_21 rfl ?_
  refine aw_xVv 25 (m_set hC (k_removes 9 7 (r_nC (rw_ σ)) c σ) 8 _ (by show 0 ≤ σ.1 2 + 8 ∧ σ.1 2 + 8 < 2232; omega)) mvX4_set q2547 (rdl (mh_obj _ _)) rfl rfl rfl (by decide) (by decide) (Nat.le_refl _) (Nat.le_refl _) rfl (Nat.le_of_ble_eq_true rfl) dX4_removesCue_22 rfl ?_
  exact aw_xv (rfl) rfl dX4_removesCue_25
theorem TI.rm {σ τ : MSt} (h : TI σ τ) (ha : τ.1 2 = 186) (hr : mR τ) {c : Int} (hc : isCu τ c) : TI σ (k_removesCue c τ) := by
  have h20 := hr.nC
  have hc1 := hc.1
  have hc2 := hc.2
  have h1 : TI σ (k_removes 9 7 (r_nC (rw_ τ)) c τ) := h.R1 fun j hj => by
    rw [rmR_at _ (by omega) (by decide), if_neg (by omega)]
  exact h1.R1 fun j hj => by
    rw [va_up_at, if_neg (show ¬ j = ((k_removes 9 7 (r_nC (rw_ τ)) c τ).1 2 + 8).toNat by show ¬ j = (τ.1 2 + 8).toNat; omega)]
/-- one axis of mostSaved -/
def kMS1 (c a : Int) (σ : MSt) : MSt := sF (k_lays a (k_removesCue c (k_beginTrial (k_lays a σ)))) 2 0
def kMS (c : Int) (σ : MSt) : Nat → MSt
  | 0 => σ
  | n + 1 => kMS1 c n (kMS c σ n)
/-- what a cue costs an axis -/
def svF (σ : MSt) (c a : Int) : Int := trF σ a 999 - trF (k_removesCue c (k_beginTrial σ)) a 999
theorem trF_cg {σ τ : MSt} (h1 : rw_ τ = rw_ σ) (h2 : τ.2 7 = σ.2 7) : trF τ = trF σ := by
  funext a
  unfold trF
  rw [spA_cg h1 h2]
theorem rw_trial {σ τ : MSt} (h : TR σ τ) (h0 : σ.1 2 = 0) (hr : mR σ) {c : Int} (hc : isCu σ c) : rw_ (k_removesCue c (k_beginTrial τ)) = rw_ (k_removesCue c (k_beginTrial σ)) := by
  have hρ := h.rw h0
  have hrt := h.toR h0 hr
  have h2 : τ.1 2 = 0 := (h.1 2 (by decide)).trans h0
  have e1 := k_beginTrial_rw h0
  have e2 := k_beginTrial_rw h2
  rw [k_removesCue_rw (k_beginTrial_mR hr h0) (by unfold isCu; rw [e1]; exact hc), k_removesCue_rw (k_beginTrial_mR hrt h2) (by unfold isCu; rw [e2, hρ]; exact hc), e1, e2, hρ]
theorem kMS1_ok {σ : MSt} (hr : mR σ) (h0 : σ.1 2 = 0) {c a : Int} (hc : isCu σ c) (ha : isAx σ a) : TR σ (kMS1 c a σ) := by
  obtain ⟨h1, -⟩ := k_lays_ok hr ha
  have hr1 := h1.toR hr
  have h2 : (k_lays a σ).1 2 = 0 := (h1.1 2 (by decide)).trans h0
  have hr2 := k_beginTrial_mR hr1 h2
  have e2 := k_beginTrial_rw h2
  have hc2 : isCu (k_beginTrial (k_lays a σ)) c := by unfold isCu; rw [e2, h1.rw]; exact hc
  have hr3 := k_removesCue_mR hr2 hc2
  have h4 := (k_lays_ok hr3 (a := a) (h1.ax ha)).1
  refine h1.trl.tr (TI.back h2 ?_)
  exact ((TI.beg _).rm rfl hr2 hc2).sc h4
theorem kMS_ok {σ : MSt} (hr : mR σ) (h0 : σ.1 2 = 0) {c : Int} (hc : isCu σ c) : ∀ n : Nat, (n : Int) ≤ σ.1 5 → TR σ (kMS c σ n) := by
  intro n
  induction n with
  | zero => intro _; exact TR.rf σ
  | succ n ih =>
    intro h
    have i := ih (by omega)
    refine i.tr (kMS1_ok (i.toR h0 hr) ((i.1 2 (by decide)).trans h0) (by unfold isCu; rw [i.rw h0]; exact hc) (by unfold isAx; rw [i.1 5 (by decide)]; omega))
/-- the axis of the first n that a cue costs the most, and how much -/
def msF (σ : MSt) (c : Int) : Nat → Int × Int
  | 0 => (-1, 0)
  | n + 1 => if (msF σ c n).2 < svF σ c n then ((n : Int), svF σ c n) else msF σ c n
theorem svF_rg {σ : MSt} (hr : mR σ) (h0 : σ.1 2 = 0) {c a : Int} (hc : isCu σ c) (ha : isAx σ a) : -98901 ≤ svF σ c a ∧ svF σ c a ≤ 98901 := by
  have hr2 := k_beginTrial_mR hr h0
  have hr3 := k_removesCue_mR hr2 (c := c) (by unfold isCu; rw [k_beginTrial_rw h0]; exact hc)
  have h1 := trF_rg hr ha 999 (Nat.le_refl _)
  have h2 := trF_rg hr3 (a := a) ha 999 (Nat.le_refl _)
  unfold svF
  omega
theorem msF_rg {σ : MSt} (hr : mR σ) (h0 : σ.1 2 = 0) {c : Int} (hc : isCu σ c) : ∀ n : Nat, (n : Int) ≤ σ.1 5 → 0 ≤ (msF σ c n).2 ∧ (msF σ c n).2 ≤ 98901 := by
  intro n
  induction n with
  | zero => intro _; exact ⟨Int.le_refl 0, (by decide : (0 : Int) ≤ 98901)⟩
  | succ n ih =>
    intro h
    have i := ih (by omega)
    have s := svF_rg hr h0 hc (a := (n : Int)) ⟨by omega, by omega⟩
    simp only [msF]
    split
    · exact ⟨by omega, s.2⟩
    · exact i
theorem l_most {l : Launch} {g : AG} {C : MCx} (hC : MOK C) (σ : MSt) (c : Int) (hr : mR σ) (hT : mT σ) (h0 : σ.1 2 = 0) (hc : isCu σ c) : ∀ (n i : Nat) (o5 o6 : Option Value), (i : Int) + n = σ.1 5 → AWc l g miX4_mostSaved 17 0 0 (fun r2 h2 => r2 = some (iv (msF σ c (σ.1 5).toNat).1) ∧ h2 = mh C (kMS c σ (σ.1 5).toNat)) (fun _ _ _ => False) 0 0 (mh C (kMS c σ i)) 26 [some (.ref C.1), some (iv c), some (iv (msF σ c i).1), some (iv (msF σ c i).2), some (iv i), o5, o6] [] := by
  have h5 := hr.2.1
  intro n
  induction n with
  | zero =>
    intro i o5 o6 hi
    have e : (σ.1 5).toNat = i := by omega
    have hk := kMS_ok hr h0 hc i (by omega)
    rw [e]
    refine aw_iload 28 dX4_mostSaved_26 rfl rfl ?_
    refine aw_aload_n 29 dX4_mostSaved_28 rfl rfl ?_
    refine aw_get 32 ci4 5 (by decide) q2036 (Or.inl rfl) (rdl (mh_obj _ _)) rfl dX4_mostSaved_29 rfl ?_
    refine aw_st (show _ = [iv (σ.1 5), iv (i : Int)] from congrArg (fun x => [iv x, iv (i : Int)]) (hk.1 5 (by decide))) ?_
    refine aw_icmp_ge 89 35 (by omega) dX4_mostSaved_32 rfl rfl (fun c_32 => ?_) (fun c_32 => absurd c_32 (by omega))
    refine aw_iload_n 90 dX4_mostSaved_89 rfl rfl ?_
    exact aw_xi (by rfl) (rfl) rfl dX4_mostSaved_90
  | succ n ih =>
    intro i o5 o6 hi
    have ih := fun o5 o6 => ih (i + 1) o5 o6 (by omega)
    have hk := kMS_ok hr h0 hc i (by omega)
    have hs := svF_rg hr h0 hc (a := (i : Int)) ⟨by omega, by omega⟩
    have hm := msF_rg hr h0 hc i (by omega)
    have hrt := hk.toR h0 hr
    have hTt := hk.2.2.2 hT
    have hρ := hk.rw h0
    have h0t : (kMS c σ i).1 2 = 0 := (hk.1 2 (by decide)).trans h0
    have hct : isCu (kMS c σ i) c := by unfold isCu; rw [hρ]; exact hc
    have hax : isAx (kMS c σ i) i := by unfold isAx; rw [hk.1 5 (by decide)]; omega
    obtain ⟨h1, -⟩ := k_lays_ok hrt hax
    have hr1 := h1.toR hrt
    have h2 : (k_lays i (kMS c σ i)).1 2 = 0 := (h1.1 2 (by decide)).trans h0t
    have hr2 := k_beginTrial_mR hr1 h2
    have e2 := k_beginTrial_rw h2
    have hc2 : isCu (k_beginTrial (k_lays i (kMS c σ i))) c := by unfold isCu; rw [e2, h1.rw]; exact hct
    have hr3 := k_removesCue_mR hr2 hc2
    have t1 : trF (kMS c σ i) i 999 = trF σ i 999 := congrFun (congrFun (trF_cg hρ (hk.2.1 7 (by decide) (by decide))) _) _
    have t2 : trF (k_removesCue c (k_beginTrial (k_lays i (kMS c σ i)))) i 999 = trF (k_removesCue c (k_beginTrial σ)) i 999 := congrFun (congrFun (trF_cg (rw_trial (hk.tr h1.trl) h0 hr hc) ((hk.tr h1.trl).2.1 7 (by decide) (by decide))) _) _
    refine aw_iload 28 dX4_mostSaved_26 rfl rfl ?_
    refine aw_aload_n 29 dX4_mostSaved_28 rfl rfl ?_
    refine aw_get 32 ci4 5 (by decide) q2036 (Or.inl rfl) (rdl (mh_obj _ _)) rfl dX4_mostSaved_29 rfl ?_
    refine aw_st (show _ = [iv (σ.1 5), iv (i : Int)] from congrArg (fun x => [iv x, iv (i : Int)]) (hk.1 5 (by decide))) ?_
    refine aw_icmp_ge 89 35 (by omega) dX4_mostSaved_32 rfl rfl (fun c_32 => absurd c_32 (by omega)) (fun c_32 => ?_)
    refine aw_aload_n 36 dX4_mostSaved_35 rfl rfl ?_
    refine aw_iload 38 dX4_mostSaved_36 rfl rfl ?_
    refine aw_xV 41 (m_travelledBy hC _ _ hrt hTt hax) mvX4_travelledBy q2452 (rdl (mh_obj _ _)) rfl rfl rfl (by decide) (by decide) (Nat.le_refl _) (Nat.le_refl _) rfl (Nat.le_of_ble_eq_true rfl) dX4_mostSaved_38 rfl ?_
    rw [t1]
    refine aw_istore 43 dX4_mostSaved_41 rfl (as_5 rfl) (by decide) ?_
    refine aw_aload_n 44 dX4_mostSaved_43 rfl rfl ?_
    refine aw_xVv 47 (m_beginTrial hC _) mvX4_beginTrial q2539 (rdl (mh_obj _ _)) rfl rfl rfl (by decide) (by decide) (Nat.le_refl _) (Nat.le_refl _) rfl (Nat.le_of_ble_eq_true rfl) dX4_mostSaved_44 rfl ?_
    refine aw_aload_n 48 dX4_mostSaved_47 rfl rfl ?_
    refine aw_iload_n 49 dX4_mostSaved_48 rfl rfl ?_
    refine aw_xVv 52 (m_removesCue hC _ _ hr2 hc2) mvX4_removesCue q2563 (rdl (mh_obj _ _)) rfl rfl rfl (by decide) (by decide) (Nat.le_refl _) (Nat.le_refl _) rfl (Nat.le_of_ble_eq_true rfl) dX4_mostSaved_49 rfl ?_
    refine aw_iload 54 dX4_mostSaved_52 rfl rfl ?_
    refine aw_aload_n 55 dX4_mostSaved_54 rfl rfl ?_
    refine aw_iload 57 dX4_mostSaved_55 rfl rfl ?_
    refine aw_xV 60 (m_travelledBy hC _ _ hr3 (h1.2.2 hTt) (h1.ax hax)) mvX4_travelledBy q2452 (rdl (mh_obj _ _)) rfl rfl rfl (by decide) (by decide) (Nat.le_refl _) (Nat.le_refl _) rfl (Nat.le_of_ble_eq_true rfl) dX4_mostSaved_57 rfl ?_
    rw [t2]
    refine aw_isub 61 dX4_mostSaved_60 rfl ?_
    refine aw_st (show _ = [iv (svF σ c i)] from rfl) ?_
    refine aw_istore 63 dX4_mostSaved_61 rfl (as_6 rfl) (by decide) ?_
    refine aw_aload_n 64 dX4_mostSaved_63 rfl rfl ?_
    refine aw_iconst 65 dX4_mostSaved_64 rfl ?_
    refine aw_put 68 ci4 2 (by decide) q2033 (Or.inl rfl) rfl rfl rfl (Nat.le_of_ble_eq_true rfl) (mh_obj _ _) dX4_mostSaved_65 rfl ?_
    refine aw_h (mhp_2 _ _ _) ?_
    refine aw_h (show _ = mh C (kMS c σ (i + 1)) from rfl) ?_
    refine aw_iload 70 dX4_mostSaved_68 rfl rfl ?_
    refine aw_iload_n 71 dX4_mostSaved_70 rfl rfl ?_
    refine aw_icmp_gt 77 74 (by omega) dX4_mostSaved_71 rfl rfl (fun c_71 => ?_) (fun c_71 => ?_)
    · refine aw_iload 79 dX4_mostSaved_77 rfl rfl ?_
      refine aw_istore_n 80 dX4_mostSaved_79 rfl (as_2 rfl) (by decide) ?_
      refine aw_iload 82 dX4_mostSaved_80 rfl rfl ?_
      refine aw_istore_n 83 dX4_mostSaved_82 rfl (as_3 rfl) (by decide) ?_
      refine aw_iinc 86 dX4_mostSaved_83 rfl rfl (as_4 rfl) (by decide) ?_
      refine aw_goto 26 dX4_mostSaved_86 rfl ?_
      first | (rw [show msF σ c (i + 1) = ((i : Int), svF σ c i) from if_pos (by assumption)] at ih; exact ih _ _) | (rw [show msF σ c (i + 1) = msF σ c i from if_neg (by omega)] at ih; exact ih _ _)
    · refine aw_goto 83 dX4_mostSaved_74 rfl ?_
      refine aw_iinc 86 dX4_mostSaved_83 rfl rfl (as_4 rfl) (by decide) ?_
      refine aw_goto 26 dX4_mostSaved_86 rfl ?_
      first | (rw [show msF σ c (i + 1) = ((i : Int), svF σ c i) from if_pos (by assumption)] at ih; exact ih _ _) | (rw [show msF σ c (i + 1) = msF σ c i from if_neg (by omega)] at ih; exact ih _ _)
def o_mostSaved (c : Int) (σ : MSt) : Int × Int := if isCu σ c then (0, (msF σ c (σ.1 5).toNat).1) else (1, 0)
def k_mostSaved (c : Int) (σ : MSt) : MSt := if isCu σ c then kMS c σ (σ.1 5).toNat else σ
theorem m_mostSaved {l : Launch} {g : AG} {C : MCx} (hC : MOK C) (σ : MSt) (c : Int) (hr : mR σ) (hT : mT σ) (h2 : σ.1 2 = 0) (hc : Rg c): AMx l g miX4_mostSaved 17 [.ref C.1, iv c] (mh C σ) (some (iv (o_mostSaved c (sF σ 0 0)).2)) (mh C (sF (k_mostSaved c (sF σ 0 0)) 0 (o_mostSaved c (sF σ 0 0)).1)) := by
  refine aw_start 5 (by decide) rfl (Nat.le_of_ble_eq_true rfl) ?_
  show AWc l g miX4_mostSaved 17 0 0 _ _ 0 0 (mh C σ) 0 [some (.ref C.1), some (iv c), none, none, none, none, none] []
  have h0 : (sF σ 0 0).1 0 = 0 := rfl
  have hr : mR (sF σ 0 0) := hr
  have hT : mT (sF σ 0 0) := hT
  have h2 : (sF σ 0 0).1 2 = 0 := h2
  refine aw_aload_n 1 dX4_mostSaved_0 rfl rfl ?_
  refine aw_iconst 2 dX4_mostSaved_1 rfl ?_
  refine aw_put 5 ci4 0 (by decide) q2031 (Or.inl rfl) rfl rfl rfl (Nat.le_of_ble_eq_true rfl) (mh_obj _ _) dX4_mostSaved_2 rfl ?_
  refine aw_h (mhp_0 _ _ _) ?_
  generalize sF σ 0 0 = σ at h0 hr hT h2 ⊢
  have h20 := hr.nC
  have h5 := hr.2.1
  refine aw_aload_n 6 dX4_mostSaved_5 rfl rfl ?_
  refine aw_iload_n 7 dX4_mostSaved_6 rfl rfl ?_
  refine aw_xV 10 (m_isCue hC _ _ hr (by omega)) mvX4_isCue q2295 (rdl (mh_obj _ _)) rfl rfl rfl (by decide) (by decide) (Nat.le_refl _) (Nat.le_refl _) rfl (Nat.le_of_ble_eq_true rfl) dX4_mostSaved_7 rfl ?_
  refine aw_if_neB 19 13 dX4_mostSaved_10 rfl rfl (fun c_10 => ?_) (fun c_10 => ?_)
  · refine aw_iconst 20 dX4_mostSaved_19 rfl ?_
    refine aw_istore_n 21 dX4_mostSaved_20 rfl (as_2 rfl) (by decide) ?_
    refine aw_iconst 22 dX4_mostSaved_21 rfl ?_
    refine aw_istore_n 23 dX4_mostSaved_22 rfl (as_3 rfl) (by decide) ?_
    refine aw_iconst 24 dX4_mostSaved_23 rfl ?_
    refine aw_istore 26 dX4_mostSaved_24 rfl (as_4 rfl) (by decide) ?_
    rw [show o_mostSaved c σ = (0, (msF σ c (σ.1 5).toNat).1) from if_pos (by assumption), show k_mostSaved c σ = kMS c σ (σ.1 5).toNat from if_pos (by assumption), sF_id (k := 0) (z := 0) (((kMS_ok hr h2 (by assumption) (σ.1 5).toNat (by omega)).1 0 (by decide)).trans h0)]
    exact l_most hC σ c hr hT h2 (by assumption) (σ.1 5).toNat 0 _ _ (by omega)
  · refine aw_aload_n 14 dX4_mostSaved_13 rfl rfl ?_
    refine aw_iconst 15 dX4_mostSaved_14 rfl ?_
    refine aw_xV 18 (m_fails hC _ _) mvX4_fails q2151 (rdl (mh_obj _ _)) rfl rfl rfl (by decide) (by decide) (Nat.le_refl _) (Nat.le_refl _) rfl (Nat.le_of_ble_eq_true rfl) dX4_mostSaved_15 rfl ?_
    exact aw_xi (by unfold o_mostSaved; rw [if_neg (by assumption)]) (by unfold o_mostSaved k_mostSaved; rw [if_neg (by assumption), if_neg (by assumption)]) rfl dX4_mostSaved_18
