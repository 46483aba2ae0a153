/-! CameraMovesModel: what reading a token keeps -/
set_option maxRecDepth 100000
/-- but for the token's own fields the state is the same -/
def TS (σ τ : MSt) : Prop := τ.2 = σ.2 ∧ ∀ j, j < 16 ∨ 20 < j → τ.1 j = σ.1 j
theorem TS.rf (σ : MSt) : TS σ σ := ⟨rfl, fun _ _ => rfl⟩
theorem TS.tr {a b c : MSt} (h1 : TS a b) (h2 : TS b c) : TS a c := ⟨h2.1.trans h1.1, fun j hj => (h2.2 j hj).trans (h1.2 j hj)⟩
theorem TS.F (σ : MSt) {k : Nat} (z : Int) (h : 16 ≤ k ∧ k ≤ 20) : TS σ (sF σ k z) := ⟨rfl, fun j hj => if_neg (by omega)⟩
/-- the token's own fields are well -/
def mTk (σ : MSt) : Prop := mTx σ ∧ (0 ≤ σ.1 18 ∧ σ.1 18 ≤ 5) ∧ (0 ≤ σ.1 19 ∧ σ.1 19 ≤ 9999) ∧ (0 ≤ σ.1 20 ∧ σ.1 20 < 1099511627776) ∧ (0 ≤ σ.1 17 ∧ σ.1 17 ≤ 600)
theorem p32 : ∀ m : Nat, m ≤ 8 → (32 : Int) ^ m ≤ 1099511627776 := by decide
theorem p10 : ∀ m : Nat, m ≤ 4 → (10 : Int) ^ m ≤ 10000 := by decide
theorem k_rw_ok : ∀ (f : Nat) (σ : MSt) (n : Int), mTx σ → 0 ≤ n → (0 ≤ σ.1 20 ∧ σ.1 20 < 1099511627776 ∧ (n ≤ 8 → σ.1 20 < 32 ^ n.toNat)) → mTx (k_rw f σ n).1 ∧ TS σ (k_rw f σ n).1 ∧ (k_rw f σ n).1.1 17 = σ.1 17 ∧ (k_rw f σ n).1.1 18 = σ.1 18 ∧ (k_rw f σ n).1.1 19 = σ.1 19 ∧ 0 ≤ (k_rw f σ n).1.1 20 ∧ (k_rw f σ n).1.1 20 < 1099511627776 := by
  intro f
  induction f with
  | zero => intro σ n ht hn hw; exact ⟨ht, TS.rf σ, rfl, rfl, rfl, hw.1, hw.2.1⟩
  | succ f ih =>
    intro σ n ht hn hw
    by_cases hL : isLe σ (σ.1 16)
    · rw [show k_rw (f + 1) σ n = k_rw f (sF (if n < 8 then sF σ 20 (32 * σ.1 20 + bya σ (σ.1 16) - 97 + 1) else σ) 16 (σ.1 16 + 1)) (n + 1) from if_pos hL]
      have hlt := isLe_lt hL
      have h1 := ht.1
      by_cases h8 : n < 8
      · rw [if_pos h8]
        have hP : (32 : Int) ^ (n + 1).toNat = 32 ^ n.toNat * 32 := by
          rw [show (n + 1).toNat = n.toNat + 1 by omega, Int.pow_succ]
        have hQ := p32 (n + 1).toNat (by omega)
        have hw3 := hw.2.2 (by omega)
        have hb : 97 ≤ bya σ (σ.1 16) ∧ bya σ (σ.1 16) ≤ 122 := hL
        generalize hg : (32 : Int) ^ n.toNat = P at hP hw3
        obtain ⟨a1, a2, a3, a4, a5, a6, a7⟩ := ih (sF (sF σ 20 (32 * σ.1 20 + bya σ (σ.1 16) - 97 + 1)) 16 (σ.1 16 + 1)) (n + 1) (mTx_N (mTx_F ht _ (by decide) (by decide)) _ (show 0 ≤ σ.1 16 + 1 ∧ σ.1 16 + 1 ≤ σ.1 15 by omega)) (by omega)
          (show 0 ≤ 32 * σ.1 20 + bya σ (σ.1 16) - 97 + 1 ∧ 32 * σ.1 20 + bya σ (σ.1 16) - 97 + 1 < 1099511627776 ∧ (n + 1 ≤ 8 → 32 * σ.1 20 + bya σ (σ.1 16) - 97 + 1 < 32 ^ (n + 1).toNat) by
            have := hw.1
            refine ⟨by omega, by omega, fun _ => by omega⟩)
        exact ⟨a1, ((TS.F σ _ (by decide)).tr (TS.F _ _ (by decide))).tr a2, a3, a4, a5, a6, a7⟩
      · rw [if_neg h8]
        obtain ⟨a1, a2, a3, a4, a5, a6, a7⟩ := ih (sF σ 16 (σ.1 16 + 1)) (n + 1) (mTx_N ht _ (show 0 ≤ σ.1 16 + 1 ∧ σ.1 16 + 1 ≤ σ.1 15 by omega)) (by omega) ⟨hw.1, hw.2.1, fun _ => by omega⟩
        exact ⟨a1, (TS.F σ _ (by decide)).tr a2, a3, a4, a5, a6, a7⟩
    · rw [show k_rw (f + 1) σ n = (σ, n) from if_neg hL]
      exact ⟨ht, TS.rf σ, rfl, rfl, rfl, hw.1, hw.2.1⟩
theorem k_rn_ok : ∀ (f : Nat) (σ : MSt) (n : Int), mTx σ → 0 ≤ n → (0 ≤ σ.1 19 ∧ σ.1 19 ≤ 9999 ∧ (n ≤ 4 → σ.1 19 < 10 ^ n.toNat)) → mTx (k_rn f σ n).1 ∧ TS σ (k_rn f σ n).1 ∧ (k_rn f σ n).1.1 17 = σ.1 17 ∧ (k_rn f σ n).1.1 18 = σ.1 18 ∧ (k_rn f σ n).1.1 20 = σ.1 20 ∧ 0 ≤ (k_rn f σ n).1.1 19 ∧ (k_rn f σ n).1.1 19 ≤ 9999 := by
  intro f
  induction f with
  | zero => intro σ n ht hn hw; exact ⟨ht, TS.rf σ, rfl, rfl, rfl, hw.1, hw.2.1⟩
  | succ f ih =>
    intro σ n ht hn hw
    by_cases hL : isDi σ (σ.1 16)
    · rw [show k_rn (f + 1) σ n = k_rn f (sF (if n < 4 then sF σ 19 (10 * σ.1 19 + bya σ (σ.1 16) - 48) else σ) 16 (σ.1 16 + 1)) (n + 1) from if_pos hL]
      have hlt := isDi_lt hL
      have h1 := ht.1
      by_cases h8 : n < 4
      · rw [if_pos h8]
        have hP : (10 : Int) ^ (n + 1).toNat = 10 ^ n.toNat * 10 := by
          rw [show (n + 1).toNat = n.toNat + 1 by omega, Int.pow_succ]
        have hQ := p10 (n + 1).toNat (by omega)
        have hw3 := hw.2.2 (by omega)
        have hb : 48 ≤ bya σ (σ.1 16) ∧ bya σ (σ.1 16) ≤ 57 := hL
        generalize hg : (10 : Int) ^ n.toNat = P at hP hw3
        obtain ⟨a1, a2, a3, a4, a5, a6, a7⟩ := ih (sF (sF σ 19 (10 * σ.1 19 + bya σ (σ.1 16) - 48)) 16 (σ.1 16 + 1)) (n + 1) (mTx_N (mTx_F ht _ (by decide) (by decide)) _ (show 0 ≤ σ.1 16 + 1 ∧ σ.1 16 + 1 ≤ σ.1 15 by omega)) (by omega)
          (show 0 ≤ 10 * σ.1 19 + bya σ (σ.1 16) - 48 ∧ 10 * σ.1 19 + bya σ (σ.1 16) - 48 ≤ 9999 ∧ (n + 1 ≤ 4 → 10 * σ.1 19 + bya σ (σ.1 16) - 48 < 10 ^ (n + 1).toNat) by
            have := hw.1
            refine ⟨by omega, by omega, fun _ => by omega⟩)
        exact ⟨a1, ((TS.F σ _ (by decide)).tr (TS.F _ _ (by decide))).tr a2, a3, a4, a5, a6, a7⟩
      · rw [if_neg h8]
        obtain ⟨a1, a2, a3, a4, a5, a6, a7⟩ := ih (sF σ 16 (σ.1 16 + 1)) (n + 1) (mTx_N ht _ (show 0 ≤ σ.1 16 + 1 ∧ σ.1 16 + 1 ≤ σ.1 15 by omega)) (by omega) ⟨hw.1, hw.2.1, fun _ => by omega⟩
        exact ⟨a1, (TS.F σ _ (by decide)).tr a2, a3, a4, a5, a6, a7⟩
    · rw [show k_rn (f + 1) σ n = (σ, n) from if_neg hL]
      exact ⟨ht, TS.rf σ, rfl, rfl, rfl, hw.1, hw.2.1⟩
theorem k_sk_ok : ∀ (f : Nat) (σ : MSt), mTk σ → mTk (k_sk f σ) ∧ TS σ (k_sk f σ) ∧ (k_sk f σ).1 18 = σ.1 18 := by
  intro f
  induction f with
  | zero => intro σ ht; exact ⟨ht, TS.rf σ, rfl⟩
  | succ f ih =>
    intro σ ht
    by_cases hL : σ.1 16 < σ.1 15 ∧ isBl σ (σ.1 16)
    · rw [show k_sk (f + 1) σ = k_sk f (sF σ 16 (σ.1 16 + 1)) from if_pos hL]
      have h1 := ht.1.1
      obtain ⟨a1, a2, a3⟩ := ih (sF σ 16 (σ.1 16 + 1)) ⟨mTx_N ht.1 _ (by omega), ht.2⟩
      exact ⟨a1, (TS.F σ _ (by decide)).tr a2, a3⟩
    · rw [show k_sk (f + 1) σ = σ from if_neg hL]
      exact ⟨ht, TS.rf σ, rfl⟩
theorem k_readToken_ok {σ : MSt} (ht : mTk σ) : mTk (k_readToken σ) ∧ TS σ (k_readToken σ) := by
  obtain ⟨h1, h2, -⟩ := k_sk_ok 601 σ ht
  unfold k_readToken
  generalize k_sk 601 σ = τ at h1 h2
  suffices h : mTk (k_tk τ) ∧ TS τ (k_tk τ) from ⟨h.1, h2.tr h.2⟩
  obtain ⟨t1, t2, t3, t4, t5⟩ := h1
  have b1 := t1.1
  have b2 := t1.2.1
  have x1 : mTx (sF τ 17 (τ.1 16)) := mTx_F t1 _ (by decide) (by decide)
  unfold k_tk
  split
  · refine ⟨⟨mTx_F x1 _ (by decide) (by decide), ⟨Int.le_refl 0, (by decide : (0 : Int) ≤ 5)⟩, t3, t4, ?_⟩, (TS.F τ _ (by decide)).tr (TS.F _ _ (by decide))⟩
    show 0 ≤ τ.1 16 ∧ τ.1 16 ≤ 600
    omega
  · split
    · obtain ⟨a1, a2, a3, a4, a5, a6, a7⟩ := k_rw_ok 601 (sF (sF τ 17 (τ.1 16)) 20 0) 0 (mTx_F x1 _ (by decide) (by decide)) (Int.le_refl 0) ⟨Int.le_refl 0, (by decide : (0 : Int) < 1099511627776), fun _ => (by decide : (0 : Int) < 32 ^ (0 : Int).toNat)⟩
      refine ⟨⟨mTx_F a1 _ (by decide) (by decide), ?_, ?_, ⟨a6, a7⟩, ?_⟩, ((TS.F τ _ (by decide)).tr (TS.F _ _ (by decide))).tr (a2.tr (TS.F _ _ (by decide)))⟩
      · show 0 ≤ (if 8 < (k_rw 601 (sF (sF τ 17 (τ.1 16)) 20 0) 0).2 then 5 else 1) ∧ (if 8 < (k_rw 601 (sF (sF τ 17 (τ.1 16)) 20 0) 0).2 then 5 else 1) ≤ 5
        split <;> decide
      · show 0 ≤ (k_rw 601 (sF (sF τ 17 (τ.1 16)) 20 0) 0).1.1 19 ∧ (k_rw 601 (sF (sF τ 17 (τ.1 16)) 20 0) 0).1.1 19 ≤ 9999
        rw [a5]; exact t3
      · show 0 ≤ (k_rw 601 (sF (sF τ 17 (τ.1 16)) 20 0) 0).1.1 17 ∧ (k_rw 601 (sF (sF τ 17 (τ.1 16)) 20 0) 0).1.1 17 ≤ 600
        rw [a3]
        show 0 ≤ τ.1 16 ∧ τ.1 16 ≤ 600
        omega
    · split
      · obtain ⟨a1, a2, a3, a4, a5, a6, a7⟩ := k_rn_ok 601 (sF (sF τ 17 (τ.1 16)) 19 0) 0 (mTx_F x1 _ (by decide) (by decide)) (Int.le_refl 0) ⟨Int.le_refl 0, (by decide : (0 : Int) ≤ 9999), fun _ => (by decide : (0 : Int) < 10 ^ (0 : Int).toNat)⟩
        refine ⟨⟨mTx_F a1 _ (by decide) (by decide), ?_, ⟨a6, a7⟩, ?_, ?_⟩, ((TS.F τ _ (by decide)).tr (TS.F _ _ (by decide))).tr (a2.tr (TS.F _ _ (by decide)))⟩
        · show 0 ≤ (if 4 < (k_rn 601 (sF (sF τ 17 (τ.1 16)) 19 0) 0).2 then 5 else 2) ∧ (if 4 < (k_rn 601 (sF (sF τ 17 (τ.1 16)) 19 0) 0).2 then 5 else 2) ≤ 5
          split <;> decide
        · show 0 ≤ (k_rn 601 (sF (sF τ 17 (τ.1 16)) 19 0) 0).1.1 20 ∧ (k_rn 601 (sF (sF τ 17 (τ.1 16)) 19 0) 0).1.1 20 < 1099511627776
          rw [a5]; exact t4
        · show 0 ≤ (k_rn 601 (sF (sF τ 17 (τ.1 16)) 19 0) 0).1.1 17 ∧ (k_rn 601 (sF (sF τ 17 (τ.1 16)) 19 0) 0).1.1 17 ≤ 600
          rw [a3]
          show 0 ≤ τ.1 16 ∧ τ.1 16 ≤ 600
          omega
      · refine ⟨⟨mTx_N (mTx_F x1 _ (by decide) (by decide)) _ (show 0 ≤ τ.1 16 + 1 ∧ τ.1 16 + 1 ≤ τ.1 15 by omega), ?_, t3, t4, ?_⟩, ((TS.F τ _ (by decide)).tr (TS.F _ _ (by decide))).tr (TS.F _ _ (by decide))⟩
        · show 0 ≤ (if bya τ (τ.1 16) = 59 then 3 else if bya τ (τ.1 16) = 45 then 4 else 5) ∧ (if bya τ (τ.1 16) = 59 then 3 else if bya τ (τ.1 16) = 45 then 4 else 5) ≤ 5
          split
          · decide
          · split <;> decide
        · show 0 ≤ τ.1 16 ∧ τ.1 16 ≤ 600
          omega
/-- reading goes on; a token that isn't the end moves it -/
def NX (σ τ : MSt) : Prop := σ.1 16 ≤ τ.1 16 ∧ (τ.1 18 = σ.1 18 ∨ τ.1 18 = 0 ∨ σ.1 16 < τ.1 16)
theorem NX.rf (σ : MSt) : NX σ σ := ⟨Int.le_refl _, Or.inl rfl⟩
theorem NX.tr {a b c : MSt} (h1 : NX a b) (h2 : NX b c) : NX a c := by
  obtain ⟨p1, p2⟩ := h1
  obtain ⟨q1, q2⟩ := h2
  refine ⟨by omega, ?_⟩
  rcases q2 with q | q | q
  · rcases p2 with p | p | p
    · exact Or.inl (q.trans p)
    · exact Or.inr (Or.inl (q.trans p))
    · exact Or.inr (Or.inr (by omega))
  · exact Or.inr (Or.inl q)
  · exact Or.inr (Or.inr (by omega))
theorem k_rw_nx : ∀ (f : Nat) (σ : MSt) (n : Int), σ.1 16 ≤ (k_rw f σ n).1.1 16 ∧ (0 < f → isLe σ (σ.1 16) → σ.1 16 < (k_rw f σ n).1.1 16) := by
  intro f
  induction f with
  | zero => intro σ n; exact ⟨Int.le_refl _, fun z => absurd z (by decide)⟩
  | succ f ih =>
    intro σ n
    by_cases hL : isLe σ (σ.1 16)
    · rw [show k_rw (f + 1) σ n = k_rw f (sF (if n < 8 then sF σ 20 (32 * σ.1 20 + bya σ (σ.1 16) - 97 + 1) else σ) 16 (σ.1 16 + 1)) (n + 1) from if_pos hL]
      have h := (ih (sF (if n < 8 then sF σ 20 (32 * σ.1 20 + bya σ (σ.1 16) - 97 + 1) else σ) 16 (σ.1 16 + 1)) (n + 1)).1
      rw [sF_1, if_pos rfl] at h
      exact ⟨by omega, fun _ _ => by omega⟩
    · rw [show k_rw (f + 1) σ n = (σ, n) from if_neg hL]
      exact ⟨Int.le_refl _, fun _ z => absurd z hL⟩
theorem k_rn_nx : ∀ (f : Nat) (σ : MSt) (n : Int), σ.1 16 ≤ (k_rn f σ n).1.1 16 ∧ (0 < f → isDi σ (σ.1 16) → σ.1 16 < (k_rn f σ n).1.1 16) := by
  intro f
  induction f with
  | zero => intro σ n; exact ⟨Int.le_refl _, fun z => absurd z (by decide)⟩
  | succ f ih =>
    intro σ n
    by_cases hL : isDi σ (σ.1 16)
    · rw [show k_rn (f + 1) σ n = k_rn f (sF (if n < 4 then sF σ 19 (10 * σ.1 19 + bya σ (σ.1 16) - 48) else σ) 16 (σ.1 16 + 1)) (n + 1) from if_pos hL]
      have h := (ih (sF (if n < 4 then sF σ 19 (10 * σ.1 19 + bya σ (σ.1 16) - 48) else σ) 16 (σ.1 16 + 1)) (n + 1)).1
      rw [sF_1, if_pos rfl] at h
      exact ⟨by omega, fun _ _ => by omega⟩
    · rw [show k_rn (f + 1) σ n = (σ, n) from if_neg hL]
      exact ⟨Int.le_refl _, fun _ z => absurd z hL⟩
theorem k_sk_nx : ∀ (f : Nat) (σ : MSt), σ.1 16 ≤ (k_sk f σ).1 16 := by
  intro f
  induction f with
  | zero => intro σ; exact Int.le_refl _
  | succ f ih =>
    intro σ
    by_cases hL : σ.1 16 < σ.1 15 ∧ isBl σ (σ.1 16)
    · rw [show k_sk (f + 1) σ = k_sk f (sF σ 16 (σ.1 16 + 1)) from if_pos hL]
      have h := ih (sF σ 16 (σ.1 16 + 1))
      rw [sF_1, if_pos rfl] at h
      omega
    · rw [show k_sk (f + 1) σ = σ from if_neg hL]
      exact Int.le_refl _
theorem k_readToken_nx (σ : MSt) : NX σ (k_readToken σ) := by
  have h1 := k_sk_nx 601 σ
  unfold k_readToken
  generalize k_sk 601 σ = τ at h1
  suffices h : τ.1 16 ≤ (k_tk τ).1 16 ∧ ((k_tk τ).1 18 = 0 ∨ τ.1 16 < (k_tk τ).1 16) by
    refine ⟨by omega, ?_⟩
    rcases h.2 with z | z
    · exact Or.inr (Or.inl z)
    · exact Or.inr (Or.inr (by omega))
  unfold k_tk
  split
  · exact ⟨Int.le_refl _, Or.inl rfl⟩
  · split
    · next hL =>
      obtain ⟨a, b⟩ := k_rw_nx 601 (sF (sF τ 17 (τ.1 16)) 20 0) 0
      exact ⟨a, Or.inr (b (by decide) hL)⟩
    · split
      · next hL =>
        obtain ⟨a, b⟩ := k_rn_nx 601 (sF (sF τ 17 (τ.1 16)) 19 0) 0
        exact ⟨a, Or.inr (b (by decide) hL)⟩
      · refine ⟨?_, Or.inr ?_⟩
        · show τ.1 16 ≤ τ.1 16 + 1
          omega
        · show τ.1 16 < τ.1 16 + 1
          omega
