/-! an axis's moves in their order: numbers alone, then CameraMovesModel's methods -/
set_option maxRecDepth 100000
/-- one cue behind another -/
abbrev bh (ρ : Int → Int) (x y : Int) : Prop := r_fr ρ y < r_fr ρ x ∨ r_fr ρ x = r_fr ρ y ∧ y < x
/-- a cue of an axis that is behind the last one -/
abbrev pd (ρ : Int → Int) (a last k : Int) : Prop := r_has ρ k a ∧ (last = -1 ∨ bh ρ k last)
/-- the foremost one of the first n cues -/
def fnF (ρ : Int → Int) (a last : Int) : Nat → Int
  | 0 => -1
  | n + 1 => if pd ρ a last n ∧ (fnF ρ a last n = -1 ∨ bh ρ (fnF ρ a last n) n) then n else fnF ρ a last n
def fn (ρ : Int → Int) (a last : Int) : Int := fnF ρ a last (r_nC ρ).toNat
theorem fnF_spec (ρ : Int → Int) (a last : Int) : ∀ n : Nat, (fnF ρ a last n = -1 ∧ ∀ k : Int, 0 ≤ k → k < n → ¬ pd ρ a last k) ∨ (0 ≤ fnF ρ a last n ∧ fnF ρ a last n < n ∧ pd ρ a last (fnF ρ a last n) ∧ ∀ k : Int, 0 ≤ k → k < n → pd ρ a last k → k ≠ fnF ρ a last n → bh ρ k (fnF ρ a last n)) := by
  intro n
  induction n with
  | zero => exact Or.inl ⟨rfl, fun k _ _ => by omega⟩
  | succ n ih =>
    simp only [fnF]
    split
    · next hc =>
      refine Or.inr ⟨by omega, by omega, hc.1, fun k h0 h1 hk hn => ?_⟩
      rcases ih with ⟨e, h⟩ | ⟨e1, e2, e3, h⟩
      · exact absurd hk (h k h0 (by omega))
      · rcases hc.2 with z | z
        · omega
        · by_cases hkb : k = fnF ρ a last n
          · rw [hkb]; exact z
          · have := h k h0 (by omega) hk hkb
            unfold bh at *
            omega
    · next hc =>
      rcases ih with ⟨e, h⟩ | ⟨e1, e2, e3, h⟩
      · refine Or.inl ⟨e, fun k h0 h1 hk => ?_⟩
        by_cases hkn : k = n
        · subst hkn
          exact hc ⟨hk, Or.inl e⟩
        · exact h k h0 (by omega) hk
      · refine Or.inr ⟨e1, by omega, e3, fun k h0 h1 hk hn => ?_⟩
        by_cases hkn : k = n
        · subst hkn
          have : ¬ bh ρ (fnF ρ a last n) n := fun z => hc ⟨hk, Or.inr z⟩
          unfold bh at *
          omega
        · exact h k h0 (by omega) hk hn
/-- how many there are yet -/
def cnF (ρ : Int → Int) (a last : Int) : Nat → Nat
  | 0 => 0
  | n + 1 => cnF ρ a last n + (if pd ρ a last n then 1 else 0)
theorem cnF_le (ρ : Int → Int) (a last : Int) : ∀ n : Nat, cnF ρ a last n ≤ n := by
  intro n
  induction n with
  | zero => exact Nat.le_refl 0
  | succ n ih =>
    simp only [cnF]
    split <;> omega
theorem cnF_mono (ρ : Int → Int) (a x y : Int) : ∀ n : Nat, (∀ k : Int, 0 ≤ k → k < n → pd ρ a y k → pd ρ a x k) → cnF ρ a y n ≤ cnF ρ a x n := by
  intro n
  induction n with
  | zero => intro _; exact Nat.le_refl 0
  | succ n ih =>
    intro h
    have i := ih fun k a b => h k a (by omega)
    simp only [cnF]
    by_cases hy : pd ρ a y n
    · rw [if_pos hy, if_pos (h n (by omega) (by omega) hy)]
      omega
    · rw [if_neg hy]
      split <;> omega
theorem cnF_lt (ρ : Int → Int) (a x y c : Int) : ∀ n : Nat, (∀ k : Int, 0 ≤ k → k < n → pd ρ a y k → pd ρ a x k) → 0 ≤ c → c < n → pd ρ a x c → ¬ pd ρ a y c → cnF ρ a y n < cnF ρ a x n := by
  intro n
  induction n with
  | zero => intro _ _ _; omega
  | succ n ih =>
    intro h h0 h1 hx hy
    simp only [cnF]
    by_cases hc : c = n
    · subst hc
      have i := cnF_mono ρ a x y n fun k a b => h k a (by omega)
      rw [if_neg hy, if_pos hx]
      omega
    · have i := ih (fun k a b => h k a (by omega)) h0 (by omega) hx hy
      by_cases hz : pd ρ a y n
      · rw [if_pos hz, if_pos (h n (by omega) (by omega) hz)]
        omega
      · rw [if_neg hz]
        split <;> omega
theorem cnF_0 (ρ : Int → Int) (a x : Int) : ∀ n : Nat, cnF ρ a x n = 0 → ∀ k : Int, 0 ≤ k → k < n → ¬ pd ρ a x k := by
  intro n
  induction n with
  | zero => intro _ k _ _; omega
  | succ n ih =>
    intro h k h0 h1
    simp only [cnF] at h
    by_cases hk : k = n
    · subst hk
      intro z
      rw [if_pos z] at h
      omega
    · exact ih (by omega) k h0 (by omega)
theorem bh_ir (ρ : Int → Int) (x : Int) : ¬ bh ρ x x := by unfold bh; omega
theorem bh_tr {ρ : Int → Int} {x y z : Int} (h : bh ρ x y) (h2 : bh ρ y z) : bh ρ x z := by unfold bh at *; omega
/-- what the foremost one is -/
theorem fn_spec {ρ : Int → Int} {a last : Int} (h20 : 0 ≤ r_nC ρ) : (fn ρ a last = -1 ∧ ∀ k : Int, 0 ≤ k → k < r_nC ρ → ¬ pd ρ a last k) ∨ ((0 ≤ fn ρ a last ∧ fn ρ a last < r_nC ρ) ∧ pd ρ a last (fn ρ a last) ∧ ∀ k : Int, 0 ≤ k → k < r_nC ρ → pd ρ a last k → k ≠ fn ρ a last → bh ρ k (fn ρ a last)) := by
  have h := fnF_spec ρ a last (r_nC ρ).toNat
  have e : (((r_nC ρ).toNat : Nat) : Int) = r_nC ρ := by omega
  rw [e] at h
  rcases h with h | ⟨h1, h2, h3, h4⟩
  · exact Or.inl h
  · exact Or.inr ⟨⟨h1, h2⟩, h3, h4⟩
/-- behind the foremost one: all that is left but itself -/
theorem pd_next {ρ : Int → Int} {a last k : Int} (h20 : 0 ≤ r_nC ρ) (hf : fn ρ a last ≠ -1) (h0 : 0 ≤ k) (h1 : k < r_nC ρ) : pd ρ a (fn ρ a last) k ↔ pd ρ a last k ∧ k ≠ fn ρ a last := by
  rcases fn_spec (ρ := ρ) (a := a) (last := last) h20 with ⟨e, -⟩ | ⟨h2, h3, h4⟩
  · exact absurd e hf
  · constructor
    · intro h
      have hb : bh ρ k (fn ρ a last) := by
        rcases h.2 with z | z
        · exact absurd z hf
        · exact z
      refine ⟨⟨h.1, ?_⟩, fun z => ?_⟩
      · rcases h3.2 with z | z
        · exact Or.inl z
        · exact Or.inr (bh_tr hb z)
      · rw [z] at hb
        exact bh_ir ρ _ hb
    · intro h
      exact ⟨h.1.1, Or.inr (h4 k h0 h1 h.1 h.2)⟩
theorem cn_next {ρ : Int → Int} {a last : Int} (h20 : 0 ≤ r_nC ρ) (hf : fn ρ a last ≠ -1) : cnF ρ a (fn ρ a last) (r_nC ρ).toNat < cnF ρ a last (r_nC ρ).toNat := by
  have e : (((r_nC ρ).toNat : Nat) : Int) = r_nC ρ := by omega
  rcases fn_spec (ρ := ρ) (a := a) (last := last) h20 with ⟨z, -⟩ | ⟨h2, h3, h4⟩
  · exact absurd z hf
  · refine cnF_lt ρ a last (fn ρ a last) (fn ρ a last) _ (fun k h0 h1 hk => ?_) h2.1 (by omega) h3 (fun z => ?_)
    · exact ((pd_next h20 hf h0 (by omega)).mp hk).1
    · exact ((pd_next h20 hf h2.1 h2.2).mp z).2 rfl
/-- the way a move goes, and what becomes of it -/
def mvD (ρ : Int → Int) (a c place : Int) : Int := r_tg ρ c a - place
def mvS (ρ : Int → Int) (a c place free : Int) : Int := if r_fr ρ c < free then 1 else if r_ln ρ c < lst (r_sp ρ a) (r_rp ρ a) (ab (mvD ρ a c place)) then 2 else 0
/-- statuses and distances of an axis's moves -/
def mvL (ρ : Int → Int) (a : Int) : Nat → Int → Int → Int → (Nat → Int) × (Nat → Int) → (Nat → Int) × (Nat → Int)
  | 0, _, _, _, acc => acc
  | n + 1, last, place, free, acc => if fn ρ a last = -1 then acc else mvL ρ a n (fn ρ a last) (if mvS ρ a (fn ρ a last) place free = 0 then r_tg ρ (fn ρ a last) a else place) (if mvS ρ a (fn ρ a last) place free = 0 then r_fr ρ (fn ρ a last) + r_ln ρ (fn ρ a last) else free) (va_up acc.1 (fn ρ a last).toNat (mvS ρ a (fn ρ a last) place free), va_up acc.2 (fn ρ a last).toNat (mvD ρ a (fn ρ a last) place))
/-- a place of the accumulators that is not one of what is left stays -/
theorem mvL_out {ρ : Int → Int} {a : Int} (h20 : 0 ≤ r_nC ρ) (j : Nat) : ∀ (n : Nat) (last place free : Int) (acc : (Nat → Int) × (Nat → Int)), (¬ ((j : Int) < r_nC ρ ∧ pd ρ a last j)) → (mvL ρ a n last place free acc).1 j = acc.1 j ∧ (mvL ρ a n last place free acc).2 j = acc.2 j := by
  intro n
  induction n with
  | zero => intro _ _ _ _ _; exact ⟨rfl, rfl⟩
  | succ n ih =>
    intro last place free acc h
    simp only [mvL]
    split
    · exact ⟨rfl, rfl⟩
    · next hf =>
      rcases fn_spec (ρ := ρ) (a := a) (last := last) h20 with ⟨z, -⟩ | ⟨h2, h3, h4⟩
      · exact absurd z hf
      · have hj : j ≠ (fn ρ a last).toNat := by
          intro z
          refine h ⟨by omega, ?_⟩
          rw [show (j : Int) = fn ρ a last by omega]
          exact h3
        obtain ⟨i1, i2⟩ := ih (fn ρ a last) (if mvS ρ a (fn ρ a last) place free = 0 then r_tg ρ (fn ρ a last) a else place) (if mvS ρ a (fn ρ a last) place free = 0 then r_fr ρ (fn ρ a last) + r_ln ρ (fn ρ a last) else free) (va_up acc.1 (fn ρ a last).toNat (mvS ρ a (fn ρ a last) place free), va_up acc.2 (fn ρ a last).toNat (mvD ρ a (fn ρ a last) place)) (fun z => h ⟨z.1, ((pd_next h20 hf (by omega) z.1).mp z.2).1⟩)
        exact ⟨i1.trans (if_neg hj), i2.trans (if_neg hj)⟩
/-- what is left is told whatever was told of it ahead -/
theorem mvL_in {ρ : Int → Int} {a : Int} (h20 : 0 ≤ r_nC ρ) (j : Nat) : ∀ (n : Nat) (last place free : Int) (acc acc' : (Nat → Int) × (Nat → Int)), (cnF ρ a last (r_nC ρ).toNat ≤ n) → (((j : Int) < r_nC ρ ∧ pd ρ a last j) ∨ (acc.1 j = acc'.1 j ∧ acc.2 j = acc'.2 j)) → (mvL ρ a n last place free acc).1 j = (mvL ρ a n last place free acc').1 j ∧ (mvL ρ a n last place free acc).2 j = (mvL ρ a n last place free acc').2 j := by
  intro n
  induction n with
  | zero =>
    intro last place free acc acc' hc h
    rcases h with h | h
    · exact absurd h.2 (cnF_0 ρ a last (r_nC ρ).toNat (by omega) j (by omega) (by omega))
    · exact h
  | succ n ih =>
    intro last place free acc acc' hc h
    simp only [mvL]
    split
    · next hf =>
      rcases h with h | h
      · rcases fn_spec (ρ := ρ) (a := a) (last := last) h20 with ⟨-, z⟩ | ⟨h2, -⟩
        · exact absurd h.2 (z j (by omega) h.1)
        · omega
      · exact h
    · next hf =>
      have hn := cn_next h20 hf
      rcases fn_spec (ρ := ρ) (a := a) (last := last) h20 with ⟨z, -⟩ | ⟨h2, h3, h4⟩
      · exact absurd z hf
      · refine ih _ _ _ _ _ (by omega) ?_
        by_cases hj : j = (fn ρ a last).toNat
        · exact Or.inr ⟨(if_pos hj).trans (if_pos hj).symm, (if_pos hj).trans (if_pos hj).symm⟩
        · rcases h with h | h
          · exact Or.inl ⟨h.1, (pd_next h20 hf (by omega) h.1).mpr ⟨h.2, by omega⟩⟩
          · exact Or.inr ⟨(if_neg hj).trans (h.1.trans (if_neg hj).symm), (if_neg hj).trans (h.2.trans (if_neg hj).symm)⟩
/-- the moves of an axis: status and distance by cue -/
def mvA (ρ : Int → Int) (st a : Int) : (Nat → Int) × (Nat → Int) := mvL ρ a 20 (-1) st 0 (fun _ => 0, fun _ => 0)
theorem mvA_in {ρ : Int → Int} {st a : Int} (h20 : 0 ≤ r_nC ρ ∧ r_nC ρ ≤ 20) (acc : (Nat → Int) × (Nat → Int)) {j : Nat} (h : (j : Int) < r_nC ρ) (hh : r_has ρ j a) : (mvL ρ a 20 (-1) st 0 acc).1 j = (mvA ρ st a).1 j ∧ (mvL ρ a 20 (-1) st 0 acc).2 j = (mvA ρ st a).2 j := by
  refine mvL_in h20.1 j 20 (-1) st 0 acc _ ?_ (Or.inl ⟨h, hh, Or.inl rfl⟩)
  have := cnF_le ρ a (-1) (r_nC ρ).toNat
  omega
theorem mvA_out {ρ : Int → Int} {st a : Int} (h20 : 0 ≤ r_nC ρ ∧ r_nC ρ ≤ 20) (acc : (Nat → Int) × (Nat → Int)) {j : Nat} (h : ¬ ((j : Int) < r_nC ρ ∧ r_has ρ j a)) : (mvL ρ a 20 (-1) st 0 acc).1 j = acc.1 j ∧ (mvL ρ a 20 (-1) st 0 acc).2 j = acc.2 j := mvL_out h20.1 j 20 (-1) st 0 acc fun z => h ⟨z.1, z.2.1⟩
theorem mvS_rg (ρ : Int → Int) (a c place free : Int) : 0 ≤ mvS ρ a c place free ∧ mvS ρ a c place free ≤ 2 := by
  unfold mvS
  (repeat' split) <;> omega
/-- a row that can be: targets of an axis -/
theorem RI.tg {n : Int} {ρ : Int → Int} (h : RI n ρ) {a c : Int} (ha : 0 ≤ a ∧ a < n) (h4 : n ≤ 4) (hc : 0 ≤ c ∧ c < r_nC ρ) (hh : r_has ρ c a) : -9999 ≤ r_tg ρ c a ∧ r_tg ρ c a ≤ 9999 := ((h.2.2.1 c hc.1 hc.2).2.2 a ha.1 (by omega) hh).2
/-- ranges -/
theorem mvL_rg {n : Int} {ρ : Int → Int} (h : RI n ρ) {a : Int} (ha : 0 ≤ a ∧ a < n) (h4 : n ≤ 4) : ∀ (f : Nat) (last place free : Int) (acc : (Nat → Int) × (Nat → Int)), (-9999 ≤ place ∧ place ≤ 9999) → (∀ j, (0 ≤ acc.1 j ∧ acc.1 j ≤ 2) ∧ -19998 ≤ acc.2 j ∧ acc.2 j ≤ 19998) → ∀ j, (0 ≤ (mvL ρ a f last place free acc).1 j ∧ (mvL ρ a f last place free acc).1 j ≤ 2) ∧ -19998 ≤ (mvL ρ a f last place free acc).2 j ∧ (mvL ρ a f last place free acc).2 j ≤ 19998 := by
  intro f
  induction f with
  | zero => intro _ _ _ _ _ h; exact h
  | succ f ih =>
    intro last place free acc hp hA
    simp only [mvL]
    split
    · exact hA
    · next hf =>
      rcases fn_spec (ρ := ρ) (a := a) (last := last) h.2.1.1 with ⟨z, -⟩ | ⟨h2, h3, h5⟩
      · exact absurd z hf
      · have ht := h.tg ha h4 h2 h3.1
        refine ih _ _ _ _ (by split <;> omega) (fun j => ?_)
        have hS := mvS_rg ρ a (fn ρ a last) place free
        have hD : -19998 ≤ mvD ρ a (fn ρ a last) place ∧ mvD ρ a (fn ρ a last) place ≤ 19998 := by unfold mvD; omega
        simp only [va_up_at]
        have := hA j
        constructor
        · split <;> omega
        · split <;> omega
theorem mvA_rg {n : Int} {ρ : Int → Int} (h : RI n ρ) {a st : Int} (ha : 0 ≤ a ∧ a < n) (h4 : n ≤ 4) (hp : -9999 ≤ st ∧ st ≤ 9999) (j : Nat) : (0 ≤ (mvA ρ st a).1 j ∧ (mvA ρ st a).1 j ≤ 2) ∧ -19998 ≤ (mvA ρ st a).2 j ∧ (mvA ρ st a).2 j ≤ 19998 := mvL_rg h ha h4 20 (-1) st 0 _ hp (fun _ => ⟨⟨(by decide : (0 : Int) ≤ 0), (by decide : (0 : Int) ≤ 2)⟩, (by decide : (-19998 : Int) ≤ 0), (by decide : (0 : Int) ≤ 19998)⟩) j
/-! the model's methods -/
def mT (σ : MSt) : Prop := ∀ j, 0 ≤ σ.2 34 j ∧ σ.2 34 j ≤ 1
/-- the foremost of the cues that are not taken -/
def nxF (ρ : Int → Int) (tk : Nat → Int) (a : Int) : Nat → Int
  | 0 => -1
  | n + 1 => if tk n = 0 ∧ r_has ρ n a ∧ (nxF ρ tk a n = -1 ∨ r_fr ρ n < r_fr ρ (nxF ρ tk a n)) then n else nxF ρ tk a n
theorem nxF_rg (ρ : Int → Int) (tk : Nat → Int) (a : Int) : ∀ n : Nat, -1 ≤ nxF ρ tk a n ∧ nxF ρ tk a n < n := by
  intro n
  induction n with
  | zero => exact ⟨Int.le_refl _, (by decide : (-1 : Int) < 0)⟩
  | succ n ih =>
    simp only [nxF]
    split <;> omega
theorem nxF_eq {ρ : Int → Int} {tk : Nat → Int} {a last : Int} : ∀ n : Nat, (∀ k : Nat, k < n → r_has ρ k a → (tk k = 0 ↔ last = -1 ∨ bh ρ k last)) → nxF ρ tk a n = fnF ρ a last n := by
  intro n
  induction n with
  | zero => intro _; rfl
  | succ n ih =>
    intro h
    have i := ih fun k hk => h k (by omega)
    have hr := nxF_rg ρ tk a n
    have hn := h n (by omega)
    simp only [nxF, fnF]
    rw [i] at hr ⊢
    generalize fnF ρ a last n = b at hr ⊢
    by_cases h1 : r_has ρ n a
    · have := hn h1
      by_cases h2 : tk n = 0
      · by_cases h3 : b = -1
        · rw [if_pos ⟨h2, h1, Or.inl h3⟩, if_pos ⟨⟨h1, this.mp h2⟩, Or.inl h3⟩]
        · by_cases h4 : r_fr ρ n < r_fr ρ b
          · rw [if_pos ⟨h2, h1, Or.inr h4⟩, if_pos ⟨⟨h1, this.mp h2⟩, Or.inr (Or.inl h4)⟩]
          · rw [if_neg (fun z => by have := z.2.2; omega), if_neg (fun z => by have := z.2; unfold bh at this; omega)]
      · rw [if_neg (fun z => h2 z.1), if_neg (fun z => h2 (this.mpr z.1.2))]
    · rw [if_neg (fun z => h1 z.2.1), if_neg (fun z => h1 z.1.1)]
theorem l_nextCue {l : Launch} {g : AG} {C : MCx} (hC : MOK C) (σ : MSt) (a : Int) (hr : mR σ) (hT : mT σ) (ha : 0 ≤ a ∧ a < 4) : ∀ (n i : Nat), (i : Int) + n = r_nC (rw_ σ) → AWc l g miX4_nextCue 13 0 0 (fun r2 h2 => r2 = some (iv (nxF (rw_ σ) (σ.2 34) a (r_nC (rw_ σ)).toNat)) ∧ h2 = mh C σ) (fun _ _ _ => False) 0 0 (mh C σ) 4 [some (.ref C.1), some (iv a), some (iv (nxF (rw_ σ) (σ.2 34) a i)), some (iv i)] [] := by
  have h20 := hr.nC
  intro n
  induction n with
  | zero =>
    intro i hi
    have e : (r_nC (rw_ σ)).toNat = i := by omega
    rw [e]
    refine aw_iload_n 5 dX4_nextCue_4 rfl rfl ?_
    refine aw_aload_n 6 dX4_nextCue_5 rfl rfl ?_
    refine aw_xV 9 (m_nC hC _ hr.1) mvX4_cueMany q2259 (rdl (mh_obj _ _)) rfl rfl rfl (by decide) (by decide) (Nat.le_refl _) (Nat.le_refl _) rfl (Nat.le_of_ble_eq_true rfl) dX4_nextCue_6 rfl ?_
    refine aw_icmp_ge 61 12 (by omega) dX4_nextCue_9 rfl rfl (fun c_9 => ?_) (fun c_9 => absurd c_9 (by omega))
    refine aw_iload_n 62 dX4_nextCue_61 rfl rfl ?_
    exact aw_xi (by rfl) (rfl) rfl dX4_nextCue_62
  | succ n ih =>
    intro i hi
    have hn := nxF_rg (rw_ σ) (σ.2 34) a i
    have ih := ih (i + 1) (by omega)
    have hti := hT (i : Int).toNat
    have hti2 : σ.2 34 (i : Int).toNat = σ.2 34 i := rfl
    have hc : isCu σ i := ⟨by omega, by omega⟩
    have hfi := (hr.cue hc.1 hc.2).1
    refine aw_iload_n 5 dX4_nextCue_4 rfl rfl ?_
    refine aw_aload_n 6 dX4_nextCue_5 rfl rfl ?_
    refine aw_xV 9 (m_nC hC _ hr.1) mvX4_cueMany q2259 (rdl (mh_obj _ _)) rfl rfl rfl (by decide) (by decide) (Nat.le_refl _) (Nat.le_refl _) rfl (Nat.le_of_ble_eq_true rfl) dX4_nextCue_6 rfl ?_
    refine aw_icmp_ge 61 12 (by omega) dX4_nextCue_9 rfl rfl (fun c_9 => absurd c_9 (by omega)) (fun c_9 => ?_)
    refine aw_aload_n 13 dX4_nextCue_12 rfl rfl ?_
    refine aw_get 16 ci4 34 (by decide) q2065 (Or.inl rfl) (rdl (mh_obj _ _)) rfl dX4_nextCue_13 rfl ?_
    refine aw_iload_n 17 dX4_nextCue_16 rfl rfl ?_
    refine aw_zald 18 (rdl (mh_34 hC _)) (by omega) dX4_nextCue_17 rfl (by decide) ?_
    refine aw_if_ne 55 21 (by omega) dX4_nextCue_18 rfl rfl (fun c_18 => ?_) (fun c_18 => ?_)
    · refine aw_iinc 58 dX4_nextCue_55 rfl rfl (as_3 rfl) (by decide) ?_
      refine aw_goto 4 dX4_nextCue_58 rfl ?_
      first | (rw [show nxF (rw_ σ) (σ.2 34) a (i + 1) = i from if_pos ⟨by omega, by assumption, by omega⟩] at ih; exact ih) | (rw [show nxF (rw_ σ) (σ.2 34) a (i + 1) = nxF (rw_ σ) (σ.2 34) a i from if_neg (fun z => by first | exact absurd z.2.1 (by assumption) | omega)] at ih; exact ih)
    · refine aw_aload_n 22 dX4_nextCue_21 rfl rfl ?_
      refine aw_iload_n 23 dX4_nextCue_22 rfl rfl ?_
      refine aw_iload_n 24 dX4_nextCue_23 rfl rfl ?_
      refine aw_xV 27 (m_has hC _ _ _ hr (by omega) (by omega)) mvX4_has q2315 (rdl (mh_obj _ _)) rfl rfl rfl (by decide) (by decide) (Nat.le_refl _) (Nat.le_refl _) rfl (Nat.le_of_ble_eq_true rfl) dX4_nextCue_24 rfl ?_
      refine aw_if_neB 33 30 dX4_nextCue_27 rfl rfl (fun c_27 => ?_) (fun c_27 => ?_)
      · refine aw_iload_n 34 dX4_nextCue_33 rfl rfl ?_
        refine aw_iconst 35 dX4_nextCue_34 rfl ?_
        refine aw_icmp_eq 53 38 (by omega) dX4_nextCue_35 rfl rfl (fun c_35 => ?_) (fun c_35 => ?_)
        · refine aw_iload_n 54 dX4_nextCue_53 rfl rfl ?_
          refine aw_istore_n 55 dX4_nextCue_54 rfl (as_2 rfl) (by decide) ?_
          refine aw_iinc 58 dX4_nextCue_55 rfl rfl (as_3 rfl) (by decide) ?_
          refine aw_goto 4 dX4_nextCue_58 rfl ?_
          first | (rw [show nxF (rw_ σ) (σ.2 34) a (i + 1) = i from if_pos ⟨by omega, by assumption, by omega⟩] at ih; exact ih) | (rw [show nxF (rw_ σ) (σ.2 34) a (i + 1) = nxF (rw_ σ) (σ.2 34) a i from if_neg (fun z => by first | exact absurd z.2.1 (by assumption) | omega)] at ih; exact ih)
        · have hfb := (hr.cue (c := nxF (rw_ σ) (σ.2 34) a i) (by omega) (by omega)).1
          refine aw_aload_n 39 dX4_nextCue_38 rfl rfl ?_
          refine aw_iload_n 40 dX4_nextCue_39 rfl rfl ?_
          refine aw_iconst 41 dX4_nextCue_40 rfl ?_
          refine aw_xV 44 (m_of0 hC _ _ hr.1 (by omega)) mvX4_of q2299 (rdl (mh_obj _ _)) rfl rfl rfl (by decide) (by decide) (Nat.le_refl _) (Nat.le_refl _) rfl (Nat.le_of_ble_eq_true rfl) dX4_nextCue_41 rfl ?_
          refine aw_aload_n 45 dX4_nextCue_44 rfl rfl ?_
          refine aw_iload_n 46 dX4_nextCue_45 rfl rfl ?_
          refine aw_iconst 47 dX4_nextCue_46 rfl ?_
          refine aw_xV 50 (m_of0 hC _ _ hr.1 (by omega)) mvX4_of q2299 (rdl (mh_obj _ _)) rfl rfl rfl (by decide) (by decide) (Nat.le_refl _) (Nat.le_refl _) rfl (Nat.le_of_ble_eq_true rfl) dX4_nextCue_47 rfl ?_
          refine aw_icmp_ge 55 53 (by omega) dX4_nextCue_50 rfl rfl (fun c_50 => ?_) (fun c_50 => ?_)
          · refine aw_iinc 58 dX4_nextCue_55 rfl rfl (as_3 rfl) (by decide) ?_
            refine aw_goto 4 dX4_nextCue_58 rfl ?_
            first | (rw [show nxF (rw_ σ) (σ.2 34) a (i + 1) = i from if_pos ⟨by omega, by assumption, by omega⟩] at ih; exact ih) | (rw [show nxF (rw_ σ) (σ.2 34) a (i + 1) = nxF (rw_ σ) (σ.2 34) a i from if_neg (fun z => by first | exact absurd z.2.1 (by assumption) | omega)] at ih; exact ih)
          · refine aw_iload_n 54 dX4_nextCue_53 rfl rfl ?_
            refine aw_istore_n 55 dX4_nextCue_54 rfl (as_2 rfl) (by decide) ?_
            refine aw_iinc 58 dX4_nextCue_55 rfl rfl (as_3 rfl) (by decide) ?_
            refine aw_goto 4 dX4_nextCue_58 rfl ?_
            first | (rw [show nxF (rw_ σ) (σ.2 34) a (i + 1) = i from if_pos ⟨by omega, by assumption, by omega⟩] at ih; exact ih) | (rw [show nxF (rw_ σ) (σ.2 34) a (i + 1) = nxF (rw_ σ) (σ.2 34) a i from if_neg (fun z => by first | exact absurd z.2.1 (by assumption) | omega)] at ih; exact ih)
      · refine aw_goto 55 dX4_nextCue_30 rfl ?_
        refine aw_iinc 58 dX4_nextCue_55 rfl rfl (as_3 rfl) (by decide) ?_
        refine aw_goto 4 dX4_nextCue_58 rfl ?_
        first | (rw [show nxF (rw_ σ) (σ.2 34) a (i + 1) = i from if_pos ⟨by omega, by assumption, by omega⟩] at ih; exact ih) | (rw [show nxF (rw_ σ) (σ.2 34) a (i + 1) = nxF (rw_ σ) (σ.2 34) a i from if_neg (fun z => by first | exact absurd z.2.1 (by assumption) | omega)] at ih; exact ih)
theorem m_nextCue {l : Launch} {g : AG} {C : MCx} (hC : MOK C) (σ : MSt) (a : Int) (hr : mR σ) (hT : mT σ) (ha : 0 ≤ a ∧ a < 4): AMx l g miX4_nextCue 13 [.ref C.1, iv a] (mh C σ) (some (iv (nxF (rw_ σ) (σ.2 34) a (r_nC (rw_ σ)).toNat))) (mh C σ) := by
  refine aw_start 2 (by decide) rfl (Nat.le_of_ble_eq_true rfl) ?_
  show AWc l g miX4_nextCue 13 0 0 _ _ 0 0 (mh C σ) 0 [some (.ref C.1), some (iv a), none, none] []
  have h20 := hr.nC
  refine aw_iconst 1 dX4_nextCue_0 rfl ?_
  refine aw_istore_n 2 dX4_nextCue_1 rfl (as_2 rfl) (by decide) ?_
  refine aw_iconst 3 dX4_nextCue_2 rfl ?_
  refine aw_istore_n 4 dX4_nextCue_3 rfl (as_3 rfl) (by decide) ?_
  exact l_nextCue hC σ a hr hT ha (r_nC (rw_ σ)).toNat 0 (by omega)
