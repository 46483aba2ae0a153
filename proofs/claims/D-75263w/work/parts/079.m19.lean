/-! CameraMovesModel: statuses, distances, least lengths -/
set_option maxRecDepth 100000
/-- what questions change -/
def SC (σ τ : MSt) : Prop := (∀ j, j < 27 ∨ 31 < j → τ.1 j = σ.1 j) ∧ (∀ k, k < 32 ∨ 35 < k → τ.2 k = σ.2 k) ∧ (mT σ → mT τ)
theorem SC.rf (σ : MSt) : SC σ σ := ⟨fun _ _ => rfl, fun _ _ => rfl, id⟩
theorem SC.tr {a b c : MSt} (h1 : SC a b) (h2 : SC b c) : SC a c := ⟨fun j hj => (h2.1 j hj).trans (h1.1 j hj), fun k hk => (h2.2.1 k hk).trans (h1.2.1 k hk), fun h => h2.2.2 (h1.2.2 h)⟩
theorem SC.rw {σ τ : MSt} (h : SC σ τ) : rw_ τ = rw_ σ := by
  unfold rw_
  rw [h.1 2 (by decide), h.2.1 1 (by decide)]
theorem SC.toR {σ τ : MSt} (h : SC σ τ) (hr : mR σ) : mR τ := by
  unfold mR mAt
  rw [h.rw, h.1 2 (by decide), h.1 5 (by decide), h.2.1 7 (by decide)]
  exact hr
theorem SC.cu {σ τ : MSt} (h : SC σ τ) {c : Int} (hc : isCu σ c) : isCu τ c := by
  unfold isCu
  rw [h.rw]
  exact hc
theorem SC.ax {σ τ : MSt} (h : SC σ τ) {a : Int} (ha : isAx σ a) : isAx τ a := by
  unfold isAx
  rw [h.1 5 (by decide)]
  exact ha
theorem SC.R (σ : MSt) {k : Nat} (f : Nat → Int) (hk : k = 32 ∨ k = 33 ∨ k = 35) : SC σ (sR σ k f) := by
  refine ⟨fun _ _ => rfl, fun j hj => if_neg (by omega), fun h j => ?_⟩
  show 0 ≤ (if 34 = k then f else σ.2 34) j ∧ (if 34 = k then f else σ.2 34) j ≤ 1
  rw [if_neg (by omega)]
  exact h j
theorem SC.R34 (σ : MSt) {f : Nat → Int} (hf : mT σ → ∀ j, 0 ≤ f j ∧ f j ≤ 1) : SC σ (sR σ 34 f) := ⟨fun _ _ => rfl, fun j hj => if_neg (by omega), fun h j => hf h j⟩
theorem SC.F (σ : MSt) {k : Nat} (z : Int) (hk : 27 ≤ k ∧ k ≤ 31) : SC σ (sF σ k z) := ⟨fun j hj => if_neg (by omega), fun _ _ => rfl, fun h => h⟩
theorem tkU_sc (a c place free : Int) (σ : MSt) : SC σ (tkU a c place free σ) := by
  refine SC.tr (SC.R34 σ (fun h j => ?_)) ((SC.R _ _ (Or.inr (Or.inl rfl))).tr (SC.R _ _ (Or.inl rfl)))
  have := h j
  rw [va_up_at]
  split <;> omega
theorem tkK_ok (a : Int) : ∀ (n : Nat) (last place free : Int) (σ : MSt), SC σ (tkK a n last place free σ) ∧ (tkK a n last place free σ).1 = σ.1 ∧ (tkK a n last place free σ).2 35 = σ.2 35 ∧ (tkK a n last place free σ).2 32 = (mvL (rw_ σ) a n last place free (σ.2 32, σ.2 33)).1 ∧ (tkK a n last place free σ).2 33 = (mvL (rw_ σ) a n last place free (σ.2 32, σ.2 33)).2 := by
  intro n
  induction n with
  | zero => intro _ _ _ σ; exact ⟨SC.rf σ, rfl, rfl, rfl, rfl⟩
  | succ n ih =>
    intro last place free σ
    simp only [tkK, mvL]
    split
    · exact ⟨SC.rf σ, rfl, rfl, rfl, rfl⟩
    · obtain ⟨i1, i2, i3, i4, i5⟩ := ih (fn (rw_ σ) a last) (if mvS (rw_ σ) a (fn (rw_ σ) a last) place free = 0 then r_tg (rw_ σ) (fn (rw_ σ) a last) a else place) (if mvS (rw_ σ) a (fn (rw_ σ) a last) place free = 0 then r_fr (rw_ σ) (fn (rw_ σ) a last) + r_ln (rw_ σ) (fn (rw_ σ) a last) else free) (tkU a (fn (rw_ σ) a last) place free σ)
      exact ⟨(tkU_sc _ _ _ _ _).tr i1, i2, i3, i4, i5⟩
/-- statuses and distances, by axis and cue -/
def stt (σ : MSt) (a : Int) (c : Nat) : Int := (mvA (rw_ σ) (σ.2 7 (3 * a + 2).toNat) a).1 c
def dtt (σ : MSt) (a : Int) (c : Nat) : Int := (mvA (rw_ σ) (σ.2 7 (3 * a + 2).toNat) a).2 c
theorem SC.st {σ τ : MSt} (h : SC σ τ) : stt τ = stt σ := by
  unfold stt
  rw [h.rw, h.2.1 7 (by decide)]
theorem SC.dt {σ τ : MSt} (h : SC σ τ) : dtt τ = dtt σ := by
  unfold dtt
  rw [h.rw, h.2.1 7 (by decide)]
theorem k_takesAll_ok {σ : MSt} (hr : mR σ) (a : Int) : SC σ (k_takesAll a σ) ∧ (k_takesAll a σ).1 = σ.1 ∧ (k_takesAll a σ).2 35 = σ.2 35 ∧ ∀ c : Nat, (c : Int) < r_nC (rw_ σ) → r_has (rw_ σ) c a → (k_takesAll a σ).2 32 c = stt σ a c ∧ (k_takesAll a σ).2 33 c = dtt σ a c := by
  have h0 : SC σ (sR σ 34 (clr (σ.2 34) (r_nC (rw_ σ)).toNat)) := by
    refine SC.R34 σ fun h j => ?_
    have := h j
    rw [clr_at]
    split <;> omega
  obtain ⟨i1, i2, i3, i4, i5⟩ := tkK_ok a 20 (-1) (σ.2 7 (3 * a + 2).toNat) 0 (sR σ 34 (clr (σ.2 34) (r_nC (rw_ σ)).toNat))
  refine ⟨h0.tr i1, i2, i3, fun c h1 h2 => ?_⟩
  have := mvA_in hr.nC (st := σ.2 7 (3 * a + 2).toNat) (σ.2 32, σ.2 33) h1 h2
  exact ⟨(congrFun i4 c).trans this.1, (congrFun i5 c).trans this.2⟩
theorem stt_rg {σ : MSt} (hr : mR σ) {a : Int} (ha : isAx σ a) (c : Nat) : (0 ≤ stt σ a c ∧ stt σ a c ≤ 2) ∧ -19998 ≤ dtt σ a c ∧ dtt σ a c ≤ 19998 := mvA_rg hr.2.2.1 ha hr.2.1.2 (hr.2.2.2 _) c
def o_status (c a : Int) (σ : MSt) : Int × Int := (o_told c a σ, if o_told c a σ = 0 then stt σ a c.toNat else 0)
def o_distance (c a : Int) (σ : MSt) : Int × Int := (o_told c a σ, if o_told c a σ = 0 then dtt σ a c.toNat else 0)
def k_asked (c a : Int) (σ : MSt) : MSt := if o_told c a σ = 0 then k_takesAll a (sF σ 0 (o_told c a σ)) else sF σ 0 (o_told c a σ)
theorem m_status {l : Launch} {g : AG} {C : MCx} (hC : MOK C) (σ : MSt) (c a : Int) (hr : mR σ) (hT : mT σ) (hc : Rg c) (ha : Rg a): AMx l g miX4_status 15 [.ref C.1, iv c, iv a] (mh C σ) (some (iv (o_status c a σ).2)) (mh C (k_asked c a σ)) := by
  refine aw_start 0 (by decide) rfl (Nat.le_of_ble_eq_true rfl) ?_
  show AWc l g miX4_status 15 0 0 _ _ 0 0 (mh C σ) 0 [some (.ref C.1), some (iv c), some (iv a)] []
  have n := hr.nC
  have h5 := hr.2.1
  have ht := o_told_rg c a σ
  refine aw_aload_n 1 dX4_status_0 rfl rfl ?_
  refine aw_iload_n 2 dX4_status_1 rfl rfl ?_
  refine aw_iload_n 3 dX4_status_2 rfl rfl ?_
  refine aw_xV 6 (m_isTold hC _ _ _ hr (by omega) (by omega)) mvX4_isTold q2311 (rdl (mh_obj _ _)) rfl rfl rfl (by decide) (by decide) (Nat.le_refl _) (Nat.le_refl _) rfl (Nat.le_of_ble_eq_true rfl) dX4_status_3 rfl ?_
  refine aw_if_neB 11 9 dX4_status_6 rfl rfl (fun c_6 => ?_) (fun c_6 => ?_)
  · obtain ⟨⟨q1, q1'⟩, q2, q3⟩ := o_told_0 (c := c) (a := a) (σ := σ) (by assumption)
    refine aw_aload_n 12 dX4_status_11 rfl rfl ?_
    refine aw_iload_n 13 dX4_status_12 rfl rfl ?_
    refine aw_xVv 16 (m_takesAll hC (sF σ 0 (o_told c a σ)) _ hr hT q2) mvX4_takesAll q2365 (rdl (mh_obj _ _)) rfl rfl rfl (by decide) (by decide) (Nat.le_refl _) (Nat.le_refl _) rfl (Nat.le_of_ble_eq_true rfl) dX4_status_13 rfl ?_
    refine aw_aload_n 17 dX4_status_16 rfl rfl ?_
    refine aw_get 20 ci4 32 (by decide) q2063 (Or.inl rfl) (rdl (mh_obj _ _)) rfl dX4_status_17 rfl ?_
    refine aw_iload_n 21 dX4_status_20 rfl rfl ?_
    refine aw_iald 22 (rdl (mh_32 hC _)) (by omega) dX4_status_21 rfl (by decide) ?_
    exact aw_xi (by show _ = (if o_told c a σ = 0 then _ else _); rw [if_pos (by assumption)]; exact ((k_takesAll_ok (σ := sF σ 0 (o_told c a σ)) hr a).2.2.2 c.toNat (by show _ < r_nC (rw_ σ); omega) (by rw [show (c.toNat : Int) = c by omega]; exact q3)).1) (by unfold k_asked; rw [if_pos (by assumption)]) rfl dX4_status_22
  · skip
    refine aw_iconst 10 dX4_status_9 rfl ?_
    exact aw_xi (by show _ = (if _ then _ else _); rw [if_neg (by assumption)]) (by unfold k_asked; rw [if_neg (by assumption)]) rfl dX4_status_10
theorem m_distance {l : Launch} {g : AG} {C : MCx} (hC : MOK C) (σ : MSt) (c a : Int) (hr : mR σ) (hT : mT σ) (hc : Rg c) (ha : Rg a): AMx l g miX4_distance 15 [.ref C.1, iv c, iv a] (mh C σ) (some (iv (o_distance c a σ).2)) (mh C (k_asked c a σ)) := by
  refine aw_start 0 (by decide) rfl (Nat.le_of_ble_eq_true rfl) ?_
  show AWc l g miX4_distance 15 0 0 _ _ 0 0 (mh C σ) 0 [some (.ref C.1), some (iv c), some (iv a)] []
  have n := hr.nC
  have h5 := hr.2.1
  have ht := o_told_rg c a σ
  refine aw_aload_n 1 dX4_distance_0 rfl rfl ?_
  refine aw_iload_n 2 dX4_distance_1 rfl rfl ?_
  refine aw_iload_n 3 dX4_distance_2 rfl rfl ?_
  refine aw_xV 6 (m_isTold hC _ _ _ hr (by omega) (by omega)) mvX4_isTold q2311 (rdl (mh_obj _ _)) rfl rfl rfl (by decide) (by decide) (Nat.le_refl _) (Nat.le_refl _) rfl (Nat.le_of_ble_eq_true rfl) dX4_distance_3 rfl ?_
  refine aw_if_neB 11 9 dX4_distance_6 rfl rfl (fun c_6 => ?_) (fun c_6 => ?_)
  · obtain ⟨⟨q1, q1'⟩, q2, q3⟩ := o_told_0 (c := c) (a := a) (σ := σ) (by assumption)
    refine aw_aload_n 12 dX4_distance_11 rfl rfl ?_
    refine aw_iload_n 13 dX4_distance_12 rfl rfl ?_
    refine aw_xVv 16 (m_takesAll hC (sF σ 0 (o_told c a σ)) _ hr hT q2) mvX4_takesAll q2365 (rdl (mh_obj _ _)) rfl rfl rfl (by decide) (by decide) (Nat.le_refl _) (Nat.le_refl _) rfl (Nat.le_of_ble_eq_true rfl) dX4_distance_13 rfl ?_
    refine aw_aload_n 17 dX4_distance_16 rfl rfl ?_
    refine aw_get 20 ci4 33 (by decide) q2064 (Or.inl rfl) (rdl (mh_obj _ _)) rfl dX4_distance_17 rfl ?_
    refine aw_iload_n 21 dX4_distance_20 rfl rfl ?_
    refine aw_iald 22 (rdl (mh_33 hC _)) (by omega) dX4_distance_21 rfl (by decide) ?_
    exact aw_xi (by show _ = (if o_told c a σ = 0 then _ else _); rw [if_pos (by assumption)]; exact ((k_takesAll_ok (σ := sF σ 0 (o_told c a σ)) hr a).2.2.2 c.toNat (by show _ < r_nC (rw_ σ); omega) (by rw [show (c.toNat : Int) = c by omega]; exact q3)).2) (by unfold k_asked; rw [if_pos (by assumption)]) rfl dX4_distance_22
  · refine aw_iconst 10 dX4_distance_9 rfl ?_
    exact aw_xi (by show _ = (if _ then _ else _); rw [if_neg (by assumption)]) (by unfold k_asked; rw [if_neg (by assumption)]) rfl dX4_distance_10
/-- the sum of the first n -/
def sof (f : Nat → Int) : Nat → Int
  | 0 => 0
  | n + 1 => sof f n + f n
theorem sof_rg {f : Nat → Int} {B : Int} (h : ∀ k, 0 ≤ f k ∧ f k ≤ B) : ∀ n : Nat, 0 ≤ sof f n ∧ sof f n ≤ B * n := by
  intro n
  induction n with
  | zero => exact ⟨Int.le_refl 0, by simp [sof]⟩
  | succ n ih =>
    have := h n
    simp only [sof]
    rw [show B * ((n + 1 : Nat) : Int) = B * n + B by rw [Int.natCast_add, Int.mul_add]; simp]
    omega
theorem if01 (p : Prop) [Decidable p] : 0 ≤ (if p then (1 : Int) else 0) ∧ (if p then (1 : Int) else 0) ≤ 1 := by split <;> omega
/-- the states of the loop over the axes -/
def kT (σ : MSt) : Nat → MSt
  | 0 => σ
  | n + 1 => k_takesAll n (kT σ n)
theorem kT_sc {σ : MSt} (hr : mR σ) : ∀ n, SC σ (kT σ n) := by
  intro n
  induction n with
  | zero => exact SC.rf σ
  | succ n ih => exact ih.tr (k_takesAll_ok (ih.toR hr) n).1
/-- how many of an axis's moves have a status -/
def mw1 (σ : MSt) (its a : Int) (n : Nat) : Int := sof (fun c => if r_has (rw_ σ) c a ∧ stt σ a c = its then 1 else 0) n
def mwV (σ : MSt) (its : Int) (n : Nat) : Int := sof (fun a => mw1 σ its a (r_nC (rw_ σ)).toNat) n
theorem mw1_rg (σ : MSt) (its a : Int) (n : Nat) : 0 ≤ mw1 σ its a n ∧ mw1 σ its a n ≤ n := by
  have := sof_rg (f := fun c => if r_has (rw_ σ) c a ∧ stt σ a c = its then 1 else 0) (B := 1) (fun k => if01 _) n
  unfold mw1
  omega
theorem mw1_t {σ : MSt} {its a : Int} {n : Nat} (h1 : r_has (rw_ σ) n a) (h2 : stt σ a n = its) : mw1 σ its a (n + 1) = mw1 σ its a n + 1 := congrArg (mw1 σ its a n + ·) (if_pos ⟨h1, h2⟩)
theorem mw1_f {σ : MSt} {its a : Int} {n : Nat} (h : ¬ (r_has (rw_ σ) n a ∧ stt σ a n = its)) : mw1 σ its a (n + 1) = mw1 σ its a n := (congrArg (mw1 σ its a n + ·) (if_neg h)).trans (Int.add_zero _)
theorem l_many1 {l : Launch} {g : AG} {C : MCx} (hC : MOK C) {R : Option Value} {H1 : AH} (σ τ : MSt) (a its V : Int) (hs : SC σ τ) (hr : mR σ) (ha : isAx σ a) (hV : 0 ≤ V ∧ V ≤ 1000) (hi : Rg its) (hst : ∀ c : Nat, (c : Int) < r_nC (rw_ σ) → r_has (rw_ σ) c a → τ.2 32 c = stt σ a c) (kk : ∀ o : Option Value, AWc l g miX4_manyWith 15 0 0 (fun r2 h2 => r2 = R ∧ h2 = H1) (fun _ _ _ => False) 0 0 (mh C τ) 59 [some (.ref C.1), some (iv its), some (iv (V + mw1 σ its a (r_nC (rw_ σ)).toNat)), some (iv a), o] []) : ∀ (n i : Nat), (i : Int) + n = r_nC (rw_ σ) → AWc l g miX4_manyWith 15 0 0 (fun r2 h2 => r2 = R ∧ h2 = H1) (fun _ _ _ => False) 0 0 (mh C τ) 20 [some (.ref C.1), some (iv its), some (iv (V + mw1 σ its a i)), some (iv a), some (iv i)] [] := by
  have h20 := hr.nC
  have hrt := hs.toR hr
  have hρ := hs.rw
  have h5 := hr.2.1
  have ha1 := ha.1
  have ha2 := ha.2
  intro n
  induction n with
  | zero =>
    intro i hi2
    have e : (r_nC (rw_ σ)).toNat = i := by omega
    rw [e] at kk
    refine aw_iload 22 dX4_manyWith_20 rfl rfl ?_
    refine aw_aload_n 23 dX4_manyWith_22 rfl rfl ?_
    refine aw_xV 26 (m_nC hC τ hrt.1) mvX4_cueMany q2259 (rdl (mh_obj _ _)) rfl rfl rfl (by decide) (by decide) (Nat.le_refl _) (Nat.le_refl _) rfl (Nat.le_of_ble_eq_true rfl) dX4_manyWith_23 rfl ?_
    rw [hρ]
    refine aw_icmp_ge 59 29 (by omega) dX4_manyWith_26 rfl rfl (fun c_26 => ?_) (fun c_26 => absurd c_26 (by omega))
    exact kk _
  | succ n ih =>
    intro i hi2
    have ih := ih (i + 1) (by omega)
    have hst := hst i (by omega)
    have hrg := stt_rg hr ha i
    have hm := mw1_rg σ its a i
    have hsc : τ.2 32 (i : Int).toNat = τ.2 32 i := rfl
    refine aw_iload 22 dX4_manyWith_20 rfl rfl ?_
    refine aw_aload_n 23 dX4_manyWith_22 rfl rfl ?_
    refine aw_xV 26 (m_nC hC τ hrt.1) mvX4_cueMany q2259 (rdl (mh_obj _ _)) rfl rfl rfl (by decide) (by decide) (Nat.le_refl _) (Nat.le_refl _) rfl (Nat.le_of_ble_eq_true rfl) dX4_manyWith_23 rfl ?_
    rw [hρ]
    refine aw_icmp_ge 59 29 (by omega) dX4_manyWith_26 rfl rfl (fun c_26 => absurd c_26 (by omega)) (fun c_26 => ?_)
    refine aw_aload_n 30 dX4_manyWith_29 rfl rfl ?_
    refine aw_iload 32 dX4_manyWith_30 rfl rfl ?_
    refine aw_iload_n 33 dX4_manyWith_32 rfl rfl ?_
    refine aw_xV 36 (m_has hC τ _ _ hrt (hs.cu (by omega)) (by omega)) mvX4_has q2315 (rdl (mh_obj _ _)) rfl rfl rfl (by decide) (by decide) (Nat.le_refl _) (Nat.le_refl _) rfl (Nat.le_of_ble_eq_true rfl) dX4_manyWith_33 rfl ?_
    rw [hρ]
    refine aw_if_eqB 53 39 dX4_manyWith_36 rfl rfl (fun c_36 => ?_) (fun c_36 => ?_)
    · refine aw_iinc 56 dX4_manyWith_53 rfl rfl (as_4 rfl) (by decide) ?_
      refine aw_goto 20 dX4_manyWith_56 rfl ?_
      first | (rw [mw1_t (by assumption) (by omega), ← Int.add_assoc] at ih; exact ih) | (rw [mw1_f (fun z => by first | exact absurd z.1 (by assumption) | omega)] at ih; exact ih)
    · have hq := hst (by assumption)
      refine aw_aload_n 40 dX4_manyWith_39 rfl rfl ?_
      refine aw_get 43 ci4 32 (by decide) q2063 (Or.inl rfl) (rdl (mh_obj _ _)) rfl dX4_manyWith_40 rfl ?_
      refine aw_iload 45 dX4_manyWith_43 rfl rfl ?_
      refine aw_iald 46 (rdl (mh_32 hC _)) (by omega) dX4_manyWith_45 rfl (by decide) ?_
      refine aw_iload_n 47 dX4_manyWith_46 rfl rfl ?_
      refine aw_icmp_ne 53 50 (by omega) dX4_manyWith_47 rfl rfl (fun c_47 => ?_) (fun c_47 => ?_)
      · refine aw_iinc 56 dX4_manyWith_53 rfl rfl (as_4 rfl) (by decide) ?_
        refine aw_goto 20 dX4_manyWith_56 rfl ?_
        first | (rw [mw1_t (by assumption) (by omega), ← Int.add_assoc] at ih; exact ih) | (rw [mw1_f (fun z => by first | exact absurd z.1 (by assumption) | omega)] at ih; exact ih)
      · refine aw_iinc 53 dX4_manyWith_50 rfl rfl (as_2 rfl) (by decide) ?_
        refine aw_iinc 56 dX4_manyWith_53 rfl rfl (as_4 rfl) (by decide) ?_
        refine aw_goto 20 dX4_manyWith_56 rfl ?_
        first | (rw [mw1_t (by assumption) (by omega), ← Int.add_assoc] at ih; exact ih) | (rw [mw1_f (fun z => by first | exact absurd z.1 (by assumption) | omega)] at ih; exact ih)
theorem l_many {l : Launch} {g : AG} {C : MCx} (hC : MOK C) (σ : MSt) (its : Int) (hr : mR σ) (hT : mT σ) (hi : Rg its) : ∀ (n i : Nat) (o : Option Value), (i : Int) + n = σ.1 5 → AWc l g miX4_manyWith 15 0 0 (fun r2 h2 => r2 = some (iv (mwV σ its (σ.1 5).toNat)) ∧ h2 = mh C (kT σ (σ.1 5).toNat)) (fun _ _ _ => False) 0 0 (mh C (kT σ i)) 4 [some (.ref C.1), some (iv its), some (iv (mwV σ its i)), some (iv i), o] [] := by
  have h5 := hr.2.1
  have h20 := hr.nC
  intro n
  induction n with
  | zero =>
    intro i o hi2
    have e : (σ.1 5).toNat = i := by omega
    have hs := kT_sc hr i
    rw [e]
    refine aw_iload_n 5 dX4_manyWith_4 rfl rfl ?_
    refine aw_aload_n 6 dX4_manyWith_5 rfl rfl ?_
    refine aw_get 9 ci4 5 (by decide) q2036 (Or.inl rfl) (rdl (mh_obj _ _)) rfl dX4_manyWith_6 rfl ?_
    refine aw_st (show _ = [iv (σ.1 5), iv (i : Int)] from congrArg (fun x => [iv x, iv (i : Int)]) (hs.1 5 (by decide))) ?_
    refine aw_icmp_ge 65 12 (by omega) dX4_manyWith_9 rfl rfl (fun c_9 => ?_) (fun c_9 => absurd c_9 (by omega))
    refine aw_iload_n 66 dX4_manyWith_65 rfl rfl ?_
    exact aw_xi (by rfl) (rfl) rfl dX4_manyWith_66
  | succ n ih =>
    intro i o hi2
    have ih := fun o => ih (i + 1) o (by omega)
    have hs := kT_sc hr i
    have hrt := hs.toR hr
    have hk := k_takesAll_ok hrt i
    have hs2 := kT_sc hr (i + 1)
    have hv : 0 ≤ mwV σ its i ∧ mwV σ its i ≤ 20 * i := sof_rg (fun k => by have := mw1_rg σ its k (r_nC (rw_ σ)).toNat; omega) i
    refine aw_iload_n 5 dX4_manyWith_4 rfl rfl ?_
    refine aw_aload_n 6 dX4_manyWith_5 rfl rfl ?_
    refine aw_get 9 ci4 5 (by decide) q2036 (Or.inl rfl) (rdl (mh_obj _ _)) rfl dX4_manyWith_6 rfl ?_
    refine aw_st (show _ = [iv (σ.1 5), iv (i : Int)] from congrArg (fun x => [iv x, iv (i : Int)]) (hs.1 5 (by decide))) ?_
    refine aw_icmp_ge 65 12 (by omega) dX4_manyWith_9 rfl rfl (fun c_9 => absurd c_9 (by omega)) (fun c_9 => ?_)
    refine aw_aload_n 13 dX4_manyWith_12 rfl rfl ?_
    refine aw_iload_n 14 dX4_manyWith_13 rfl rfl ?_
    refine aw_xVv 17 (m_takesAll hC _ _ hrt (hs.2.2 hT) (by show 0 ≤ (i : Int) ∧ (i : Int) < (kT σ i).1 5; rw [hs.1 5 (by decide)]; omega)) mvX4_takesAll q2365 (rdl (mh_obj _ _)) rfl rfl rfl (by decide) (by decide) (Nat.le_refl _) (Nat.le_refl _) rfl (Nat.le_of_ble_eq_true rfl) dX4_manyWith_14 rfl ?_
    refine aw_iconst 18 dX4_manyWith_17 rfl ?_
    refine aw_istore 20 dX4_manyWith_18 rfl (as_4 rfl) (by decide) ?_
    rw [← show mwV σ its i + mw1 σ its i 0 = mwV σ its i from Int.add_zero _]; refine l_many1 hC σ (kT σ (i + 1)) i its (mwV σ its i) hs2 hr ⟨by omega, by omega⟩ (by omega) hi (fun c q1 q2 => ?_) (fun o => ?_) (r_nC (rw_ σ)).toNat 0 (by omega)
    · rw [hs.rw] at hk
      exact (hk.2.2.2 c q1 q2).1.trans (by rw [hs.st])
    · skip
      refine aw_iinc 62 dX4_manyWith_59 rfl rfl (as_3 rfl) (by decide) ?_
      refine aw_goto 4 dX4_manyWith_62 rfl ?_
      exact ih _
theorem m_manyWith {l : Launch} {g : AG} {C : MCx} (hC : MOK C) (σ : MSt) (its : Int) (hr : mR σ) (hT : mT σ) (hi : Rg its): AMx l g miX4_manyWith 15 [.ref C.1, iv its] (mh C σ) (some (iv (mwV σ its (σ.1 5).toNat))) (mh C (kT σ (σ.1 5).toNat)) := by
  refine aw_start 3 (by decide) rfl (Nat.le_of_ble_eq_true rfl) ?_
  show AWc l g miX4_manyWith 15 0 0 _ _ 0 0 (mh C σ) 0 [some (.ref C.1), some (iv its), none, none, none] []
  have h5 := hr.2.1
  refine aw_iconst 1 dX4_manyWith_0 rfl ?_
  refine aw_istore_n 2 dX4_manyWith_1 rfl (as_2 rfl) (by decide) ?_
  refine aw_iconst 3 dX4_manyWith_2 rfl ?_
  refine aw_istore_n 4 dX4_manyWith_3 rfl (as_3 rfl) (by decide) ?_
  exact l_many hC σ its hr hT hi (σ.1 5).toNat 0 _ (by omega)
theorem m_withStatus {l : Launch} {g : AG} {C : MCx} (hC : MOK C) (σ : MSt) (its : Int) (hr : mR σ) (hT : mT σ) (hi : Rg its): AMx l g miX4_withStatus 16 [.ref C.1, iv its] (mh C σ) (some (iv (mwV σ its (σ.1 5).toNat))) (mh C (kT (sF σ 0 0) (σ.1 5).toNat)) := by
  refine aw_start 0 (by decide) rfl (Nat.le_of_ble_eq_true rfl) ?_
  show AWc l g miX4_withStatus 16 0 0 _ _ 0 0 (mh C σ) 0 [some (.ref C.1), some (iv its)] []
  refine aw_aload_n 1 dX4_withStatus_0 rfl rfl ?_
  refine aw_iconst 2 dX4_withStatus_1 rfl ?_
  refine aw_put 5 ci4 0 (by decide) q2031 (Or.inl rfl) rfl rfl rfl (Nat.le_of_ble_eq_true rfl) (mh_obj _ _) dX4_withStatus_2 rfl ?_
  refine aw_h (mhp_0 _ _ _) ?_
  refine aw_aload_n 6 dX4_withStatus_5 rfl rfl ?_
  refine aw_iload_n 7 dX4_withStatus_6 rfl rfl ?_
  refine aw_xV 10 (m_manyWith hC (sF σ 0 0) _ hr hT hi) mvX4_manyWith q2381 (rdl (mh_obj _ _)) rfl rfl rfl (by decide) (by decide) (Nat.le_refl _) (Nat.le_refl _) rfl (Nat.le_of_ble_eq_true rfl) dX4_withStatus_7 rfl ?_
  exact aw_xi (by rfl) (rfl) rfl dX4_withStatus_10
/-- the least length of a cue, by its first n axes -/
def lnV (σ : MSt) (c : Int) : Nat → Int
  | 0 => 1
  | n + 1 => if r_has (rw_ σ) c n then (if lnV σ c n < lst (r_sp (rw_ σ) n) (r_rp (rw_ σ) n) (ab (dtt σ n c.toNat)) then lst (r_sp (rw_ σ) n) (r_rp (rw_ σ) n) (ab (dtt σ n c.toNat)) else lnV σ c n) else lnV σ c n
def kN (σ : MSt) (c : Int) : Nat → MSt
  | 0 => σ
  | n + 1 => if r_has (rw_ σ) c n then k_takesAll n (kN σ c n) else kN σ c n
theorem kN_sc {σ : MSt} (hr : mR σ) (c : Int) : ∀ n, SC σ (kN σ c n) := by
  intro n
  induction n with
  | zero => exact SC.rf σ
  | succ n ih =>
    simp only [kN]
    split
    · exact ih.tr (k_takesAll_ok (ih.toR hr) n).1
    · exact ih
theorem lst_d {σ : MSt} (hr : mR σ) {a : Int} (ha : isAx σ a) (c : Nat) : 0 ≤ lst (r_sp (rw_ σ) a) (r_rp (rw_ σ) a) (ab (dtt σ a c)) ∧ lst (r_sp (rw_ σ) a) (r_rp (rw_ σ) a) (ab (dtt σ a c)) ≤ 19998 := by
  obtain ⟨h1, h2, h3, h4⟩ := sm_v hr ha
  have hd := (stt_rg hr ha c).2
  have hab : ab (dtt σ a c) = ((dtt σ a c).natAbs : Int) := rfl
  have q := lst_spec (v := r_sp (rw_ σ) a) (r := r_rp (rw_ σ) a) (g := ab (dtt σ a c)) h3 (by omega) (by omega)
  omega
theorem lnV_rg {σ : MSt} (hr : mR σ) (c : Int) : ∀ n : Nat, (n : Int) ≤ σ.1 5 → 1 ≤ lnV σ c n ∧ lnV σ c n ≤ 19998 := by
  intro n
  induction n with
  | zero => intro _; exact ⟨Int.le_refl 1, (by decide : (1 : Int) ≤ 19998)⟩
  | succ n ih =>
    intro h
    have i := ih (by omega)
    have q := lst_d hr (a := (n : Int)) ⟨by omega, by omega⟩ c.toNat
    simp only [lnV]
    (repeat' split) <;> omega
theorem l_need {l : Launch} {g : AG} {C : MCx} (hC : MOK C) (σ : MSt) (c : Int) (hr : mR σ) (hT : mT σ) (hc : isCu σ c) : ∀ (n i : Nat) (o : Option Value), (i : Int) + n = σ.1 5 → AWc l g miX4_lengthNeeded 15 0 0 (fun r2 h2 => r2 = some (iv (lnV σ c (σ.1 5).toNat)) ∧ h2 = mh C (kN σ c (σ.1 5).toNat)) (fun _ _ _ => False) 0 0 (mh C (kN σ c i)) 4 [some (.ref C.1), some (iv c), some (iv (lnV σ c i)), some (iv i), o] [] := by
  have h5 := hr.2.1
  have h20 := hr.nC
  intro n
  induction n with
  | zero =>
    intro i o hi2
    have e : (σ.1 5).toNat = i := by omega
    have hs := kN_sc hr c i
    rw [e]
    refine aw_iload_n 5 dX4_lengthNeeded_4 rfl rfl ?_
    refine aw_aload_n 6 dX4_lengthNeeded_5 rfl rfl ?_
    refine aw_get 9 ci4 5 (by decide) q2036 (Or.inl rfl) (rdl (mh_obj _ _)) rfl dX4_lengthNeeded_6 rfl ?_
    refine aw_st (show _ = [iv (σ.1 5), iv (i : Int)] from congrArg (fun x => [iv x, iv (i : Int)]) (hs.1 5 (by decide))) ?_
    refine aw_icmp_ge 61 12 (by omega) dX4_lengthNeeded_9 rfl rfl (fun c_9 => ?_) (fun c_9 => absurd c_9 (by omega))
    refine aw_iload_n 62 dX4_lengthNeeded_61 rfl rfl ?_
    exact aw_xi (by rfl) (rfl) rfl dX4_lengthNeeded_62
  | succ n ih =>
    intro i o hi2
    have ih := fun o => ih (i + 1) o (by omega)
    have hs := kN_sc hr c i
    have hrt := hs.toR hr
    have hk := k_takesAll_ok hrt i
    have hρ := hs.rw
    have ha : isAx σ i := ⟨by omega, by omega⟩
    have hai : isAx (kN σ c i) i := by unfold isAx; rw [hs.1 5 (by decide)]; exact ha
    have hd := (stt_rg hr ha c.toNat).2
    have hl := lst_d hr ha c.toNat
    have hln := lnV_rg hr c i (by omega)
    rw [hρ] at hk
    refine aw_iload_n 5 dX4_lengthNeeded_4 rfl rfl ?_
    refine aw_aload_n 6 dX4_lengthNeeded_5 rfl rfl ?_
    refine aw_get 9 ci4 5 (by decide) q2036 (Or.inl rfl) (rdl (mh_obj _ _)) rfl dX4_lengthNeeded_6 rfl ?_
    refine aw_st (show _ = [iv (σ.1 5), iv (i : Int)] from congrArg (fun x => [iv x, iv (i : Int)]) (hs.1 5 (by decide))) ?_
    refine aw_icmp_ge 61 12 (by omega) dX4_lengthNeeded_9 rfl rfl (fun c_9 => absurd c_9 (by omega)) (fun c_9 => ?_)
    refine aw_aload_n 13 dX4_lengthNeeded_12 rfl rfl ?_
    refine aw_iload_n 14 dX4_lengthNeeded_13 rfl rfl ?_
    refine aw_iload_n 15 dX4_lengthNeeded_14 rfl rfl ?_
    refine aw_xV 18 (m_has hC _ _ _ hrt (hs.cu hc) (by omega)) mvX4_has q2315 (rdl (mh_obj _ _)) rfl rfl rfl (by decide) (by decide) (Nat.le_refl _) (Nat.le_refl _) rfl (Nat.le_of_ble_eq_true rfl) dX4_lengthNeeded_15 rfl ?_
    rw [hρ]
    refine aw_if_neB 24 21 dX4_lengthNeeded_18 rfl rfl (fun c_18 => ?_) (fun c_18 => ?_)
    · have hq := (hk.2.2.2 c.toNat (by omega) (by rw [show (c.toNat : Int) = c by omega]; assumption)).2.trans (congrFun (congrFun hs.dt i) c.toNat)
      refine aw_aload_n 25 dX4_lengthNeeded_24 rfl rfl ?_
      refine aw_iload_n 26 dX4_lengthNeeded_25 rfl rfl ?_
      refine aw_xVv 29 (m_takesAll hC _ _ hrt (hs.2.2 hT) hai) mvX4_takesAll q2365 (rdl (mh_obj _ _)) rfl rfl rfl (by decide) (by decide) (Nat.le_refl _) (Nat.le_refl _) rfl (Nat.le_of_ble_eq_true rfl) dX4_lengthNeeded_26 rfl ?_
      refine aw_aload_n 30 dX4_lengthNeeded_29 rfl rfl ?_
      refine aw_iload_n 31 dX4_lengthNeeded_30 rfl rfl ?_
      refine aw_aload_n 32 dX4_lengthNeeded_31 rfl rfl ?_
      refine aw_get 35 ci4 33 (by decide) q2064 (Or.inl rfl) (rdl (mh_obj _ _)) rfl dX4_lengthNeeded_32 rfl ?_
      refine aw_iload_n 36 dX4_lengthNeeded_35 rfl rfl ?_
      refine aw_iald 37 (rdl (mh_33 hC _)) (by omega) dX4_lengthNeeded_36 rfl (by decide) ?_
      refine aw_st (congrArg (fun x => iv x :: _) (show _ = dtt σ i c.toNat from hq)) ?_
      refine aw_xV 40 (m_leastOf hC _ _ _ (hk.1.toR hrt) (by unfold isAx; rw [hk.1.1 5 (by decide)]; exact hai) hd) mvX4_leastOf q2323 (rdl (mh_obj _ _)) rfl rfl rfl (by decide) (by decide) (Nat.le_refl _) (Nat.le_refl _) rfl (Nat.le_of_ble_eq_true rfl) dX4_lengthNeeded_37 rfl ?_
      rw [hk.1.rw, hρ]
      refine aw_istore 42 dX4_lengthNeeded_40 rfl (as_4 rfl) (by decide) ?_
      refine aw_iload 44 dX4_lengthNeeded_42 rfl rfl ?_
      refine aw_iload_n 45 dX4_lengthNeeded_44 rfl rfl ?_
      refine aw_icmp_le 53 48 (by omega) dX4_lengthNeeded_45 rfl rfl (fun c_45 => ?_) (fun c_45 => ?_)
      · refine aw_iload_n 54 dX4_lengthNeeded_53 rfl rfl ?_
        refine aw_istore_n 55 dX4_lengthNeeded_54 rfl (as_2 rfl) (by decide) ?_
        refine aw_iinc 58 dX4_lengthNeeded_55 rfl rfl (as_3 rfl) (by decide) ?_
        refine aw_goto 4 dX4_lengthNeeded_58 rfl ?_
        first | (rw [show kN σ c (i + 1) = kN σ c i from if_neg (by assumption), show lnV σ c (i + 1) = lnV σ c i from if_neg (by assumption)] at ih; exact ih _) | (rw [show kN σ c (i + 1) = k_takesAll i (kN σ c i) from if_pos (by assumption)] at ih; first | (rw [show lnV σ c (i + 1) = lst (r_sp (rw_ σ) i) (r_rp (rw_ σ) i) (ab (dtt σ i c.toNat)) from (if_pos (by assumption)).trans (if_pos (by omega))] at ih; exact ih _) | (rw [show lnV σ c (i + 1) = lnV σ c i from (if_pos (by assumption)).trans (if_neg (by omega))] at ih; exact ih _))
      · refine aw_iload 50 dX4_lengthNeeded_48 rfl rfl ?_
        refine aw_goto 54 dX4_lengthNeeded_50 rfl ?_
        refine aw_istore_n 55 dX4_lengthNeeded_54 rfl (as_2 rfl) (by decide) ?_
        refine aw_iinc 58 dX4_lengthNeeded_55 rfl rfl (as_3 rfl) (by decide) ?_
        refine aw_goto 4 dX4_lengthNeeded_58 rfl ?_
        first | (rw [show kN σ c (i + 1) = kN σ c i from if_neg (by assumption), show lnV σ c (i + 1) = lnV σ c i from if_neg (by assumption)] at ih; exact ih _) | (rw [show kN σ c (i + 1) = k_takesAll i (kN σ c i) from if_pos (by assumption)] at ih; first | (rw [show lnV σ c (i + 1) = lst (r_sp (rw_ σ) i) (r_rp (rw_ σ) i) (ab (dtt σ i c.toNat)) from (if_pos (by assumption)).trans (if_pos (by omega))] at ih; exact ih _) | (rw [show lnV σ c (i + 1) = lnV σ c i from (if_pos (by assumption)).trans (if_neg (by omega))] at ih; exact ih _))
    · refine aw_goto 55 dX4_lengthNeeded_21 rfl ?_
      refine aw_iinc 58 dX4_lengthNeeded_55 rfl rfl (as_3 rfl) (by decide) ?_
      refine aw_goto 4 dX4_lengthNeeded_58 rfl ?_
      first | (rw [show kN σ c (i + 1) = kN σ c i from if_neg (by assumption), show lnV σ c (i + 1) = lnV σ c i from if_neg (by assumption)] at ih; exact ih _) | (rw [show kN σ c (i + 1) = k_takesAll i (kN σ c i) from if_pos (by assumption)] at ih; first | (rw [show lnV σ c (i + 1) = lst (r_sp (rw_ σ) i) (r_rp (rw_ σ) i) (ab (dtt σ i c.toNat)) from (if_pos (by assumption)).trans (if_pos (by omega))] at ih; exact ih _) | (rw [show lnV σ c (i + 1) = lnV σ c i from (if_pos (by assumption)).trans (if_neg (by omega))] at ih; exact ih _))
theorem m_lengthNeeded {l : Launch} {g : AG} {C : MCx} (hC : MOK C) (σ : MSt) (c : Int) (hr : mR σ) (hT : mT σ) (hc : isCu σ c): AMx l g miX4_lengthNeeded 15 [.ref C.1, iv c] (mh C σ) (some (iv (lnV σ c (σ.1 5).toNat))) (mh C (kN σ c (σ.1 5).toNat)) := by
  refine aw_start 3 (by decide) rfl (Nat.le_of_ble_eq_true rfl) ?_
  show AWc l g miX4_lengthNeeded 15 0 0 _ _ 0 0 (mh C σ) 0 [some (.ref C.1), some (iv c), none, none, none] []
  have h5 := hr.2.1
  refine aw_iconst 1 dX4_lengthNeeded_0 rfl ?_
  refine aw_istore_n 2 dX4_lengthNeeded_1 rfl (as_2 rfl) (by decide) ?_
  refine aw_iconst 3 dX4_lengthNeeded_2 rfl ?_
  refine aw_istore_n 4 dX4_lengthNeeded_3 rfl (as_3 rfl) (by decide) ?_
  exact l_need hC σ c hr hT hc (σ.1 5).toNat 0 _ (by omega)
def o_leastLength (c : Int) (σ : MSt) : Int × Int := if isCu σ c then (0, lnV σ c (σ.1 5).toNat) else (1, 0)
def k_leastLength (c : Int) (σ : MSt) : MSt := if isCu σ c then kN σ c (σ.1 5).toNat else σ
theorem m_leastLength {l : Launch} {g : AG} {C : MCx} (hC : MOK C) (σ : MSt) (c : Int) (hr : mR σ) (hT : mT σ) (hc : Rg c): AMx l g miX4_leastLength 16 [.ref C.1, iv c] (mh C σ) (some (iv (o_leastLength c (sF σ 0 0)).2)) (mh C (sF (k_leastLength c (sF σ 0 0)) 0 (o_leastLength c (sF σ 0 0)).1)) := by
  refine aw_start 0 (by decide) rfl (Nat.le_of_ble_eq_true rfl) ?_
  show AWc l g miX4_leastLength 16 0 0 _ _ 0 0 (mh C σ) 0 [some (.ref C.1), some (iv c)] []
  have h0 : (sF σ 0 0).1 0 = 0 := rfl
  have hr : mR (sF σ 0 0) := hr
  have hT : mT (sF σ 0 0) := hT
  refine aw_aload_n 1 dX4_leastLength_0 rfl rfl ?_
  refine aw_iconst 2 dX4_leastLength_1 rfl ?_
  refine aw_put 5 ci4 0 (by decide) q2031 (Or.inl rfl) rfl rfl rfl (Nat.le_of_ble_eq_true rfl) (mh_obj _ _) dX4_leastLength_2 rfl ?_
  refine aw_h (mhp_0 _ _ _) ?_
  generalize sF σ 0 0 = σ at h0 hr hT ⊢
  refine aw_aload_n 6 dX4_leastLength_5 rfl rfl ?_
  refine aw_iload_n 7 dX4_leastLength_6 rfl rfl ?_
  refine aw_xV 10 (m_isCue hC _ _ hr (by omega)) mvX4_isCue q2295 (rdl (mh_obj _ _)) rfl rfl rfl (by decide) (by decide) (Nat.le_refl _) (Nat.le_refl _) rfl (Nat.le_of_ble_eq_true rfl) dX4_leastLength_7 rfl ?_
  refine aw_if_eqB 21 13 dX4_leastLength_10 rfl rfl (fun c_10 => ?_) (fun c_10 => ?_)
  · refine aw_aload_n 22 dX4_leastLength_21 rfl rfl ?_
    refine aw_iconst 23 dX4_leastLength_22 rfl ?_
    refine aw_xV 26 (m_fails hC _ _) mvX4_fails q2151 (rdl (mh_obj _ _)) rfl rfl rfl (by decide) (by decide) (Nat.le_refl _) (Nat.le_refl _) rfl (Nat.le_of_ble_eq_true rfl) dX4_leastLength_23 rfl ?_
    exact aw_xi (by unfold o_leastLength; (repeat' split) <;> first | rfl | omega | (exfalso; first | contradiction | omega)) (by unfold o_leastLength k_leastLength; first | (rw [if_pos (by assumption), if_pos (by assumption)]; exact congrArg (mh C) (sF_id (σ := kN σ c (σ.1 5).toNat) (k := 0) (z := 0) (((kN_sc hr c _).1 0 (by decide)).trans h0)).symm) | (rw [if_neg (by assumption), if_neg (by assumption)])) rfl dX4_leastLength_26
  · refine aw_aload_n 14 dX4_leastLength_13 rfl rfl ?_
    refine aw_iload_n 15 dX4_leastLength_14 rfl rfl ?_
    refine aw_xV 18 (m_lengthNeeded hC _ _ hr hT (by omega)) mvX4_lengthNeeded q2389 (rdl (mh_obj _ _)) rfl rfl rfl (by decide) (by decide) (Nat.le_refl _) (Nat.le_refl _) rfl (Nat.le_of_ble_eq_true rfl) dX4_leastLength_15 rfl ?_
    refine aw_goto 26 dX4_leastLength_18 rfl ?_
    exact aw_xi (by unfold o_leastLength; (repeat' split) <;> first | rfl | omega | (exfalso; first | contradiction | omega)) (by unfold o_leastLength k_leastLength; first | (rw [if_pos (by assumption), if_pos (by assumption)]; exact congrArg (mh C) (sF_id (σ := kN σ c (σ.1 5).toNat) (k := 0) (z := 0) (((kN_sc hr c _).1 0 (by decide)).trans h0)).symm) | (rw [if_neg (by assumption), if_neg (by assumption)])) rfl dX4_leastLength_26
