/-! sums of limits, least frames, peaks: numbers alone, then CameraMovesModel's methods -/
set_option maxRecDepth 100000
def mn (a b : Int) : Int := if a ≤ b then a else b
/-- twice the limits of h frames -/
def s_A (v r h : Int) : Int := r * (mn h (v / r)) * (mn h (v / r) + 1) + 2 * (h - mn h (v / r)) * v
/-- the sum of the limits of f frames -/
def sm (v r f : Int) : Int := s_A v r (f / 2) + (if f % 2 = 1 then mn v (r * (f / 2 + 1)) else 0)
theorem div_le {v r h : Int} (hr : 0 < r) : h ≤ v / r ↔ h * r ≤ v := Int.le_ediv_iff_mul_le hr
theorem s_A_0 (v r : Int) (hv : 0 ≤ v) (hr : 0 < r) : s_A v r 0 = 0 := by
  have h : (0 : Int) ≤ v / r := Int.ediv_nonneg hv (Int.le_of_lt hr)
  unfold s_A mn
  rw [if_pos h]
  simp
theorem s_A_succ (v r h : Int) (hr : 0 < r) : s_A v r (h + 1) = s_A v r h + 2 * mn v (r * (h + 1)) := by
  have e1 := @div_le v r h hr
  have e2 := @div_le v r (h + 1) hr
  unfold s_A mn
  generalize v / r = q at e1 e2
  by_cases c2 : h + 1 ≤ q
  · have c1 : h ≤ q := by omega
    have k2 := e2.mp c2
    rw [if_pos c2, if_pos c1]
    by_cases c3 : v ≤ r * (h + 1)
    · have c4 : v = r * (h + 1) := by
        have : (h + 1) * r = r * (h + 1) := Int.mul_comm _ _
        omega
      rw [if_pos c3]
      subst c4
      grind
    · rw [if_neg c3]
      grind
  · have k2 : ¬ (h + 1) * r ≤ v := fun z => c2 (e2.mpr z)
    have c3 : v ≤ r * (h + 1) := by
      have : (h + 1) * r = r * (h + 1) := Int.mul_comm _ _
      omega
    rw [if_neg c2, if_pos c3]
    by_cases c1 : h ≤ q
    · have : h = q := by omega
      subst this
      rw [if_pos c1]
      grind
    · rw [if_neg c1]
      grind
theorem mn_l (a b : Int) : mn a b ≤ a := by unfold mn; split <;> omega
theorem mn_r (a b : Int) : mn a b ≤ b := by unfold mn; split <;> omega
theorem mn_c (a b : Int) : mn a b = a ∨ mn a b = b := by unfold mn; split <;> simp
theorem sm_even (v r h : Int) : sm v r (2 * h) = s_A v r h := by
  unfold sm
  rw [show 2 * h / 2 = h by omega, if_neg (by omega)]
  omega
theorem sm_odd (v r h : Int) : sm v r (2 * h + 1) = s_A v r h + mn v (r * (h + 1)) := by
  unfold sm
  rw [show (2 * h + 1) / 2 = h by omega, if_pos (by omega)]
theorem sm_0 (v r : Int) (hv : 0 ≤ v) (hr : 0 < r) : sm v r 0 = 0 := by
  have h := sm_even v r 0
  rw [Int.mul_zero] at h
  rw [h, s_A_0 v r hv hr]
theorem sm_step (v r f : Int) (hr : 0 < r) (hf : 0 ≤ f) : sm v r (f + 1) = sm v r f + mn v (r * (f / 2 + 1)) := by
  rcases (by omega : f % 2 = 0 ∨ f % 2 = 1) with h | h
  · have e : f = 2 * (f / 2) := by omega
    generalize f / 2 = k at e
    subst e
    rw [sm_odd, sm_even]
  · have e : f = 2 * (f / 2) + 1 := by omega
    generalize f / 2 = k at e
    subst e
    rw [show 2 * k + 1 + 1 = 2 * (k + 1) by omega, sm_even, sm_odd, s_A_succ v r k hr]
    omega
theorem mn_pos {v r f : Int} (hv : 1 ≤ v) (hr : 0 < r) (hf : 0 ≤ f) : 1 ≤ mn v (r * (f / 2 + 1)) := by
  have h : 1 ≤ r * (f / 2 + 1) := by
    have := Int.mul_le_mul (show (1 : Int) ≤ r by omega) (show (1 : Int) ≤ f / 2 + 1 by omega) (by decide) (by omega)
    omega
  rcases mn_c v (r * (f / 2 + 1)) with z | z <;> omega
theorem mn_nn {v r f : Int} (hv : 0 ≤ v) (hr : 0 < r) (hf : 0 ≤ f) : 0 ≤ mn v (r * (f / 2 + 1)) := by
  have h : 1 ≤ r * (f / 2 + 1) := by
    have := Int.mul_le_mul (show (1 : Int) ≤ r by omega) (show (1 : Int) ≤ f / 2 + 1 by omega) (by decide) (by omega)
    omega
  rcases mn_c v (r * (f / 2 + 1)) with z | z <;> omega
theorem sm_mono {v r : Int} (hv : 0 ≤ v) (hr : 0 < r) {a b : Int} (ha : 0 ≤ a) (hab : a ≤ b) : sm v r a ≤ sm v r b := by
  obtain ⟨n, rfl⟩ : ∃ n : Nat, b = a + n := ⟨(b - a).toNat, by omega⟩
  clear hab
  induction n with
  | zero => simp
  | succ n ih =>
    have h := sm_step v r (a + n) hr (by omega)
    have h2 := mn_nn (f := a + n) hv hr (by omega)
    rw [show a + ((n + 1 : Nat) : Int) = a + n + 1 by omega]
    omega
theorem sm_ge {v r : Int} (hv : 1 ≤ v) (hr : 0 < r) : ∀ n : Nat, (n : Int) ≤ sm v r n := by
  intro n
  induction n with
  | zero => rw [show ((0 : Nat) : Int) = 0 by rfl, sm_0 v r (by omega) hr]; omega
  | succ n ih =>
    have h := sm_step v r n hr (by omega)
    have h2 := mn_pos (f := (n : Int)) hv hr (by omega)
    rw [show ((n + 1 : Nat) : Int) = n + 1 by omega]
    omega
theorem sm_le {v r : Int} (hv : 0 ≤ v) (hr : 0 < r) : ∀ n : Nat, 0 ≤ sm v r n ∧ sm v r n ≤ v * n := by
  intro n
  induction n with
  | zero => rw [show ((0 : Nat) : Int) = 0 by rfl, sm_0 v r hv hr]; simp
  | succ n ih =>
    have h := sm_step v r n hr (by omega)
    have h2 := mn_nn (f := (n : Int)) hv hr (by omega)
    have h3 := mn_l v (r * ((n : Int) / 2 + 1))
    rw [show ((n + 1 : Nat) : Int) = n + 1 by omega, Int.mul_add]
    omega
theorem sm_rg {v r f : Int} (hv : 0 ≤ v ∧ v ≤ 100) (hr : 0 < r) (hf : 0 ≤ f ∧ f ≤ 20000) : 0 ≤ sm v r f ∧ sm v r f ≤ 2000000 := by
  obtain ⟨n, rfl⟩ := Int.eq_ofNat_of_zero_le hf.1
  have h := sm_le hv.1 hr n
  have h2 : v * (n : Int) ≤ 100 * 20000 := Int.mul_le_mul hv.2 hf.2 (by omega) (by decide)
  exact ⟨h.1, by omega⟩
/-- the first f from k on that sums up to g -/
def lsF (v r g : Int) : Nat → Int → Int
  | 0, k => k
  | f + 1, k => if g ≤ sm v r k then k else lsF v r g f (k + 1)
/-- the least frames for a distance g -/
def lst (v r g : Int) : Int := lsF v r g g.toNat 0
theorem lsF_spec (v r g : Int) : ∀ (f : Nat) (k : Int), g ≤ sm v r (k + f) → g ≤ sm v r (lsF v r g f k) ∧ k ≤ lsF v r g f k ∧ lsF v r g f k ≤ k + f ∧ ∀ j, k ≤ j → j < lsF v r g f k → sm v r j < g := by
  intro f
  induction f with
  | zero =>
    intro k h
    simp only [lsF]
    rw [show k + ((0 : Nat) : Int) = k by omega] at h
    exact ⟨h, by omega, by omega, fun j a b => by omega⟩
  | succ f ih =>
    intro k h
    simp only [lsF]
    split
    · exact ⟨by assumption, by omega, by omega, fun j a b => by omega⟩
    · next hc =>
      obtain ⟨a1, a2, a3, a4⟩ := ih (k + 1) (by rw [show k + 1 + (f : Int) = k + ((f + 1 : Nat) : Int) by omega]; exact h)
      refine ⟨a1, by omega, by omega, fun j b1 b2 => ?_⟩
      rcases (by omega : j = k ∨ k + 1 ≤ j) with z | z
      · subst z; omega
      · exact a4 j z b2
theorem lst_spec {v r g : Int} (hv : 1 ≤ v) (hr : 0 < r) (hg : 0 ≤ g) : g ≤ sm v r (lst v r g) ∧ 0 ≤ lst v r g ∧ lst v r g ≤ g ∧ ∀ j, 0 ≤ j → j < lst v r g → sm v r j < g := by
  have h := sm_ge hv hr g.toNat
  have h2 := lsF_spec v r g g.toNat 0 (by rw [Int.zero_add]; omega)
  unfold lst
  exact ⟨h2.1, h2.2.1, by omega, h2.2.2.2⟩
theorem lst_iff {v r g f : Int} (hv : 1 ≤ v) (hr : 0 < r) (hg : 0 ≤ g) (hf : 0 ≤ f) : lst v r g ≤ f ↔ g ≤ sm v r f := by
  obtain ⟨a, b, c, d⟩ := lst_spec hv hr hg
  constructor
  · intro h
    have := sm_mono (v := v) (r := r) (by omega) hr b h
    omega
  · intro h
    rcases (by omega : lst v r g ≤ f ∨ f < lst v r g) with z | z
    · exact z
    · have := d f hf z
      omega
/-! the model's methods -/
theorem mul_rg {a b : Int} (A B : Int) (h0 : 0 ≤ a) (h1 : a ≤ A) (h2 : 0 ≤ b) (h3 : b ≤ B) : 0 ≤ a * b ∧ a * b ≤ A * B := ⟨Int.mul_nonneg h0 h2, Int.mul_le_mul h1 h3 h2 (by omega)⟩
theorem even_mul (h : Int) : h * (h + 1) % 2 = 0 := by
  rcases (by omega : h % 2 = 0 ∨ h % 2 = 1) with e | e
  · obtain ⟨k, rfl⟩ : ∃ k, h = 2 * k := ⟨h / 2, by omega⟩
    rw [Int.mul_assoc, Int.mul_emod_right]
  · obtain ⟨k, hk⟩ : ∃ k, h + 1 = 2 * k := ⟨(h + 1) / 2, by omega⟩
    rw [hk, Int.mul_comm, Int.mul_assoc, Int.mul_emod_right]
theorem half2 (r h : Int) : 2 * (r * h * (h + 1) / 2) = r * h * (h + 1) := by
  have e := even_mul h
  obtain ⟨k, hk⟩ : ∃ k, h * (h + 1) = 2 * k := ⟨h * (h + 1) / 2, by omega⟩
  rw [Int.mul_assoc, hk, Int.mul_left_comm]
  omega
theorem m_sumOf {l : Launch} {g : AG} {h : AH} (v r f : Int) (hv : 0 ≤ v ∧ v ≤ 100) (hr : 1 ≤ r ∧ r ≤ 20) (hf : 0 ≤ f ∧ f ≤ 20000): AMx l g miX4_sumOf 10 [iv v, iv r, iv f] h (some (iv (sm v r f))) h := by
  refine aw_start 4 (by decide) rfl (Nat.le_of_ble_eq_true rfl) ?_
  show AWc l g miX4_sumOf 10 0 0 _ _ 0 0 h 0 [some (iv v), some (iv r), some (iv f), none, none, none, none] []
  have hq : 0 ≤ v / r := Int.ediv_nonneg hv.1 (by omega)
  have hq2 : v / r ≤ v := Int.ediv_le_self r hv.1
  have hrq : v / r * r ≤ v := (div_le (by omega)).mp (Int.le_refl _)
  have hrq2 : r * (v / r) = v / r * r := Int.mul_comm _ _
  have hrq3 := mul_rg 20 100 (a := r) (b := v / r) (by omega) (by omega) hq (by omega)
  have hm := mul_rg 20 10001 (a := r) (b := f / 2 + 1) (by omega) (by omega) (by omega) (by omega)
  have hd := @div_le v r (f / 2) (by omega)
  have h2a := half2 r (f / 2)
  have h2b := half2 r (v / r)
  have h3 := mul_rg 100 101 (a := r * (v / r)) (b := v / r + 1) (by omega) (by omega) (by omega) (by omega)
  refine aw_iload_n 1 dX4_sumOf_0 rfl rfl ?_
  refine aw_iconst 2 dX4_sumOf_1 rfl ?_
  refine aw_idivP 3 (by omega) dX4_sumOf_2 rfl ?_
  refine aw_istore_n 4 dX4_sumOf_3 rfl (as_3 rfl) (by decide) ?_
  refine aw_iload_n 5 dX4_sumOf_4 rfl rfl ?_
  refine aw_iload_n 6 dX4_sumOf_5 rfl rfl ?_
  refine aw_idivP 7 (by omega) dX4_sumOf_6 rfl ?_
  refine aw_istore 9 dX4_sumOf_7 rfl (as_4 rfl) (by decide) ?_
  refine aw_iload_n 10 dX4_sumOf_9 rfl rfl ?_
  refine aw_iload 12 dX4_sumOf_10 rfl rfl ?_
  refine aw_icmp_gt 27 15 (by omega) dX4_sumOf_12 rfl rfl (fun c_12 => ?_) (fun c_12 => ?_)
  · have h6 := mul_rg 100 10000 (a := v) (b := f / 2 - v / r) (by omega) (by omega) (by omega) (by omega)
    refine aw_iload_n 28 dX4_sumOf_27 rfl rfl ?_
    refine aw_iload 30 dX4_sumOf_28 rfl rfl ?_
    refine aw_imul 31 dX4_sumOf_30 rfl ?_
    refine aw_iload 33 dX4_sumOf_31 rfl rfl ?_
    refine aw_iconst 34 dX4_sumOf_33 rfl ?_
    refine aw_iadd 35 dX4_sumOf_34 rfl ?_
    refine aw_imul 36 dX4_sumOf_35 rfl ?_
    refine aw_iconst 37 dX4_sumOf_36 rfl ?_
    refine aw_idivP 38 (by omega) dX4_sumOf_37 rfl ?_
    refine aw_iload_n 39 dX4_sumOf_38 rfl rfl ?_
    refine aw_iload_n 40 dX4_sumOf_39 rfl rfl ?_
    refine aw_iload 42 dX4_sumOf_40 rfl rfl ?_
    refine aw_isub 43 dX4_sumOf_42 rfl ?_
    refine aw_imul 44 dX4_sumOf_43 rfl ?_
    refine aw_iadd 45 dX4_sumOf_44 rfl ?_
    refine aw_istore 47 dX4_sumOf_45 rfl (as_5 rfl) (by decide) ?_
    refine aw_iload_n 48 dX4_sumOf_47 rfl rfl ?_
    refine aw_iload_n 49 dX4_sumOf_48 rfl rfl ?_
    refine aw_iconst 50 dX4_sumOf_49 rfl ?_
    refine aw_iadd 51 dX4_sumOf_50 rfl ?_
    refine aw_imul 52 dX4_sumOf_51 rfl ?_
    refine aw_iload_n 53 dX4_sumOf_52 rfl rfl ?_
    refine aw_icmp_ge 64 56 (by omega) dX4_sumOf_53 rfl rfl (fun c_53 => ?_) (fun c_53 => ?_)
    · refine aw_iload_n 65 dX4_sumOf_64 rfl rfl ?_
      refine aw_istore 67 dX4_sumOf_65 rfl (as_6 rfl) (by decide) ?_
      refine aw_iconst 68 dX4_sumOf_67 rfl ?_
      refine aw_iload 70 dX4_sumOf_68 rfl rfl ?_
      refine aw_imul 71 dX4_sumOf_70 rfl ?_
      refine aw_iload_n 72 dX4_sumOf_71 rfl rfl ?_
      refine aw_iconst 73 dX4_sumOf_72 rfl ?_
      refine aw_iremP 74 (by omega) dX4_sumOf_73 rfl ?_
      refine aw_iconst 75 dX4_sumOf_74 rfl ?_
      refine aw_icmp_ne 83 78 (by omega) dX4_sumOf_75 rfl rfl (fun c_75 => ?_) (fun c_75 => ?_)
      · refine aw_iconst 84 dX4_sumOf_83 rfl ?_
        refine aw_iadd 85 dX4_sumOf_84 rfl ?_
        exact aw_xi (by (have e1 : 2 * (f / 2 - v / r) * v = 2 * (v * (f / 2 - v / r)) := (by rw [Int.mul_assoc, Int.mul_comm v])); (have e0 : 2 * (f / 2 - f / 2) * v = 0 := (by simp)); unfold sm s_A mn; (first | rw [if_pos (show f / 2 ≤ v / r by assumption)] | rw [if_neg (show ¬ f / 2 ≤ v / r by omega)]); split <;> (try split) <;> omega) (rfl) rfl dX4_sumOf_85
      · refine aw_iload 80 dX4_sumOf_78 rfl rfl ?_
        refine aw_goto 84 dX4_sumOf_80 rfl ?_
        refine aw_iadd 85 dX4_sumOf_84 rfl ?_
        exact aw_xi (by (have e1 : 2 * (f / 2 - v / r) * v = 2 * (v * (f / 2 - v / r)) := (by rw [Int.mul_assoc, Int.mul_comm v])); (have e0 : 2 * (f / 2 - f / 2) * v = 0 := (by simp)); unfold sm s_A mn; (first | rw [if_pos (show f / 2 ≤ v / r by assumption)] | rw [if_neg (show ¬ f / 2 ≤ v / r by omega)]); split <;> (try split) <;> omega) (rfl) rfl dX4_sumOf_85
    · refine aw_iload_n 57 dX4_sumOf_56 rfl rfl ?_
      refine aw_iload_n 58 dX4_sumOf_57 rfl rfl ?_
      refine aw_iconst 59 dX4_sumOf_58 rfl ?_
      refine aw_iadd 60 dX4_sumOf_59 rfl ?_
      refine aw_imul 61 dX4_sumOf_60 rfl ?_
      refine aw_goto 65 dX4_sumOf_61 rfl ?_
      refine aw_istore 67 dX4_sumOf_65 rfl (as_6 rfl) (by decide) ?_
      refine aw_iconst 68 dX4_sumOf_67 rfl ?_
      refine aw_iload 70 dX4_sumOf_68 rfl rfl ?_
      refine aw_imul 71 dX4_sumOf_70 rfl ?_
      refine aw_iload_n 72 dX4_sumOf_71 rfl rfl ?_
      refine aw_iconst 73 dX4_sumOf_72 rfl ?_
      refine aw_iremP 74 (by omega) dX4_sumOf_73 rfl ?_
      refine aw_iconst 75 dX4_sumOf_74 rfl ?_
      refine aw_icmp_ne 83 78 (by omega) dX4_sumOf_75 rfl rfl (fun c_75 => ?_) (fun c_75 => ?_)
      · refine aw_iconst 84 dX4_sumOf_83 rfl ?_
        refine aw_iadd 85 dX4_sumOf_84 rfl ?_
        exact aw_xi (by (have e1 : 2 * (f / 2 - v / r) * v = 2 * (v * (f / 2 - v / r)) := (by rw [Int.mul_assoc, Int.mul_comm v])); (have e0 : 2 * (f / 2 - f / 2) * v = 0 := (by simp)); unfold sm s_A mn; (first | rw [if_pos (show f / 2 ≤ v / r by assumption)] | rw [if_neg (show ¬ f / 2 ≤ v / r by omega)]); split <;> (try split) <;> omega) (rfl) rfl dX4_sumOf_85
      · refine aw_iload 80 dX4_sumOf_78 rfl rfl ?_
        refine aw_goto 84 dX4_sumOf_80 rfl ?_
        refine aw_iadd 85 dX4_sumOf_84 rfl ?_
        exact aw_xi (by (have e1 : 2 * (f / 2 - v / r) * v = 2 * (v * (f / 2 - v / r)) := (by rw [Int.mul_assoc, Int.mul_comm v])); (have e0 : 2 * (f / 2 - f / 2) * v = 0 := (by simp)); unfold sm s_A mn; (first | rw [if_pos (show f / 2 ≤ v / r by assumption)] | rw [if_neg (show ¬ f / 2 ≤ v / r by omega)]); split <;> (try split) <;> omega) (rfl) rfl dX4_sumOf_85
  · have h4 : r * (f / 2) ≤ v := by { have z := hd.mp (by assumption); rw [Int.mul_comm] at z; exact z }
    have h5 := mul_rg 20 10000 (a := r) (b := f / 2) (by omega) (by omega) (by omega) (by omega)
    have h6 := mul_rg 100 101 (a := r * (f / 2)) (b := f / 2 + 1) (by omega) (by omega) (by omega) (by omega)
    refine aw_iload_n 16 dX4_sumOf_15 rfl rfl ?_
    refine aw_iload_n 17 dX4_sumOf_16 rfl rfl ?_
    refine aw_imul 18 dX4_sumOf_17 rfl ?_
    refine aw_iload_n 19 dX4_sumOf_18 rfl rfl ?_
    refine aw_iconst 20 dX4_sumOf_19 rfl ?_
    refine aw_iadd 21 dX4_sumOf_20 rfl ?_
    refine aw_imul 22 dX4_sumOf_21 rfl ?_
    refine aw_iconst 23 dX4_sumOf_22 rfl ?_
    refine aw_idivP 24 (by omega) dX4_sumOf_23 rfl ?_
    refine aw_goto 45 dX4_sumOf_24 rfl ?_
    refine aw_istore 47 dX4_sumOf_45 rfl (as_5 rfl) (by decide) ?_
    refine aw_iload_n 48 dX4_sumOf_47 rfl rfl ?_
    refine aw_iload_n 49 dX4_sumOf_48 rfl rfl ?_
    refine aw_iconst 50 dX4_sumOf_49 rfl ?_
    refine aw_iadd 51 dX4_sumOf_50 rfl ?_
    refine aw_imul 52 dX4_sumOf_51 rfl ?_
    refine aw_iload_n 53 dX4_sumOf_52 rfl rfl ?_
    refine aw_icmp_ge 64 56 (by omega) dX4_sumOf_53 rfl rfl (fun c_53 => ?_) (fun c_53 => ?_)
    · refine aw_iload_n 65 dX4_sumOf_64 rfl rfl ?_
      refine aw_istore 67 dX4_sumOf_65 rfl (as_6 rfl) (by decide) ?_
      refine aw_iconst 68 dX4_sumOf_67 rfl ?_
      refine aw_iload 70 dX4_sumOf_68 rfl rfl ?_
      refine aw_imul 71 dX4_sumOf_70 rfl ?_
      refine aw_iload_n 72 dX4_sumOf_71 rfl rfl ?_
      refine aw_iconst 73 dX4_sumOf_72 rfl ?_
      refine aw_iremP 74 (by omega) dX4_sumOf_73 rfl ?_
      refine aw_iconst 75 dX4_sumOf_74 rfl ?_
      refine aw_icmp_ne 83 78 (by omega) dX4_sumOf_75 rfl rfl (fun c_75 => ?_) (fun c_75 => ?_)
      · refine aw_iconst 84 dX4_sumOf_83 rfl ?_
        refine aw_iadd 85 dX4_sumOf_84 rfl ?_
        exact aw_xi (by (have e1 : 2 * (f / 2 - v / r) * v = 2 * (v * (f / 2 - v / r)) := (by rw [Int.mul_assoc, Int.mul_comm v])); (have e0 : 2 * (f / 2 - f / 2) * v = 0 := (by simp)); unfold sm s_A mn; (first | rw [if_pos (show f / 2 ≤ v / r by assumption)] | rw [if_neg (show ¬ f / 2 ≤ v / r by omega)]); split <;> (try split) <;> omega) (rfl) rfl dX4_sumOf_85
      · refine aw_iload 80 dX4_sumOf_78 rfl rfl ?_
        refine aw_goto 84 dX4_sumOf_80 rfl ?_
        refine aw_iadd 85 dX4_sumOf_84 rfl ?_
        exact aw_xi (by (have e1 : 2 * (f / 2 - v / r) * v = 2 * (v * (f / 2 - v / r)) := (by rw [Int.mul_assoc, Int.mul_comm v])); (have e0 : 2 * (f / 2 - f / 2) * v = 0 := (by simp)); unfold sm s_A mn; (first | rw [if_pos (show f / 2 ≤ v / r by assumption)] | rw [if_neg (show ¬ f / 2 ≤ v / r by omega)]); split <;> (try split) <;> omega) (rfl) rfl dX4_sumOf_85
    · refine aw_iload_n 57 dX4_sumOf_56 rfl rfl ?_
      refine aw_iload_n 58 dX4_sumOf_57 rfl rfl ?_
      refine aw_iconst 59 dX4_sumOf_58 rfl ?_
      refine aw_iadd 60 dX4_sumOf_59 rfl ?_
      refine aw_imul 61 dX4_sumOf_60 rfl ?_
      refine aw_goto 65 dX4_sumOf_61 rfl ?_
      refine aw_istore 67 dX4_sumOf_65 rfl (as_6 rfl) (by decide) ?_
      refine aw_iconst 68 dX4_sumOf_67 rfl ?_
      refine aw_iload 70 dX4_sumOf_68 rfl rfl ?_
      refine aw_imul 71 dX4_sumOf_70 rfl ?_
      refine aw_iload_n 72 dX4_sumOf_71 rfl rfl ?_
      refine aw_iconst 73 dX4_sumOf_72 rfl ?_
      refine aw_iremP 74 (by omega) dX4_sumOf_73 rfl ?_
      refine aw_iconst 75 dX4_sumOf_74 rfl ?_
      refine aw_icmp_ne 83 78 (by omega) dX4_sumOf_75 rfl rfl (fun c_75 => ?_) (fun c_75 => ?_)
      · refine aw_iconst 84 dX4_sumOf_83 rfl ?_
        refine aw_iadd 85 dX4_sumOf_84 rfl ?_
        exact aw_xi (by (have e1 : 2 * (f / 2 - v / r) * v = 2 * (v * (f / 2 - v / r)) := (by rw [Int.mul_assoc, Int.mul_comm v])); (have e0 : 2 * (f / 2 - f / 2) * v = 0 := (by simp)); unfold sm s_A mn; (first | rw [if_pos (show f / 2 ≤ v / r by assumption)] | rw [if_neg (show ¬ f / 2 ≤ v / r by omega)]); split <;> (try split) <;> omega) (rfl) rfl dX4_sumOf_85
      · refine aw_iload 80 dX4_sumOf_78 rfl rfl ?_
        refine aw_goto 84 dX4_sumOf_80 rfl ?_
        refine aw_iadd 85 dX4_sumOf_84 rfl ?_
        exact aw_xi (by (have e1 : 2 * (f / 2 - v / r) * v = 2 * (v * (f / 2 - v / r)) := (by rw [Int.mul_assoc, Int.mul_comm v])); (have e0 : 2 * (f / 2 - f / 2) * v = 0 := (by simp)); unfold sm s_A mn; (first | rw [if_pos (show f / 2 ≤ v / r by assumption)] | rw [if_neg (show ¬ f / 2 ≤ v / r by omega)]); split <;> (try split) <;> omega) (rfl) rfl dX4_sumOf_85
theorem sm_v {σ : MSt} (hr : mR σ) {a : Int} (ha : isAx σ a) : (0 ≤ r_sp (rw_ σ) a ∧ r_sp (rw_ σ) a ≤ 100) ∧ (1 ≤ r_rp (rw_ σ) a ∧ r_rp (rw_ σ) a ≤ 20) ∧ 1 ≤ r_sp (rw_ σ) a ∧ 0 ≤ a ∧ a < 4 := by
  have h := hr.ax ha.1 ha.2
  have h2 := hr.2.1
  have h3 := ha.1
  have h4 := ha.2
  omega
theorem m_sumIn {l : Launch} {g : AG} {C : MCx} (hC : MOK C) (σ : MSt) (a f : Int) (hr : mR σ) (ha : isAx σ a) (hf : 0 ≤ f ∧ f ≤ 20000): AMx l g miX4_sumIn 11 [.ref C.1, iv a, iv f] (mh C σ) (some (iv (sm (r_sp (rw_ σ) a) (r_rp (rw_ σ) a) f))) (mh C σ) := by
  refine aw_start 0 (by decide) rfl (Nat.le_of_ble_eq_true rfl) ?_
  show AWc l g miX4_sumIn 11 0 0 _ _ 0 0 (mh C σ) 0 [some (.ref C.1), some (iv a), some (iv f)] []
  obtain ⟨h1, h2, -, h4⟩ := sm_v hr ha
  refine aw_aload_n 1 dX4_sumIn_0 rfl rfl ?_
  refine aw_iconst 2 dX4_sumIn_1 rfl ?_
  refine aw_iload_n 3 dX4_sumIn_2 rfl rfl ?_
  refine aw_iadd 4 dX4_sumIn_3 rfl ?_
  refine aw_xV 7 (m_getS hC _ _ hr.1 h4) mvX4_get q2263 (rdl (mh_obj _ _)) rfl rfl rfl (by decide) (by decide) (Nat.le_refl _) (Nat.le_refl _) rfl (Nat.le_of_ble_eq_true rfl) dX4_sumIn_4 rfl ?_
  refine aw_aload_n 8 dX4_sumIn_7 rfl rfl ?_
  refine aw_iconst 9 dX4_sumIn_8 rfl ?_
  refine aw_iload_n 10 dX4_sumIn_9 rfl rfl ?_
  refine aw_iadd 11 dX4_sumIn_10 rfl ?_
  refine aw_xV 14 (m_getR hC _ _ hr.1 h4) mvX4_get q2263 (rdl (mh_obj _ _)) rfl rfl rfl (by decide) (by decide) (Nat.le_refl _) (Nat.le_refl _) rfl (Nat.le_of_ble_eq_true rfl) dX4_sumIn_11 rfl ?_
  refine aw_iload_n 15 dX4_sumIn_14 rfl rfl ?_
  refine aw_xS 18 (m_sumOf _ _ _ h1 h2 hf) msX4_sumOf q2334 rfl (by decide) (by decide) (Nat.le_refl _) (Nat.le_refl _) rfl (Nat.le_of_ble_eq_true rfl) dX4_sumIn_15 rfl ?_
  exact aw_xi (by rfl) (rfl) rfl dX4_sumIn_18
abbrev ab (d : Int) : Int := (d.natAbs : Int)
theorem l_leastOf {l : Launch} {g : AG} {C : MCx} (hC : MOK C) (σ : MSt) (a d e : Int) (hr : mR σ) (ha : isAx σ a) (hd : e = ab d) (he : e ≤ 19998) : ∀ (f : Nat) (lo hi : Int) (o : Option Value), 0 ≤ lo → lo ≤ lst (r_sp (rw_ σ) a) (r_rp (rw_ σ) a) e → lst (r_sp (rw_ σ) a) (r_rp (rw_ σ) a) e ≤ hi → hi ≤ e → hi - lo ≤ f → AWc l g miX4_leastOf 12 0 0 (fun r2 h2 => r2 = some (iv (lst (r_sp (rw_ σ) a) (r_rp (rw_ σ) a) e)) ∧ h2 = mh C σ) (fun _ _ _ => False) 0 0 (mh C σ) 11 [some (.ref C.1), some (iv a), some (iv d), some (iv e), some (iv lo), some (iv hi), o] [] := by
  obtain ⟨h1, h2, h3, h4⟩ := sm_v hr ha
  intro f
  induction f with
  | zero =>
    intro lo hi o h0 h5 h6 h7 h8
    refine aw_iload 13 dX4_leastOf_11 rfl rfl ?_
    refine aw_iload 15 dX4_leastOf_13 rfl rfl ?_
    refine aw_icmp_ge 54 18 (by omega) dX4_leastOf_15 rfl rfl (fun c_15 => ?_) (fun c_15 => absurd c_15 (by omega))
    refine aw_iload 56 dX4_leastOf_54 rfl rfl ?_
    exact aw_xi (by omega) (rfl) rfl dX4_leastOf_56
  | succ f ih =>
    intro lo hi o h0 h5 h6 h7 h8
    have hs := sm_rg (v := r_sp (rw_ σ) a) (r := r_rp (rw_ σ) a) (f := (lo + hi) / 2) h1 (by omega) (by omega)
    have hl := lst_iff (v := r_sp (rw_ σ) a) (r := r_rp (rw_ σ) a) (g := e) (f := (lo + hi) / 2) h3 (by omega) (by omega) (by omega)
    refine aw_iload 13 dX4_leastOf_11 rfl rfl ?_
    refine aw_iload 15 dX4_leastOf_13 rfl rfl ?_
    refine aw_icmp_ge 54 18 (by omega) dX4_leastOf_15 rfl rfl (fun c_15 => ?_) (fun c_15 => ?_)
    · refine aw_iload 56 dX4_leastOf_54 rfl rfl ?_
      exact aw_xi (by omega) (rfl) rfl dX4_leastOf_56
    · refine aw_iload 20 dX4_leastOf_18 rfl rfl ?_
      refine aw_iload 22 dX4_leastOf_20 rfl rfl ?_
      refine aw_iadd 23 dX4_leastOf_22 rfl ?_
      refine aw_iconst 24 dX4_leastOf_23 rfl ?_
      refine aw_idivP 25 (by omega) dX4_leastOf_24 rfl ?_
      refine aw_istore 27 dX4_leastOf_25 rfl (as_6 rfl) (by decide) ?_
      refine aw_aload_n 28 dX4_leastOf_27 rfl rfl ?_
      refine aw_iload_n 29 dX4_leastOf_28 rfl rfl ?_
      refine aw_iload 31 dX4_leastOf_29 rfl rfl ?_
      refine aw_xV 34 (m_sumIn hC _ _ _ hr ha (by omega)) mvX4_sumIn q2330 (rdl (mh_obj _ _)) rfl rfl rfl (by decide) (by decide) (Nat.le_refl _) (Nat.le_refl _) rfl (Nat.le_of_ble_eq_true rfl) dX4_leastOf_31 rfl ?_
      refine aw_iload_n 35 dX4_leastOf_34 rfl rfl ?_
      refine aw_icmp_lt 45 38 (by omega) dX4_leastOf_35 rfl rfl (fun c_35 => ?_) (fun c_35 => ?_)
      · refine aw_iload 47 dX4_leastOf_45 rfl rfl ?_
        refine aw_iconst 48 dX4_leastOf_47 rfl ?_
        refine aw_iadd 49 dX4_leastOf_48 rfl ?_
        refine aw_istore 51 dX4_leastOf_49 rfl (as_4 rfl) (by decide) ?_
        refine aw_goto 11 dX4_leastOf_51 rfl ?_
        first | exact ih _ _ _ (by omega) h5 (hl.mpr (by omega)) (by omega) (by omega) | (have : ¬ e ≤ sm (r_sp (rw_ σ) a) (r_rp (rw_ σ) a) ((lo + hi) / 2) := (by omega)); exact ih _ _ _ (by omega) (by have := fun z => this (hl.mp z); omega) h6 (by omega) (by omega)
      · refine aw_iload 40 dX4_leastOf_38 rfl rfl ?_
        refine aw_istore 42 dX4_leastOf_40 rfl (as_5 rfl) (by decide) ?_
        refine aw_goto 51 dX4_leastOf_42 rfl ?_
        refine aw_goto 11 dX4_leastOf_51 rfl ?_
        first | exact ih _ _ _ (by omega) h5 (hl.mpr (by omega)) (by omega) (by omega) | (have : ¬ e ≤ sm (r_sp (rw_ σ) a) (r_rp (rw_ σ) a) ((lo + hi) / 2) := (by omega)); exact ih _ _ _ (by omega) (by have := fun z => this (hl.mp z); omega) h6 (by omega) (by omega)
theorem m_leastOf {l : Launch} {g : AG} {C : MCx} (hC : MOK C) (σ : MSt) (a d : Int) (hr : mR σ) (ha : isAx σ a) (hd : -19998 ≤ d ∧ d ≤ 19998): AMx l g miX4_leastOf 12 [.ref C.1, iv a, iv d] (mh C σ) (some (iv (lst (r_sp (rw_ σ) a) (r_rp (rw_ σ) a) (ab d)))) (mh C σ) := by
  refine aw_start 4 (by decide) rfl (Nat.le_of_ble_eq_true rfl) ?_
  show AWc l g miX4_leastOf 12 0 0 _ _ 0 0 (mh C σ) 0 [some (.ref C.1), some (iv a), some (iv d), none, none, none, none] []
  obtain ⟨h1, h2, h3, h4⟩ := sm_v hr ha
  have hab : ab d = (d.natAbs : Int) := rfl
  have q := lst_spec (v := r_sp (rw_ σ) a) (r := r_rp (rw_ σ) a) (g := ab d) h3 (by omega) (by omega)
  refine aw_iload_n 1 dX4_leastOf_0 rfl rfl ?_
  refine aw_xS 4 (m_plain _ (by omega)) msX4_plain q2327 rfl (by decide) (by decide) (Nat.le_refl _) (Nat.le_refl _) rfl (Nat.le_of_ble_eq_true rfl) dX4_leastOf_1 rfl ?_
  refine aw_istore_n 5 dX4_leastOf_4 rfl (as_3 rfl) (by decide) ?_
  refine aw_iconst 6 dX4_leastOf_5 rfl ?_
  refine aw_istore 8 dX4_leastOf_6 rfl (as_4 rfl) (by decide) ?_
  refine aw_iload_n 9 dX4_leastOf_8 rfl rfl ?_
  refine aw_istore 11 dX4_leastOf_9 rfl (as_5 rfl) (by decide) ?_
  exact l_leastOf hC σ a d (ab d) hr ha rfl (by omega) (ab d).toNat 0 (ab d) _ (by omega) q.2.1 q.2.2.1 (by omega) (by omega)
