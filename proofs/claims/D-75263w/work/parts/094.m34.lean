/-! CameraMovesModel: its constructor (printed by gen34.py) -/
set_option maxRecDepth 100000
/-- the object with some of its arrays -/
def bld (o : Nat) (fs : List Value) (as : List (Nat × Nat)) (h : AH) : AH := fun q => if q = o then some (.inr (3, fs)) else match as.find? (fun p => p.2 == q) with
  | some p => some (mcell p.1 (fun _ => 0))
  | none => h q
def NB (o : Nat) (as : List (Nat × Nat)) : Prop := (∀ p ∈ as, p.2 ≠ o) ∧ ∀ p ∈ as, ∀ p' ∈ as, p.2 = p'.2 → p.1 = p'.1
theorem bld_0 {o : Nat} {fs : List Value} {h : AH} (ho : h o = some (.inr (3, fs))) : h = bld o fs [] h := by
  funext q
  unfold bld
  by_cases e : q = o
  · rw [if_pos e, e, ho]
  · rw [if_neg e]
    rfl
theorem bld_o (o : Nat) (fs : List Value) (as : List (Nat × Nat)) (h : AH) : bld o fs as h o = some (.inr (3, fs)) := by simp [bld]
theorem bld_s {o : Nat} {fs fs' : List Value} {as : List (Nat × Nat)} {h : AH} : hset (bld o fs as h) o (.inr (3, fs')) = bld o fs' as h := by
  funext q
  by_cases e : q = o
  · subst e
    rw [hset_s, bld_o]
  · rw [hset_n e]
    unfold bld
    rw [if_neg e, if_neg e]
theorem bld_f {o : Nat} {fs : List Value} {as : List (Nat × Nat)} {h : AH} {q : Nat} (hq : bld o fs as h q = none) : q ≠ o ∧ as.find? (fun p => p.2 == q) = none := by
  unfold bld at hq
  by_cases e : q = o
  · rw [if_pos e] at hq
    cases hq
  · rw [if_neg e] at hq
    refine ⟨e, ?_⟩
    cases hf : as.find? (fun p => p.2 == q) with
    | none => rfl
    | some p =>
      rw [hf] at hq
      cases hq
theorem bld_a {o : Nat} {fs : List Value} {as : List (Nat × Nat)} {h : AH} {q : Nat} (k : Nat) (hq : bld o fs as h q = none) {e : AE} (he : e = mcell k (fun _ => 0)) : hset (bld o fs as h) q e = bld o fs (as ++ [(k, q)]) h := by
  subst he
  obtain ⟨h1, h2⟩ := bld_f hq
  funext x
  by_cases e : x = q
  · subst e
    rw [hset_s]
    unfold bld
    rw [if_neg h1, List.find?_append, h2]
    simp
  · rw [hset_n e]
    unfold bld
    by_cases e2 : x = o
    · rw [if_pos e2, if_pos e2]
    · rw [if_neg e2, if_neg e2, List.find?_append]
      have : [(k, q)].find? (fun p => p.2 == x) = none := by simp [Ne.symm e]
      rw [this]
      cases as.find? (fun p => p.2 == x) <;> rfl
theorem NB_a {o : Nat} {fs : List Value} {as : List (Nat × Nat)} {h : AH} {q : Nat} (k : Nat) (hN : NB o as) (hq : bld o fs as h q = none) : NB o (as ++ [(k, q)]) := by
  obtain ⟨h1, h2⟩ := bld_f hq
  have h3 := List.find?_eq_none.mp h2
  have h4 : ∀ p ∈ as, p.2 ≠ q := fun p hp z => h3 p hp (by simp [z])
  refine ⟨fun p hp => ?_, fun p hp p' hp' e => ?_⟩
  · rcases List.mem_append.mp hp with z | z
    · exact hN.1 p z
    · rw [List.mem_singleton.mp z]
      exact h1
  · rcases List.mem_append.mp hp with z | z
    · rcases List.mem_append.mp hp' with y | y
      · exact hN.2 p z p' y e
      · rw [List.mem_singleton.mp y] at e
        exact absurd e (h4 p z)
    · rcases List.mem_append.mp hp' with y | y
      · rw [List.mem_singleton.mp z] at e
        exact absurd e.symm (h4 p' y)
      · rw [List.mem_singleton.mp z, List.mem_singleton.mp y]
/-- nothing told yet -/
def mst0 : MSt := (fun _ => 0, fun _ _ => 0)
def mfs0 : List Value := [iv 0, .null, iv 0, iv 0, iv 0, iv 0, .null, .null, iv 0, .null, .null, iv 0, iv 0, .null, iv 0, iv 0, iv 0, iv 0, iv 0, iv 0, jv 0, iv 0, iv 0, .null, .null, iv 0, .null, iv 0, iv 0, iv 0, iv 0, iv 0, .null, .null, .null, .null]
theorem bld_m {o : Nat} {h : AH} (ad : Nat → Nat) (hN : NB o (mL.map fun k => (k, ad k))) : MOK (o, ad, h) ∧ bld o (mfs ad mst0) (mL.map fun k => (k, ad k)) h = mh (o, ad, h) mst0 := by
  refine ⟨⟨fun i j hi hj e => hN.2 (i, ad i) (List.mem_map.mpr ⟨i, hi, rfl⟩) (j, ad j) (List.mem_map.mpr ⟨j, hj, rfl⟩) e, fun i hi => hN.1 (i, ad i) (List.mem_map.mpr ⟨i, hi, rfl⟩)⟩, ?_⟩
  funext q
  unfold bld mh
  by_cases e : q = o
  · rw [if_pos e, if_pos e]
  · rw [if_neg e, if_neg e, List.find?_map]
    show (match (mL.find? (fun k => ad k == q)).map (fun k => (k, ad k)) with | some p => _ | none => _) = _
    cases mL.find? (fun k => ad k == q) <;> rfl
/-- the state that the constructor leaves -/
def mst1 : MSt := k_keepReading (k_beginReading (sF mst0 12 (-1)))
theorem m_init {l : Launch} {g : AG} {o : Nat} {h : AH} (ho : h o = some (.inr (3, mfs0))) : AM l g miX4_init 13 [.ref o] h (fun r h' => r = none ∧ ∃ ad : Nat → Nat, MOK (o, ad, h) ∧ (∀ k, k ∈ mL → aA g (ad k)) ∧ h' = mh (o, ad, h) mst1) (fun _ _ _ => False) 13 7068 := by
  refine aw_start 0 (by decide) rfl (Nat.le_of_ble_eq_true rfl) ?_
  show AWc l g miX4_init 13 13 7068 _ _ 0 0 h 0 [some (.ref o)] []
  have hN : NB o [] := ⟨fun p hp => (by cases hp), fun p hp => (by cases hp)⟩
  refine aw_h (bld_0 ho) ?_
  refine aw_aload_n 1 dX4_init_0 rfl rfl ?_
  refine aw_objInit 4 q2018 (by decide) (Nat.le_of_ble_eq_true rfl) dX4_init_1 rfl ?_
  refine aw_aload_n 5 dX4_init_4 rfl rfl ?_
  refine aw_sipush 8 dX4_init_5 rfl (by decide) ?_
  refine aw_newaI 10 2232 rfl (by decide) (by decide) (by decide) dX4_init_8 rfl (fun q1 n1 a1 => ?_)
  have hN := NB_a 1 hN n1
  refine aw_h (bld_a 1 n1 rfl) ?_
  refine aw_putF 13 ci4 1 (by decide) q2032 (Or.inl rfl) rfl rfl rfl rfl rfl (Nat.le_of_ble_eq_true rfl) (bld_o _ _ _ _) dX4_init_10 rfl ?_
  refine aw_h bld_s ?_
  refine aw_aload_n 14 dX4_init_13 rfl rfl ?_
  refine aw_iconst 15 dX4_init_14 rfl ?_
  refine aw_newaL 17 4 rfl (by decide) (by decide) (by decide) dX4_init_15 rfl (fun q6 n6 a6 => ?_)
  have hN := NB_a 6 hN n6
  refine aw_h (bld_a 6 n6 rfl) ?_
  refine aw_putF 20 ci4 6 (by decide) q2037 (Or.inl rfl) rfl rfl rfl rfl rfl (Nat.le_of_ble_eq_true rfl) (bld_o _ _ _ _) dX4_init_17 rfl ?_
  refine aw_h bld_s ?_
  refine aw_aload_n 21 dX4_init_20 rfl rfl ?_
  refine aw_bipush 23 dX4_init_21 rfl (by decide) ?_
  refine aw_newaI 25 12 rfl (by decide) (by decide) (by decide) dX4_init_23 rfl (fun q7 n7 a7 => ?_)
  have hN := NB_a 7 hN n7
  refine aw_h (bld_a 7 n7 rfl) ?_
  refine aw_putF 28 ci4 7 (by decide) q2038 (Or.inl rfl) rfl rfl rfl rfl rfl (Nat.le_of_ble_eq_true rfl) (bld_o _ _ _ _) dX4_init_25 rfl ?_
  refine aw_h bld_s ?_
  refine aw_aload_n 29 dX4_init_28 rfl rfl ?_
  refine aw_bipush 31 dX4_init_29 rfl (by decide) ?_
  refine aw_newaI 33 12 rfl (by decide) (by decide) (by decide) dX4_init_31 rfl (fun q9 n9 a9 => ?_)
  have hN := NB_a 9 hN n9
  refine aw_h (bld_a 9 n9 rfl) ?_
  refine aw_putF 36 ci4 9 (by decide) q2040 (Or.inl rfl) rfl rfl rfl rfl rfl (Nat.le_of_ble_eq_true rfl) (bld_o _ _ _ _) dX4_init_33 rfl ?_
  refine aw_h bld_s ?_
  refine aw_aload_n 37 dX4_init_36 rfl rfl ?_
  refine aw_sipush 40 dX4_init_37 rfl (by decide) ?_
  refine aw_newaB 42 600 rfl (by decide) (by decide) (by decide) dX4_init_40 rfl (fun q10 n10 a10 => ?_)
  have hN := NB_a 10 hN n10
  refine aw_h (bld_a 10 n10 rfl) ?_
  refine aw_putF 45 ci4 10 (by decide) q2041 (Or.inl rfl) rfl rfl rfl rfl rfl (Nat.le_of_ble_eq_true rfl) (bld_o _ _ _ _) dX4_init_42 rfl ?_
  refine aw_h bld_s ?_
  refine aw_aload_n 46 dX4_init_45 rfl rfl ?_
  refine aw_bipush 48 dX4_init_46 rfl (by decide) ?_
  refine aw_newaC 50 120 rfl (by decide) (by decide) (by decide) dX4_init_48 rfl (fun q13 n13 a13 => ?_)
  have hN := NB_a 13 hN n13
  refine aw_h (bld_a 13 n13 rfl) ?_
  refine aw_putF 53 ci4 13 (by decide) q2044 (Or.inl rfl) rfl rfl rfl rfl rfl (Nat.le_of_ble_eq_true rfl) (bld_o _ _ _ _) dX4_init_50 rfl ?_
  refine aw_h bld_s ?_
  refine aw_aload_n 54 dX4_init_53 rfl rfl ?_
  refine aw_iconst 55 dX4_init_54 rfl ?_
  refine aw_newaL 57 4 rfl (by decide) (by decide) (by decide) dX4_init_55 rfl (fun q23 n23 a23 => ?_)
  have hN := NB_a 23 hN n23
  refine aw_h (bld_a 23 n23 rfl) ?_
  refine aw_putF 60 ci4 23 (by decide) q2054 (Or.inl rfl) rfl rfl rfl rfl rfl (Nat.le_of_ble_eq_true rfl) (bld_o _ _ _ _) dX4_init_57 rfl ?_
  refine aw_h bld_s ?_
  refine aw_aload_n 61 dX4_init_60 rfl rfl ?_
  refine aw_bipush 63 dX4_init_61 rfl (by decide) ?_
  refine aw_newaI 65 12 rfl (by decide) (by decide) (by decide) dX4_init_63 rfl (fun q24 n24 a24 => ?_)
  have hN := NB_a 24 hN n24
  refine aw_h (bld_a 24 n24 rfl) ?_
  refine aw_putF 68 ci4 24 (by decide) q2055 (Or.inl rfl) rfl rfl rfl rfl rfl (Nat.le_of_ble_eq_true rfl) (bld_o _ _ _ _) dX4_init_65 rfl ?_
  refine aw_h bld_s ?_
  refine aw_aload_n 69 dX4_init_68 rfl rfl ?_
  refine aw_bipush 71 dX4_init_69 rfl (by decide) ?_
  refine aw_newaI 73 12 rfl (by decide) (by decide) (by decide) dX4_init_71 rfl (fun q26 n26 a26 => ?_)
  have hN := NB_a 26 hN n26
  refine aw_h (bld_a 26 n26 rfl) ?_
  refine aw_putF 76 ci4 26 (by decide) q2057 (Or.inl rfl) rfl rfl rfl rfl rfl (Nat.le_of_ble_eq_true rfl) (bld_o _ _ _ _) dX4_init_73 rfl ?_
  refine aw_h bld_s ?_
  refine aw_aload_n 77 dX4_init_76 rfl rfl ?_
  refine aw_bipush 79 dX4_init_77 rfl (by decide) ?_
  refine aw_newaI 81 20 rfl (by decide) (by decide) (by decide) dX4_init_79 rfl (fun q32 n32 a32 => ?_)
  have hN := NB_a 32 hN n32
  refine aw_h (bld_a 32 n32 rfl) ?_
  refine aw_putF 84 ci4 32 (by decide) q2063 (Or.inl rfl) rfl rfl rfl rfl rfl (Nat.le_of_ble_eq_true rfl) (bld_o _ _ _ _) dX4_init_81 rfl ?_
  refine aw_h bld_s ?_
  refine aw_aload_n 85 dX4_init_84 rfl rfl ?_
  refine aw_bipush 87 dX4_init_85 rfl (by decide) ?_
  refine aw_newaI 89 20 rfl (by decide) (by decide) (by decide) dX4_init_87 rfl (fun q33 n33 a33 => ?_)
  have hN := NB_a 33 hN n33
  refine aw_h (bld_a 33 n33 rfl) ?_
  refine aw_putF 92 ci4 33 (by decide) q2064 (Or.inl rfl) rfl rfl rfl rfl rfl (Nat.le_of_ble_eq_true rfl) (bld_o _ _ _ _) dX4_init_89 rfl ?_
  refine aw_h bld_s ?_
  refine aw_aload_n 93 dX4_init_92 rfl rfl ?_
  refine aw_bipush 95 dX4_init_93 rfl (by decide) ?_
  refine aw_newaZ 97 20 rfl (by decide) (by decide) (by decide) dX4_init_95 rfl (fun q34 n34 a34 => ?_)
  have hN := NB_a 34 hN n34
  refine aw_h (bld_a 34 n34 rfl) ?_
  refine aw_putF 100 ci4 34 (by decide) q2065 (Or.inl rfl) rfl rfl rfl rfl rfl (Nat.le_of_ble_eq_true rfl) (bld_o _ _ _ _) dX4_init_97 rfl ?_
  refine aw_h bld_s ?_
  refine aw_aload_n 101 dX4_init_100 rfl rfl ?_
  refine aw_sipush 104 dX4_init_101 rfl (by decide) ?_
  refine aw_newaI 106 4000 rfl (by decide) (by decide) (by decide) dX4_init_104 rfl (fun q35 n35 a35 => ?_)
  have hN := NB_a 35 hN n35
  refine aw_h (bld_a 35 n35 rfl) ?_
  refine aw_putF 109 ci4 35 (by decide) q2066 (Or.inl rfl) rfl rfl rfl rfl rfl (Nat.le_of_ble_eq_true rfl) (bld_o _ _ _ _) dX4_init_106 rfl ?_
  refine aw_h bld_s ?_
  obtain ⟨hC, hb⟩ := bld_m (h := h) (fun k => if k = 1 then q1 else if k = 6 then q6 else if k = 7 then q7 else if k = 9 then q9 else if k = 10 then q10 else if k = 13 then q13 else if k = 23 then q23 else if k = 24 then q24 else if k = 26 then q26 else if k = 32 then q32 else if k = 33 then q33 else if k = 34 then q34 else if k = 35 then q35 else 0) hN
  refine aw_h (show _ = mh (o, fun k => if k = 1 then q1 else if k = 6 then q6 else if k = 7 then q7 else if k = 9 then q9 else if k = 10 then q10 else if k = 13 then q13 else if k = 23 then q23 else if k = 24 then q24 else if k = 26 then q26 else if k = 32 then q32 else if k = 33 then q33 else if k = 34 then q34 else if k = 35 then q35 else 0, h) mst0 from hb) ?_
  have hA : ∀ k, k ∈ mL → aA g ((fun k => if k = 1 then q1 else if k = 6 then q6 else if k = 7 then q7 else if k = 9 then q9 else if k = 10 then q10 else if k = 13 then q13 else if k = 23 then q23 else if k = 24 then q24 else if k = 26 then q26 else if k = 32 then q32 else if k = 33 then q33 else if k = 34 then q34 else if k = 35 then q35 else 0) k) := by
    intro k hk
    simp only [mL, List.mem_cons, List.mem_nil_iff, or_false] at hk
    rcases hk with hk | hk | hk | hk | hk | hk | hk | hk | hk | hk | hk | hk | hk <;> subst hk <;> assumption
  generalize hC2 : ((o, fun k => if k = 1 then q1 else if k = 6 then q6 else if k = 7 then q7 else if k = 9 then q9 else if k = 10 then q10 else if k = 13 then q13 else if k = 23 then q23 else if k = 24 then q24 else if k = 26 then q26 else if k = 32 then q32 else if k = 33 then q33 else if k = 34 then q34 else if k = 35 then q35 else 0, h) : MCx) = C at *
  have ho1 : o = C.1 := by rw [← hC2]
  rw [ho1]
  refine aw_aload_n 110 dX4_init_109 rfl rfl ?_
  refine aw_iconst 111 dX4_init_110 rfl ?_
  refine aw_put 114 ci4 12 (by decide) q2043 (Or.inl rfl) rfl rfl rfl (Nat.le_of_ble_eq_true rfl) (mh_obj _ _) dX4_init_111 rfl ?_
  refine aw_h (mhp_12 _ _ _) ?_
  refine aw_aload_n 115 dX4_init_114 rfl rfl ?_
  refine aw_xVv 118 (m_beginReading hC _) mvX4_beginReading q2019 (rdl (mh_obj _ _)) rfl rfl rfl (by decide) (by decide) (Nat.le_refl _) (Nat.le_refl _) rfl (Nat.le_of_ble_eq_true rfl) dX4_init_115 rfl ?_
  refine aw_aload_n 119 dX4_init_118 rfl rfl ?_
  refine aw_xVv 122 (m_keepReading hC _ (by decide)) mvX4_keepReading q2023 (rdl (mh_obj _ _)) rfl rfl rfl (by decide) (by decide) (Nat.le_refl _) (Nat.le_refl _) rfl (Nat.le_of_ble_eq_true rfl) dX4_init_119 rfl ?_
  subst hC2; exact aw_vret ⟨rfl, _, hC, hA, rfl⟩ rfl dX4_init_122 (Nat.le_refl _) (Nat.le_refl _)
