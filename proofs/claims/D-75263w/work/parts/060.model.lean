/-! CameraMovesModel: its one object and its thirteen arrays (printed by model.py) -/
set_option maxRecDepth 100000
/-- numbers of the fields, contents of the arrays, both by the field's place -/
abbrev MSt : Type := (Nat → Int) × (Nat → Nat → Int)
/-- the object, its arrays, what else there is -/
abbrev MCx : Type := Nat × (Nat → Nat) × AH
def sF (σ : MSt) (k : Nat) (z : Int) : MSt := (va_up σ.1 k z, σ.2)
def sR (σ : MSt) (k : Nat) (f : Nat → Int) : MSt := (σ.1, va_up σ.2 k f)
theorem sF_1 (σ : MSt) (k : Nat) (z : Int) (j : Nat) : (sF σ k z).1 j = if j = k then z else σ.1 j := rfl
theorem sF_2 (σ : MSt) (k : Nat) (z : Int) : (sF σ k z).2 = σ.2 := rfl
theorem sR_1 (σ : MSt) (k : Nat) (f : Nat → Int) : (sR σ k f).1 = σ.1 := rfl
theorem sR_2 (σ : MSt) (k : Nat) (f : Nat → Int) (j : Nat) : (sR σ k f).2 j = if j = k then f else σ.2 j := rfl
theorem va_up_at {α : Type} (f : Nat → α) (k : Nat) (v : α) (j : Nat) : va_up f k v j = if j = k then v else f j := rfl
theorem sF_id {σ : MSt} {k : Nat} {z : Int} (h : σ.1 k = z) : sF σ k z = σ := by
  apply Prod.ext
  · funext j
    by_cases hj : j = k <;> simp [sF, va_up, hj, h]
  · rfl
theorem sF_sF (σ : MSt) (k : Nat) (y z : Int) : sF (sF σ k y) k z = sF σ k z := by
  apply Prod.ext
  · funext j
    by_cases hj : j = k <;> simp [sF, va_up, hj]
  · rfl
theorem sR_sR (σ : MSt) (k : Nat) (y z : Nat → Int) : sR (sR σ k y) k z = sR σ k z := by
  apply Prod.ext
  · rfl
  · funext j
    by_cases hj : j = k <;> simp [sR, va_up, hj]
theorem sR_id {σ : MSt} {k : Nat} {f : Nat → Int} (h : σ.2 k = f) : sR σ k f = σ := by
  apply Prod.ext
  · rfl
  · funext j
    by_cases hj : j = k <;> simp [sR, va_up, hj, h]
theorem sF_comm (σ : MSt) {j k : Nat} (y z : Int) (n : j ≠ k) : sF (sF σ j y) k z = sF (sF σ k z) j y := by
  apply Prod.ext
  · funext i
    by_cases h1 : i = k
    · subst h1
      simp [sF, va_up, Ne.symm n]
    · simp [sF, va_up, h1]
  · rfl
theorem sFR (σ : MSt) (j k : Nat) (y : Int) (f : Nat → Int) : sR (sF σ j y) k f = sF (sR σ k f) j y := rfl
theorem mst_ext {σ τ : MSt} (h1 : ∀ k, σ.1 k = τ.1 k) (h2 : ∀ k j, σ.2 k j = τ.2 k j) : σ = τ := Prod.ext (funext h1) (funext fun k => funext (h2 k))
def mfs (ad : Nat → Nat) (σ : MSt) : List Value := [iv (σ.1 0), .ref (ad 1), iv (σ.1 2), iv (σ.1 3), iv (σ.1 4), iv (σ.1 5), .ref (ad 6), .ref (ad 7), iv (σ.1 8), .ref (ad 9), .ref (ad 10), iv (σ.1 11), iv (σ.1 12), .ref (ad 13), iv (σ.1 14), iv (σ.1 15), iv (σ.1 16), iv (σ.1 17), iv (σ.1 18), iv (σ.1 19), jv (σ.1 20), iv (σ.1 21), iv (σ.1 22), .ref (ad 23), .ref (ad 24), iv (σ.1 25), .ref (ad 26), iv (σ.1 27), iv (σ.1 28), iv (σ.1 29), iv (σ.1 30), iv (σ.1 31), .ref (ad 32), .ref (ad 33), .ref (ad 34), .ref (ad 35)]
def mcell (k : Nat) (f : Nat → Int) : AE := match k with
  | 1 => .inl (0, 2232, .inl f)
  | 6 => .inl (4, 4, .inr (.inl f))
  | 7 => .inl (0, 12, .inl f)
  | 9 => .inl (0, 12, .inl f)
  | 10 => .inl (1, 600, .inl f)
  | 13 => .inl (2, 120, .inl f)
  | 23 => .inl (4, 4, .inr (.inl f))
  | 24 => .inl (0, 12, .inl f)
  | 26 => .inl (0, 12, .inl f)
  | 32 => .inl (0, 20, .inl f)
  | 33 => .inl (0, 20, .inl f)
  | 34 => .inl (3, 20, .inl f)
  | _ => .inl (0, 4000, .inl f)
def mL : List Nat := [1, 6, 7, 9, 10, 13, 23, 24, 26, 32, 33, 34, 35]
def MOK (C : MCx) : Prop := (∀ i j, i ∈ mL → j ∈ mL → C.2.1 i = C.2.1 j → i = j) ∧ ∀ i, i ∈ mL → C.2.1 i ≠ C.1
noncomputable def mh (C : MCx) (σ : MSt) : AH := fun q => if q = C.1 then some (.inr (3, mfs C.2.1 σ)) else match mL.find? (fun k => C.2.1 k == q) with
  | some k => some (mcell k (σ.2 k))
  | none => C.2.2 q
theorem mh_obj (C : MCx) (σ : MSt) : mh C σ C.1 = some (.inr (3, mfs C.2.1 σ)) := by simp [mh]
theorem rdl {g : AG} {h : AH} {a : Nat} {e : AE} (x : h a = some e) : RD g h a e := Or.inl x
theorem rdr {g : AG} {h : AH} {a : Nat} {e : AE} (x : g.2.2.2.2.2 a = some e) : RD g h a e := Or.inr x
theorem mh_find {C : MCx} (hC : MOK C) {k : Nat} (hk : k ∈ mL) : mL.find? (fun j => C.2.1 j == C.2.1 k) = some k := by
  cases hf : mL.find? (fun j => C.2.1 j == C.2.1 k) with
  | none =>
    have := List.find?_eq_none.mp hf k hk
    simp at this
  | some j =>
    have h1 := List.find?_some hf
    have h2 := List.mem_of_find?_eq_some hf
    rw [hC.1 j k h2 hk (by simpa using h1)]
theorem mh_arr {C : MCx} (hC : MOK C) (σ : MSt) {k : Nat} (hk : k ∈ mL) : mh C σ (C.2.1 k) = some (mcell k (σ.2 k)) := by
  unfold mh
  rw [if_neg (hC.2 k hk), mh_find hC hk]
theorem mh_set {C : MCx} (hC : MOK C) (σ : MSt) {k : Nat} (hk : k ∈ mL) (f : Nat → Int) : hset (mh C σ) (C.2.1 k) (mcell k f) = mh C (sR σ k f) := by
  funext q
  by_cases hq : q = C.2.1 k
  · subst hq
    rw [hset_s, mh_arr hC _ hk, sR_2, if_pos rfl]
  · rw [hset_n hq]
    unfold mh
    by_cases hm : q = C.1
    · rw [if_pos hm, if_pos hm]; rfl
    · rw [if_neg hm, if_neg hm]
      cases hf : mL.find? (fun j => C.2.1 j == q) with
      | none => rfl
      | some j =>
        have h1 := List.find?_some hf
        have hj : j ≠ k := by
          intro z
          subst z
          exact hq (by simp at h1; exact h1.symm)
        show some (mcell j (σ.2 j)) = some (mcell j ((sR σ k f).2 j))
        rw [sR_2, if_neg hj]
theorem mh_put {C : MCx} (σ : MSt) {k : Nat} {z : Int} {fs : List Value} (h : fs = mfs C.2.1 (sF σ k z)) : hset (mh C σ) C.1 (.inr (3, fs)) = mh C (sF σ k z) := by
  subst h
  funext q
  by_cases hq : q = C.1
  · subst hq
    rw [hset_s, mh_obj]
  · rw [hset_n hq]
    unfold mh
    rw [if_neg hq, if_neg hq]
    rfl
theorem mh_1 {C : MCx} (hC : MOK C) (σ : MSt) : mh C σ (C.2.1 1) = some (.inl (0, 2232, .inl (σ.2 1))) := mh_arr hC σ (k := 1) (by decide)
theorem mhs_1 {C : MCx} (hC : MOK C) (σ : MSt) (f : Nat → Int) : hset (mh C σ) (C.2.1 1) (.inl (0, 2232, .inl f)) = mh C (sR σ 1 f) := mh_set hC σ (k := 1) (by decide) f
theorem mh_6 {C : MCx} (hC : MOK C) (σ : MSt) : mh C σ (C.2.1 6) = some (.inl (4, 4, .inr (.inl (σ.2 6)))) := mh_arr hC σ (k := 6) (by decide)
theorem mhs_6 {C : MCx} (hC : MOK C) (σ : MSt) (f : Nat → Int) : hset (mh C σ) (C.2.1 6) (.inl (4, 4, .inr (.inl f))) = mh C (sR σ 6 f) := mh_set hC σ (k := 6) (by decide) f
theorem mh_7 {C : MCx} (hC : MOK C) (σ : MSt) : mh C σ (C.2.1 7) = some (.inl (0, 12, .inl (σ.2 7))) := mh_arr hC σ (k := 7) (by decide)
theorem mhs_7 {C : MCx} (hC : MOK C) (σ : MSt) (f : Nat → Int) : hset (mh C σ) (C.2.1 7) (.inl (0, 12, .inl f)) = mh C (sR σ 7 f) := mh_set hC σ (k := 7) (by decide) f
theorem mh_9 {C : MCx} (hC : MOK C) (σ : MSt) : mh C σ (C.2.1 9) = some (.inl (0, 12, .inl (σ.2 9))) := mh_arr hC σ (k := 9) (by decide)
theorem mhs_9 {C : MCx} (hC : MOK C) (σ : MSt) (f : Nat → Int) : hset (mh C σ) (C.2.1 9) (.inl (0, 12, .inl f)) = mh C (sR σ 9 f) := mh_set hC σ (k := 9) (by decide) f
theorem mh_10 {C : MCx} (hC : MOK C) (σ : MSt) : mh C σ (C.2.1 10) = some (.inl (1, 600, .inl (σ.2 10))) := mh_arr hC σ (k := 10) (by decide)
theorem mhs_10 {C : MCx} (hC : MOK C) (σ : MSt) (f : Nat → Int) : hset (mh C σ) (C.2.1 10) (.inl (1, 600, .inl f)) = mh C (sR σ 10 f) := mh_set hC σ (k := 10) (by decide) f
theorem mh_13 {C : MCx} (hC : MOK C) (σ : MSt) : mh C σ (C.2.1 13) = some (.inl (2, 120, .inl (σ.2 13))) := mh_arr hC σ (k := 13) (by decide)
theorem mhs_13 {C : MCx} (hC : MOK C) (σ : MSt) (f : Nat → Int) : hset (mh C σ) (C.2.1 13) (.inl (2, 120, .inl f)) = mh C (sR σ 13 f) := mh_set hC σ (k := 13) (by decide) f
theorem mh_23 {C : MCx} (hC : MOK C) (σ : MSt) : mh C σ (C.2.1 23) = some (.inl (4, 4, .inr (.inl (σ.2 23)))) := mh_arr hC σ (k := 23) (by decide)
theorem mhs_23 {C : MCx} (hC : MOK C) (σ : MSt) (f : Nat → Int) : hset (mh C σ) (C.2.1 23) (.inl (4, 4, .inr (.inl f))) = mh C (sR σ 23 f) := mh_set hC σ (k := 23) (by decide) f
theorem mh_24 {C : MCx} (hC : MOK C) (σ : MSt) : mh C σ (C.2.1 24) = some (.inl (0, 12, .inl (σ.2 24))) := mh_arr hC σ (k := 24) (by decide)
theorem mhs_24 {C : MCx} (hC : MOK C) (σ : MSt) (f : Nat → Int) : hset (mh C σ) (C.2.1 24) (.inl (0, 12, .inl f)) = mh C (sR σ 24 f) := mh_set hC σ (k := 24) (by decide) f
theorem mh_26 {C : MCx} (hC : MOK C) (σ : MSt) : mh C σ (C.2.1 26) = some (.inl (0, 12, .inl (σ.2 26))) := mh_arr hC σ (k := 26) (by decide)
theorem mhs_26 {C : MCx} (hC : MOK C) (σ : MSt) (f : Nat → Int) : hset (mh C σ) (C.2.1 26) (.inl (0, 12, .inl f)) = mh C (sR σ 26 f) := mh_set hC σ (k := 26) (by decide) f
theorem mh_32 {C : MCx} (hC : MOK C) (σ : MSt) : mh C σ (C.2.1 32) = some (.inl (0, 20, .inl (σ.2 32))) := mh_arr hC σ (k := 32) (by decide)
theorem mhs_32 {C : MCx} (hC : MOK C) (σ : MSt) (f : Nat → Int) : hset (mh C σ) (C.2.1 32) (.inl (0, 20, .inl f)) = mh C (sR σ 32 f) := mh_set hC σ (k := 32) (by decide) f
theorem mh_33 {C : MCx} (hC : MOK C) (σ : MSt) : mh C σ (C.2.1 33) = some (.inl (0, 20, .inl (σ.2 33))) := mh_arr hC σ (k := 33) (by decide)
theorem mhs_33 {C : MCx} (hC : MOK C) (σ : MSt) (f : Nat → Int) : hset (mh C σ) (C.2.1 33) (.inl (0, 20, .inl f)) = mh C (sR σ 33 f) := mh_set hC σ (k := 33) (by decide) f
theorem mh_34 {C : MCx} (hC : MOK C) (σ : MSt) : mh C σ (C.2.1 34) = some (.inl (3, 20, .inl (σ.2 34))) := mh_arr hC σ (k := 34) (by decide)
theorem mhs_34 {C : MCx} (hC : MOK C) (σ : MSt) (f : Nat → Int) : hset (mh C σ) (C.2.1 34) (.inl (3, 20, .inl f)) = mh C (sR σ 34 f) := mh_set hC σ (k := 34) (by decide) f
theorem mh_35 {C : MCx} (hC : MOK C) (σ : MSt) : mh C σ (C.2.1 35) = some (.inl (0, 4000, .inl (σ.2 35))) := mh_arr hC σ (k := 35) (by decide)
theorem mhs_35 {C : MCx} (hC : MOK C) (σ : MSt) (f : Nat → Int) : hset (mh C σ) (C.2.1 35) (.inl (0, 4000, .inl f)) = mh C (sR σ 35 f) := mh_set hC σ (k := 35) (by decide) f
theorem mhp_0 (C : MCx) (σ : MSt) (z : Int) : hset (mh C σ) C.1 (.inr (3, (mfs C.2.1 σ).set 0 (iv z))) = mh C (sF σ 0 z) := mh_put σ rfl
theorem mhp_2 (C : MCx) (σ : MSt) (z : Int) : hset (mh C σ) C.1 (.inr (3, (mfs C.2.1 σ).set 2 (iv z))) = mh C (sF σ 2 z) := mh_put σ rfl
theorem mhp_3 (C : MCx) (σ : MSt) (z : Int) : hset (mh C σ) C.1 (.inr (3, (mfs C.2.1 σ).set 3 (iv z))) = mh C (sF σ 3 z) := mh_put σ rfl
theorem mhp_4 (C : MCx) (σ : MSt) (z : Int) : hset (mh C σ) C.1 (.inr (3, (mfs C.2.1 σ).set 4 (iv z))) = mh C (sF σ 4 z) := mh_put σ rfl
theorem mhp_5 (C : MCx) (σ : MSt) (z : Int) : hset (mh C σ) C.1 (.inr (3, (mfs C.2.1 σ).set 5 (iv z))) = mh C (sF σ 5 z) := mh_put σ rfl
theorem mhp_8 (C : MCx) (σ : MSt) (z : Int) : hset (mh C σ) C.1 (.inr (3, (mfs C.2.1 σ).set 8 (iv z))) = mh C (sF σ 8 z) := mh_put σ rfl
theorem mhp_11 (C : MCx) (σ : MSt) (z : Int) : hset (mh C σ) C.1 (.inr (3, (mfs C.2.1 σ).set 11 (iv z))) = mh C (sF σ 11 z) := mh_put σ rfl
theorem mhp_12 (C : MCx) (σ : MSt) (z : Int) : hset (mh C σ) C.1 (.inr (3, (mfs C.2.1 σ).set 12 (iv z))) = mh C (sF σ 12 z) := mh_put σ rfl
theorem mhp_14 (C : MCx) (σ : MSt) (z : Int) : hset (mh C σ) C.1 (.inr (3, (mfs C.2.1 σ).set 14 (iv z))) = mh C (sF σ 14 z) := mh_put σ rfl
theorem mhp_15 (C : MCx) (σ : MSt) (z : Int) : hset (mh C σ) C.1 (.inr (3, (mfs C.2.1 σ).set 15 (iv z))) = mh C (sF σ 15 z) := mh_put σ rfl
theorem mhp_16 (C : MCx) (σ : MSt) (z : Int) : hset (mh C σ) C.1 (.inr (3, (mfs C.2.1 σ).set 16 (iv z))) = mh C (sF σ 16 z) := mh_put σ rfl
theorem mhp_17 (C : MCx) (σ : MSt) (z : Int) : hset (mh C σ) C.1 (.inr (3, (mfs C.2.1 σ).set 17 (iv z))) = mh C (sF σ 17 z) := mh_put σ rfl
theorem mhp_18 (C : MCx) (σ : MSt) (z : Int) : hset (mh C σ) C.1 (.inr (3, (mfs C.2.1 σ).set 18 (iv z))) = mh C (sF σ 18 z) := mh_put σ rfl
theorem mhp_19 (C : MCx) (σ : MSt) (z : Int) : hset (mh C σ) C.1 (.inr (3, (mfs C.2.1 σ).set 19 (iv z))) = mh C (sF σ 19 z) := mh_put σ rfl
theorem mhp_20 (C : MCx) (σ : MSt) (z : Int) : hset (mh C σ) C.1 (.inr (3, (mfs C.2.1 σ).set 20 (jv z))) = mh C (sF σ 20 z) := mh_put σ rfl
theorem mhp_21 (C : MCx) (σ : MSt) (z : Int) : hset (mh C σ) C.1 (.inr (3, (mfs C.2.1 σ).set 21 (iv z))) = mh C (sF σ 21 z) := mh_put σ rfl
theorem mhp_22 (C : MCx) (σ : MSt) (z : Int) : hset (mh C σ) C.1 (.inr (3, (mfs C.2.1 σ).set 22 (iv z))) = mh C (sF σ 22 z) := mh_put σ rfl
theorem mhp_25 (C : MCx) (σ : MSt) (z : Int) : hset (mh C σ) C.1 (.inr (3, (mfs C.2.1 σ).set 25 (iv z))) = mh C (sF σ 25 z) := mh_put σ rfl
theorem mhp_27 (C : MCx) (σ : MSt) (z : Int) : hset (mh C σ) C.1 (.inr (3, (mfs C.2.1 σ).set 27 (iv z))) = mh C (sF σ 27 z) := mh_put σ rfl
theorem mhp_28 (C : MCx) (σ : MSt) (z : Int) : hset (mh C σ) C.1 (.inr (3, (mfs C.2.1 σ).set 28 (iv z))) = mh C (sF σ 28 z) := mh_put σ rfl
theorem mhp_29 (C : MCx) (σ : MSt) (z : Int) : hset (mh C σ) C.1 (.inr (3, (mfs C.2.1 σ).set 29 (iv z))) = mh C (sF σ 29 z) := mh_put σ rfl
theorem mhp_30 (C : MCx) (σ : MSt) (z : Int) : hset (mh C σ) C.1 (.inr (3, (mfs C.2.1 σ).set 30 (iv z))) = mh C (sF σ 30 z) := mh_put σ rfl
theorem mhp_31 (C : MCx) (σ : MSt) (z : Int) : hset (mh C σ) C.1 (.inr (3, (mfs C.2.1 σ).set 31 (iv z))) = mh C (sF σ 31 z) := mh_put σ rfl
/-- an exact contract, of no new cells -/
abbrev AMx (l : Launch) (g : AG) (mi : MI) (d : Nat) (As : List Value) (h : AH) (r : Option Value) (h1 : AH) : Prop := AM l g mi d As h (fun r2 h2 => r2 = r ∧ h2 = h1) (fun _ _ _ => False) 0 0
section AEX
variable {l : Launch} {g : AG} {mi my : MI} {d mc ms d' : Nat} {Q : Option Value → AH → Prop} {X : String → Nat → AH → Prop} {cells slots : Nat} {h h1 : AH} {pc idx k b ci : Nat} {ls ls' : List (Option Value)} {st rest As : List Value} {fs : List Value} {r : vw_C} {v : Option Value}
theorem aw_xV {w : Value} (n : Nat) (hM : AMx l g my d' (.ref b :: As) h (some w) h1) (mv : MV my k) (hlink : Cond.methodLink mi.1.cls idx my.1 ∈ lw_all) (hr : RD g h b (.inr (ci, fs))) (hc : clG[ci]? = some r) (hC : r.1 = my.1.cls) (hk : As.length = k) (hdep : d' + 1 ≤ d) (hloc : 19 + my.2.2.1 + 64 * d' ≤ 64 * d) (hcc : cells ≤ mc) (hss : slots ≤ ms) (hst : st = As.reverse ++ .ref b :: rest) (hcat : (rest.map fun v => v.category).sum ≤ 8) (hd : decode mi.2.1 pc = .ok (.invokevirtual idx, 3)) (hn : pc + 3 = n)
    (kk : AWc l g mi d mc ms Q X cells slots h1 n ls (w :: rest)) : AWc l g mi d mc ms Q X cells slots h pc ls st :=
  aw_callV n hM mv hlink hr hc hC hk hdep hloc hcc hss hst hcat hd hn (fun _ _ _ z => z.elim) (fun r2 h2 hq => by obtain ⟨e1, e2⟩ := hq; subst e1; subst e2; exact kk)
theorem aw_xVv (n : Nat) (hM : AMx l g my d' (.ref b :: As) h none h1) (mv : MV my k) (hlink : Cond.methodLink mi.1.cls idx my.1 ∈ lw_all) (hr : RD g h b (.inr (ci, fs))) (hc : clG[ci]? = some r) (hC : r.1 = my.1.cls) (hk : As.length = k) (hdep : d' + 1 ≤ d) (hloc : 19 + my.2.2.1 + 64 * d' ≤ 64 * d) (hcc : cells ≤ mc) (hss : slots ≤ ms) (hst : st = As.reverse ++ .ref b :: rest) (hcat : (rest.map fun v => v.category).sum ≤ 8) (hd : decode mi.2.1 pc = .ok (.invokevirtual idx, 3)) (hn : pc + 3 = n)
    (kk : AWc l g mi d mc ms Q X cells slots h1 n ls rest) : AWc l g mi d mc ms Q X cells slots h pc ls st :=
  aw_callV n hM mv hlink hr hc hC hk hdep hloc hcc hss hst hcat hd hn (fun _ _ _ z => z.elim) (fun r2 h2 hq => by obtain ⟨e1, e2⟩ := hq; subst e1; subst e2; exact kk)
theorem aw_xS {w : Value} (n : Nat) (hM : AMx l g my d' As h (some w) h1) (mv : MS my k) (hlink : Cond.methodLink mi.1.cls idx my.1 ∈ lw_all) (hk : As.length = k) (hdep : d' + 1 ≤ d) (hloc : 19 + my.2.2.1 + 64 * d' ≤ 64 * d) (hcc : cells ≤ mc) (hss : slots ≤ ms) (hst : st = As.reverse ++ rest) (hcat : (rest.map fun v => v.category).sum ≤ 8) (hd : decode mi.2.1 pc = .ok (.invokestatic idx, 3)) (hn : pc + 3 = n)
    (kk : AWc l g mi d mc ms Q X cells slots h1 n ls (w :: rest)) : AWc l g mi d mc ms Q X cells slots h pc ls st :=
  aw_callS n hM mv hlink hk hdep hloc hcc hss hst hcat hd hn (fun _ _ _ z => z.elim) (fun r2 h2 hq => by obtain ⟨e1, e2⟩ := hq; subst e1; subst e2; exact kk)
theorem aw_xSv (n : Nat) (hM : AMx l g my d' As h none h1) (mv : MS my k) (hlink : Cond.methodLink mi.1.cls idx my.1 ∈ lw_all) (hk : As.length = k) (hdep : d' + 1 ≤ d) (hloc : 19 + my.2.2.1 + 64 * d' ≤ 64 * d) (hcc : cells ≤ mc) (hss : slots ≤ ms) (hst : st = As.reverse ++ rest) (hcat : (rest.map fun v => v.category).sum ≤ 8) (hd : decode mi.2.1 pc = .ok (.invokestatic idx, 3)) (hn : pc + 3 = n)
    (kk : AWc l g mi d mc ms Q X cells slots h1 n ls rest) : AWc l g mi d mc ms Q X cells slots h pc ls st :=
  aw_callS n hM mv hlink hk hdep hloc hcc hss hst hcat hd hn (fun _ _ _ z => z.elim) (fun r2 h2 hq => by obtain ⟨e1, e2⟩ := hq; subst e1; subst e2; exact kk)
theorem aw_xSN {w : Value} (n : Nat) (hM : AMx l g my d' As h (some w) h1) (mv : MS my k) {host : String} (hlink : Cond.methodLinkNest mi.1.cls idx my.1 host ∈ lw_tbl) (hk : As.length = k) (hdep : d' + 1 ≤ d) (hloc : 19 + my.2.2.1 + 64 * d' ≤ 64 * d) (hcc : cells ≤ mc) (hss : slots ≤ ms) (hst : st = As.reverse ++ rest) (hcat : (rest.map fun v => v.category).sum ≤ 8) (hd : decode mi.2.1 pc = .ok (.invokestatic idx, 3)) (hn : pc + 3 = n)
    (kk : AWc l g mi d mc ms Q X cells slots h1 n ls (w :: rest)) : AWc l g mi d mc ms Q X cells slots h pc ls st :=
  aw_callSN n hM mv hlink hk hdep hloc hcc hss hst hcat hd hn (fun _ _ _ z => z.elim) (fun r2 h2 hq => by obtain ⟨e1, e2⟩ := hq; subst e1; subst e2; exact kk)
theorem aw_xSNv (n : Nat) (hM : AMx l g my d' As h none h1) (mv : MS my k) {host : String} (hlink : Cond.methodLinkNest mi.1.cls idx my.1 host ∈ lw_tbl) (hk : As.length = k) (hdep : d' + 1 ≤ d) (hloc : 19 + my.2.2.1 + 64 * d' ≤ 64 * d) (hcc : cells ≤ mc) (hss : slots ≤ ms) (hst : st = As.reverse ++ rest) (hcat : (rest.map fun v => v.category).sum ≤ 8) (hd : decode mi.2.1 pc = .ok (.invokestatic idx, 3)) (hn : pc + 3 = n)
    (kk : AWc l g mi d mc ms Q X cells slots h1 n ls rest) : AWc l g mi d mc ms Q X cells slots h pc ls st :=
  aw_callSN n hM mv hlink hk hdep hloc hcc hss hst hcat hd hn (fun _ _ _ z => z.elim) (fun r2 h2 hq => by obtain ⟨e1, e2⟩ := hq; subst e1; subst e2; exact kk)
theorem aw_xIv (n : Nat) (hM : AMx l g my d' (.ref b :: As) h none h1) (mv : MC my k) (hlink : Cond.methodLink mi.1.cls idx my.1 ∈ lw_all) (hk : As.length = k) (hdep : d' + 1 ≤ d) (hloc : 19 + my.2.2.1 + 64 * d' ≤ 64 * d) (hcc : cells ≤ mc) (hss : slots ≤ ms) (hst : st = As.reverse ++ .ref b :: rest) (hcat : (rest.map fun v => v.category).sum ≤ 8) (hd : decode mi.2.1 pc = .ok (.invokespecial idx, 3)) (hn : pc + 3 = n)
    (kk : AWc l g mi d mc ms Q X cells slots h1 n ls rest) : AWc l g mi d mc ms Q X cells slots h pc ls st :=
  aw_callI n hM mv hlink hk hdep hloc hcc hss hst hcat hd hn (fun _ _ _ z => z.elim) (fun r2 h2 hq => by obtain ⟨e1, e2⟩ := hq; subst e1; subst e2; exact kk)
theorem aw_join (z0 : Int) (J : Nat) (kk : AWc l g mi d mc ms Q X cells slots h J ls (iv z0 :: st)) (rr : (∀ z : Int, z = z0 → AWc l g mi d mc ms Q X cells slots h J ls (iv z :: st)) → AWc l g mi d mc ms Q X cells slots h pc ls st) : AWc l g mi d mc ms Q X cells slots h pc ls st := rr (fun _ hz => hz ▸ kk)
theorem aw_joinH (h0 : AH) (J : Nat) (kk : AWc l g mi d mc ms Q X cells slots h0 J ls st) (rr : (∀ h' : AH, h' = h0 → AWc l g mi d mc ms Q X cells slots h' J ls st) → AWc l g mi d mc ms Q X cells slots h pc ls st) : AWc l g mi d mc ms Q X cells slots h pc ls st := rr (fun _ hz => hz ▸ kk)
theorem aw_xi {z z' : Int} (hz : z = z') (hh : h = h1) (hr : mi.2.2.2.1 = some .int) (hd : decode mi.2.1 pc = .ok (.ireturn, 1)) : AWc l g mi d 0 0 (fun r2 h2 => r2 = some (iv z') ∧ h2 = h1) X 0 0 h pc ls [iv z] :=
  aw_iret ⟨by rw [hz], hh⟩ hr hd (Nat.le_refl _) (Nat.le_refl _)
theorem bI_nar (p : Prop) : narrow .boolean (iv (bI p)) = iv (bI p) := by
  rcases bI_c p with h | h <;> rw [h] <;> decide
theorem aw_xz {p p' : Prop} (hz : p ↔ p') (hh : h = h1) (hr : mi.2.2.2.1 = some .boolean) (hd : decode mi.2.1 pc = .ok (.ireturn, 1)) : AWc l g mi d 0 0 (fun r2 h2 => r2 = some (iv (bI p')) ∧ h2 = h1) X 0 0 h pc ls [iv (bI p)] :=
  aw_zret ⟨by rw [bI_iff hz], hh⟩ hr (bI_nar p) hd (Nat.le_refl _) (Nat.le_refl _)
theorem aw_xz1 {p' : Prop} (hz : p') (hh : h = h1) (hr : mi.2.2.2.1 = some .boolean) (hd : decode mi.2.1 pc = .ok (.ireturn, 1)) : AWc l g mi d 0 0 (fun r2 h2 => r2 = some (iv (bI p')) ∧ h2 = h1) X 0 0 h pc ls [iv 1] :=
  aw_zret ⟨by rw [bI_t hz], hh⟩ hr (by decide) hd (Nat.le_refl _) (Nat.le_refl _)
theorem aw_xz0 {p' : Prop} (hz : ¬ p') (hh : h = h1) (hr : mi.2.2.2.1 = some .boolean) (hd : decode mi.2.1 pc = .ok (.ireturn, 1)) : AWc l g mi d 0 0 (fun r2 h2 => r2 = some (iv (bI p')) ∧ h2 = h1) X 0 0 h pc ls [iv 0] :=
  aw_zret ⟨by rw [bI_f hz], hh⟩ hr (by decide) hd (Nat.le_refl _) (Nat.le_refl _)
theorem aw_xv (hh : h = h1) (hr : mi.2.2.2.1 = none) (hd : decode mi.2.1 pc = .ok (.return_, 1)) : AWc l g mi d 0 0 (fun r2 h2 => r2 = none ∧ h2 = h1) X 0 0 h pc ls [] :=
  aw_vret ⟨rfl, hh⟩ hr hd (Nat.le_refl _) (Nat.le_refl _)
theorem aw_xj {z z' : Int} (hz : z = z') (hh : h = h1) (hr : mi.2.2.2.1 = some .long) (hd : decode mi.2.1 pc = .ok (.lreturn, 1)) : AWc l g mi d 0 0 (fun r2 h2 => r2 = some (jv z') ∧ h2 = h1) X 0 0 h pc ls [jv z] :=
  aw_lret ⟨by rw [hz], hh⟩ hr hd (Nat.le_refl _) (Nat.le_refl _)
end AEX
