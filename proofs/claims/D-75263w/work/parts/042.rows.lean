/-! rows of the plain instructions over AWc (printed by rows.py) -/
set_option maxRecDepth 100000
theorem i_add (a b : Int) : Int32.ofInt a + Int32.ofInt b = Int32.ofInt (a + b) := (Int32.ofInt_add a b).symm
theorem i_sub (a b : Int) : Int32.ofInt a - Int32.ofInt b = Int32.ofInt (a - b) := (Int32.ofInt_sub a b).symm
theorem i_mul (a b : Int) : Int32.ofInt a * Int32.ofInt b = Int32.ofInt (a * b) := (Int32.ofInt_mul a b).symm
theorem i_neg (a : Int) : -Int32.ofInt a = Int32.ofInt (-a) := (Int32.ofInt_neg a).symm
theorem j_add (a b : Int) : Int64.ofInt a + Int64.ofInt b = Int64.ofInt (a + b) := (Int64.ofInt_add a b).symm
theorem j_sub (a b : Int) : Int64.ofInt a - Int64.ofInt b = Int64.ofInt (a - b) := (Int64.ofInt_sub a b).symm
theorem j_mul (a b : Int) : Int64.ofInt a * Int64.ofInt b = Int64.ofInt (a * b) := (Int64.ofInt_mul a b).symm
abbrev Rg (z : Int) : Prop := -2147483648 ≤ z ∧ z ≤ 2147483647
abbrev Rj (z : Int) : Prop := -9223372036854775808 ≤ z ∧ z ≤ 9223372036854775807
theorem i_to {z : Int} (h : Rg z) : (Int32.ofInt z).toInt = z := by
  rw [Int32.toInt_ofInt]
  show Int.bmod z 4294967296 = z
  exact Int.bmod_eq_of_le (by omega) (by omega)
theorem j_to {z : Int} (h : Rj z) : (Int64.ofInt z).toInt = z := by
  rw [Int64.toInt_ofInt]
  show Int.bmod z 18446744073709551616 = z
  exact Int.bmod_eq_of_le (by omega) (by omega)
theorem i_lt {a b : Int} (ha : Rg a) (hb : Rg b) : Int32.ofInt a < Int32.ofInt b ↔ a < b := by
  rw [Int32.lt_iff_toInt_lt, i_to ha, i_to hb]
theorem i_le {a b : Int} (ha : Rg a) (hb : Rg b) : Int32.ofInt a ≤ Int32.ofInt b ↔ a ≤ b := by
  rw [Int32.le_iff_toInt_le, i_to ha, i_to hb]
theorem i_eq {a b : Int} (ha : Rg a) (hb : Rg b) : Int32.ofInt a = Int32.ofInt b ↔ a = b := by
  rw [← Int32.toInt_inj, i_to ha, i_to hb]
theorem j_lt {a b : Int} (ha : Rj a) (hb : Rj b) : Int64.ofInt a < Int64.ofInt b ↔ a < b := by
  rw [Int64.lt_iff_toInt_lt, j_to ha, j_to hb]
theorem j_eq {a b : Int} (ha : Rj a) (hb : Rj b) : Int64.ofInt a = Int64.ofInt b ↔ a = b := by
  rw [← Int64.toInt_inj, j_to ha, j_to hb]
theorem i_0 : (0 : Int32) = Int32.ofInt 0 := by decide
theorem i_in {z : Int} {n : Nat} (h0 : 0 ≤ z) (h1 : z < n) (hn : n ≤ 2147483647) : vp_in (Int32.ofInt z) n ∧ (Int32.ofInt z).toNatClampNeg = z.toNat := by
  have hz : (Int32.ofInt z).toInt = z := i_to (by omega)
  refine ⟨vp_in_iff.mpr ⟨by rw [hz]; exact h0, by rw [hz]; exact h1⟩, ?_⟩
  show (Int32.ofInt z).toInt.toNat = z.toNat
  rw [hz]
/-- an integer of 32 bits is its own number -/
theorem i_of (x : Int32) : x = Int32.ofInt x.toInt := (Int32.ofInt_toInt x).symm
theorem i_rg (x : Int32) : Rg x.toInt := ⟨Int32.le_toInt x, by have := Int32.toInt_lt x; omega⟩
/-- three outcomes of a compare of longs -/
def cmpI (a b : Int) : Int := if a < b then -1 else if a = b then 0 else 1
noncomputable def bI (p : Prop) : Int := @ite _ p (Classical.propDecidable p) 1 0
theorem bI_t {p : Prop} (h : p) : bI p = 1 := by unfold bI; rw [if_pos h]
theorem bI_f {p : Prop} (h : ¬ p) : bI p = 0 := by unfold bI; rw [if_neg h]
theorem bI_c (p : Prop) : bI p = 0 ∨ bI p = 1 := by by_cases h : p; right; exact bI_t h; left; exact bI_f h
theorem bI_iff {p q : Prop} (h : p ↔ q) : bI p = bI q := by rw [propext h]
theorem bI_0 {p : Prop} : bI p = 0 ↔ ¬ p := by
  by_cases h : p
  · rw [bI_t h]; simp [h]
  · rw [bI_f h]; simp [h]
theorem bI_1 {p : Prop} : bI p = 1 ↔ p := by
  by_cases h : p
  · rw [bI_t h]; simp [h]
  · rw [bI_f h]; simp [h]
theorem bI_rg (p : Prop) : 0 ≤ bI p ∧ bI p ≤ 1 := by rcases bI_c p with h | h <;> rw [h] <;> decide
theorem cmpI_lt {a b : Int} : cmpI a b < 0 ↔ a < b := by unfold cmpI; split; simp_all; split <;> simp_all
theorem cmpI_eq {a b : Int} : cmpI a b = 0 ↔ a = b := by unfold cmpI; split; (constructor <;> intro h <;> omega); split <;> simp_all
theorem cmpI_rg (a b : Int) : -1 ≤ cmpI a b ∧ cmpI a b ≤ 1 := by unfold cmpI; split; decide; split <;> decide
section AROWS
variable {l : Launch} {g : AG} {mi : MI} {d mc ms : Nat} {Q : Option Value → AH → Prop} {X : String → Nat → AH → Prop} {cells slots : Nat} {h : AH} {pc : Nat} {ls ls' : List (Option Value)} {st : List Value}
theorem aw_pc (n : Nat) (hn : pc = n) (k : AWc l g mi d mc ms Q X cells slots h n ls st) : AWc l g mi d mc ms Q X cells slots h pc ls st := by subst hn; exact k
theorem aw_st {st' : List Value} (hs : st = st') (k : AWc l g mi d mc ms Q X cells slots h pc ls st') : AWc l g mi d mc ms Q X cells slots h pc ls st := by subst hs; exact k
theorem aw_h {h' : AH} (hs : h = h') (k : AWc l g mi d mc ms Q X cells slots h' pc ls st) : AWc l g mi d mc ms Q X cells slots h pc ls st := by subst hs; exact k
/-- fewer cells known -/
theorem aw_less {h' : AH} (hs : ∀ a e, h' a = some e → h a = some e) (k : AWc l g mi d mc ms Q X cells slots h' pc ls st) : AWc l g mi d mc ms Q X cells slots h pc ls st := by
  intro p e s m args below meth c H locs lsA F B L
  exact k p e s m args below meth c H locs lsA F ⟨B.1, B.2.1, B.2.2.1.less hs, B.2.2.2⟩ L
/-- fewer locals known -/
theorem aw_ls {ls' : List (Option Value)} (hs : ∀ (j : Nat) (v : Value), ls'[j]? = some (some v) → ls[j]? = some (some v)) (k : AWc l g mi d mc ms Q X cells slots h pc ls' st) : AWc l g mi d mc ms Q X cells slots h pc ls st := by
  intro p e s m args below meth c H locs lsA F B L
  exact k p e s m args below meth c H locs lsA F B (AL.less L (fun j v hj => as_mem.mpr ⟨Nat.zero_le _, by simpa using hs j v hj⟩))
theorem aw_widen (k1 n1 : Nat) (h1 : cells ≤ k1) (h2 : slots ≤ n1) (k : AWc l g mi d mc ms Q X k1 n1 h pc ls st) : AWc l g mi d mc ms Q X cells slots h pc ls st := by
  intro p e s m args below meth c H locs lsA F B L
  exact W.widen h1 h2 (k p e s m args below meth c H locs lsA F B L)

theorem aw_iconst (n : Nat) {z : Int} (hd : decode mi.2.1 pc = .ok (.iconst z, 1)) (hn : pc + 1 = n) (k : AWc l g mi d mc ms Q X cells slots h n ls (iv z :: st)) : AWc l g mi d mc ms Q X cells slots h pc ls (st) := by
  intro p e s m args below meth c H locs lsA F B L
  subst hn
  refine lv_iconst F.2.1 F.2.2.1 hd rfl ?_
  exact k p e s m args below meth c H locs lsA F B L
theorem aw_bipush (n : Nat) {z : Int} (hd : decode mi.2.1 pc = .ok (.bipush z, 2)) (hn : pc + 2 = n) (hz : (Int8.ofInt z).toInt32 = Int32.ofInt z) (k : AWc l g mi d mc ms Q X cells slots h n ls (iv z :: st)) : AWc l g mi d mc ms Q X cells slots h pc ls (st) := by
  intro p e s m args below meth c H locs lsA F B L
  subst hn
  refine lv_bipush F.2.1 F.2.2.1 hd hz ?_
  exact k p e s m args below meth c H locs lsA F B L
theorem aw_sipush (n : Nat) {z : Int} (hd : decode mi.2.1 pc = .ok (.sipush z, 3)) (hn : pc + 3 = n) (hz : (Int16.ofInt z).toInt32 = Int32.ofInt z) (k : AWc l g mi d mc ms Q X cells slots h n ls (iv z :: st)) : AWc l g mi d mc ms Q X cells slots h pc ls (st) := by
  intro p e s m args below meth c H locs lsA F B L
  subst hn
  refine lv_sipush F.2.1 F.2.2.1 hd hz ?_
  exact k p e s m args below meth c H locs lsA F B L
theorem aw_lconst (n : Nat) {i : Fin 2} (z : Int) (hd : decode mi.2.1 pc = .ok (.lconst i, 1)) (hn : pc + 1 = n) (hz : Int64.ofNat (i : Nat) = Int64.ofInt z) (k : AWc l g mi d mc ms Q X cells slots h n ls (jv z :: st)) : AWc l g mi d mc ms Q X cells slots h pc ls (st) := by
  intro p e s m args below meth c H locs lsA F B L
  subst hn
  refine lv_lconst F.2.1 F.2.2.1 hd hz ?_
  exact k p e s m args below meth c H locs lsA F B L
theorem aw_null (n : Nat)  (hd : decode mi.2.1 pc = .ok (.aconst_null, 1)) (hn : pc + 1 = n) (k : AWc l g mi d mc ms Q X cells slots h n ls (.null :: st)) : AWc l g mi d mc ms Q X cells slots h pc ls (st) := by
  intro p e s m args below meth c H locs lsA F B L
  subst hn
  refine lv_null F.2.1 F.2.2.1 hd ?_
  exact k p e s m args below meth c H locs lsA F B L
theorem aw_ldc (n : Nat) {i : Nat} {v : Int32} (z : Int) (hq : Cond.constant mi.1.cls i v ∈ lw_all) (hz : v = Int32.ofInt z) (hd : decode mi.2.1 pc = .ok (.ldc i, 2)) (hn : pc + 2 = n) (k : AWc l g mi d mc ms Q X cells slots h n ls (iv z :: st)) : AWc l g mi d mc ms Q X cells slots h pc ls st := by
  intro p e s m args below meth c H locs lsA F B L
  subst hn
  subst hz
  exact lv_ldc F.2.1 F.2.2.1 F.2.2.2.2.2.1 (F.2.2.2.2.2.2.1 _ hq) hd (k p e s m args below meth c H locs lsA F B L)
theorem aw_ldcw (n : Nat) {i : Nat} {v : Int32} (z : Int) (hq : Cond.constant mi.1.cls i v ∈ lw_all) (hz : v = Int32.ofInt z) (hd : decode mi.2.1 pc = .ok (.ldc_w i, 3)) (hn : pc + 3 = n) (k : AWc l g mi d mc ms Q X cells slots h n ls (iv z :: st)) : AWc l g mi d mc ms Q X cells slots h pc ls st := by
  intro p e s m args below meth c H locs lsA F B L
  subst hn
  subst hz
  exact lv_ldcw F.2.1 F.2.2.1 F.2.2.2.2.2.1 (F.2.2.2.2.2.2.1 _ hq) hd (k p e s m args below meth c H locs lsA F B L)
theorem aw_ldc2 (n : Nat) {i : Nat} {v : Int64} (z : Int) (hq : Cond.constantLong mi.1.cls i v ∈ lw_all) (hz : v = Int64.ofInt z) (hd : decode mi.2.1 pc = .ok (.ldc2_w i, 3)) (hn : pc + 3 = n) (k : AWc l g mi d mc ms Q X cells slots h n ls (jv z :: st)) : AWc l g mi d mc ms Q X cells slots h pc ls st := by
  intro p e s m args below meth c H locs lsA F B L
  subst hn
  subst hz
  exact lv_ldc2 F.2.1 F.2.2.1 F.2.2.2.2.2.1 (F.2.2.2.2.2.2.1 _ hq) hd (k p e s m args below meth c H locs lsA F B L)
theorem aw_iload_n (n : Nat) {i : Fin 4} {x : Int32} (hd : decode mi.2.1 pc = .ok (.iload_n i, 1)) (hn : pc + 1 = n) (hl : ls[(i : Nat)]? = some (some (.int x))) (k : AWc l g mi d mc ms Q X cells slots h n ls (.int x :: st)) : AWc l g mi d mc ms Q X cells slots h pc ls st := by
  intro p e s m args below meth c H locs lsA F B L
  subst hn
  exact lv_iload_n F.2.1 F.2.2.1 hd rfl (L.at' hl) (k p e s m args below meth c H locs lsA F B L)
theorem aw_iload (n : Nat) {i : Nat} {x : Int32} (hd : decode mi.2.1 pc = .ok (.iload i, 2)) (hn : pc + 2 = n) (hl : ls[i]? = some (some (.int x))) (k : AWc l g mi d mc ms Q X cells slots h n ls (.int x :: st)) : AWc l g mi d mc ms Q X cells slots h pc ls st := by
  intro p e s m args below meth c H locs lsA F B L
  subst hn
  exact lv_iload F.2.1 F.2.2.1 hd (L.at' hl) (k p e s m args below meth c H locs lsA F B L)
theorem aw_lload_n (n : Nat) {i : Fin 4} {x : Int64} (hd : decode mi.2.1 pc = .ok (.lload_n i, 1)) (hn : pc + 1 = n) (hl : ls[(i : Nat)]? = some (some (.long x))) (k : AWc l g mi d mc ms Q X cells slots h n ls (.long x :: st)) : AWc l g mi d mc ms Q X cells slots h pc ls st := by
  intro p e s m args below meth c H locs lsA F B L
  subst hn
  exact lv_lload_n F.2.1 F.2.2.1 hd rfl (L.at' hl) (k p e s m args below meth c H locs lsA F B L)
theorem aw_lload (n : Nat) {i : Nat} {x : Int64} (hd : decode mi.2.1 pc = .ok (.lload i, 2)) (hn : pc + 2 = n) (hl : ls[i]? = some (some (.long x))) (k : AWc l g mi d mc ms Q X cells slots h n ls (.long x :: st)) : AWc l g mi d mc ms Q X cells slots h pc ls st := by
  intro p e s m args below meth c H locs lsA F B L
  subst hn
  exact lv_lload F.2.1 F.2.2.1 hd (L.at' hl) (k p e s m args below meth c H locs lsA F B L)
theorem aw_aload_n (n : Nat) {i : Fin 4} {x : Nat} (hd : decode mi.2.1 pc = .ok (.aload_n i, 1)) (hn : pc + 1 = n) (hl : ls[(i : Nat)]? = some (some (.ref x))) (k : AWc l g mi d mc ms Q X cells slots h n ls (.ref x :: st)) : AWc l g mi d mc ms Q X cells slots h pc ls st := by
  intro p e s m args below meth c H locs lsA F B L
  subst hn
  exact lv_aload_n F.2.1 F.2.2.1 hd rfl (L.at' hl) (k p e s m args below meth c H locs lsA F B L)
theorem aw_aload (n : Nat) {i : Nat} {x : Nat} (hd : decode mi.2.1 pc = .ok (.aload i, 2)) (hn : pc + 2 = n) (hl : ls[i]? = some (some (.ref x))) (k : AWc l g mi d mc ms Q X cells slots h n ls (.ref x :: st)) : AWc l g mi d mc ms Q X cells slots h pc ls st := by
  intro p e s m args below meth c H locs lsA F B L
  subst hn
  exact lv_aload F.2.1 F.2.2.1 hd (L.at' hl) (k p e s m args below meth c H locs lsA F B L)
theorem aw_dload_n (n : Nat) {i : Fin 4} {x : UInt64} (hd : decode mi.2.1 pc = .ok (.dload_n i, 1)) (hn : pc + 1 = n) (hl : ls[(i : Nat)]? = some (some (.double x))) (k : AWc l g mi d mc ms Q X cells slots h n ls (.double x :: st)) : AWc l g mi d mc ms Q X cells slots h pc ls st := by
  intro p e s m args below meth c H locs lsA F B L
  subst hn
  exact lv_dload_n F.2.1 F.2.2.1 hd rfl (L.at' hl) (k p e s m args below meth c H locs lsA F B L)
theorem aw_dload (n : Nat) {i : Nat} {x : UInt64} (hd : decode mi.2.1 pc = .ok (.dload i, 2)) (hn : pc + 2 = n) (hl : ls[i]? = some (some (.double x))) (k : AWc l g mi d mc ms Q X cells slots h n ls (.double x :: st)) : AWc l g mi d mc ms Q X cells slots h pc ls st := by
  intro p e s m args below meth c H locs lsA F B L
  subst hn
  exact lv_dload F.2.1 F.2.2.1 hd (L.at' hl) (k p e s m args below meth c H locs lsA F B L)
theorem aw_aload_nN (n : Nat) {i : Fin 4} (hd : decode mi.2.1 pc = .ok (.aload_n i, 1)) (hn : pc + 1 = n) (hl : ls[(i : Nat)]? = some (some (.null))) (k : AWc l g mi d mc ms Q X cells slots h n ls (.null :: st)) : AWc l g mi d mc ms Q X cells slots h pc ls st := by
  intro p e s m args below meth c H locs lsA F B L
  subst hn
  exact lv_aload_nN F.2.1 F.2.2.1 hd rfl (L.at' hl) (k p e s m args below meth c H locs lsA F B L)
theorem aw_aloadN (n : Nat) {i : Nat} (hd : decode mi.2.1 pc = .ok (.aload i, 2)) (hn : pc + 2 = n) (hl : ls[i]? = some (some (.null))) (k : AWc l g mi d mc ms Q X cells slots h n ls (.null :: st)) : AWc l g mi d mc ms Q X cells slots h pc ls st := by
  intro p e s m args below meth c H locs lsA F B L
  subst hn
  exact lv_aloadN F.2.1 F.2.2.1 hd (L.at' hl) (k p e s m args below meth c H locs lsA F B L)
theorem aw_istore_n (n : Nat) {i : Fin 4} {x : Int32} (hd : decode mi.2.1 pc = .ok (.istore_n i, 1)) (hn : pc + 1 = n) (hl : AS (i : Nat) (.int x) ls ls') (hi : (i : Nat) < mi.2.2.1) (k : AWc l g mi d mc ms Q X cells slots h n ls' st) : AWc l g mi d mc ms Q X cells slots h pc ls (.int x :: st) := by
  intro p e s m args below meth c H locs lsA F B L
  subst hn
  exact lv_istore_n F.2.1 F.2.2.1 hd rfl L hi rfl (fun lsB hB => k p e s m args below meth c H locs lsB F B (hl.to hB))
theorem aw_istore (n : Nat) {i : Nat} {x : Int32} (hd : decode mi.2.1 pc = .ok (.istore i, 2)) (hn : pc + 2 = n) (hl : AS i (.int x) ls ls') (hi : i < mi.2.2.1) (k : AWc l g mi d mc ms Q X cells slots h n ls' st) : AWc l g mi d mc ms Q X cells slots h pc ls (.int x :: st) := by
  intro p e s m args below meth c H locs lsA F B L
  subst hn
  exact lv_istore F.2.1 F.2.2.1 hd L hi rfl (fun lsB hB => k p e s m args below meth c H locs lsB F B (hl.to hB))
theorem aw_lstore_n (n : Nat) {i : Fin 4} {x : Int64} (hd : decode mi.2.1 pc = .ok (.lstore_n i, 1)) (hn : pc + 1 = n) (hl : AS2 (i : Nat) (.long x) ls ls') (hi : (i : Nat) + 1 < mi.2.2.1) (k : AWc l g mi d mc ms Q X cells slots h n ls' st) : AWc l g mi d mc ms Q X cells slots h pc ls (.long x :: st) := by
  intro p e s m args below meth c H locs lsA F B L
  subst hn
  exact lv_lstore_n F.2.1 F.2.2.1 hd rfl L hi rfl (fun lsB hB => k p e s m args below meth c H locs lsB F B (hl.to hB))
theorem aw_lstore (n : Nat) {i : Nat} {x : Int64} (hd : decode mi.2.1 pc = .ok (.lstore i, 2)) (hn : pc + 2 = n) (hl : AS2 i (.long x) ls ls') (hi : i + 1 < mi.2.2.1) (k : AWc l g mi d mc ms Q X cells slots h n ls' st) : AWc l g mi d mc ms Q X cells slots h pc ls (.long x :: st) := by
  intro p e s m args below meth c H locs lsA F B L
  subst hn
  exact lv_lstore F.2.1 F.2.2.1 hd L hi rfl (fun lsB hB => k p e s m args below meth c H locs lsB F B (hl.to hB))
theorem aw_astore_n (n : Nat) {i : Fin 4} {x : Nat} (hd : decode mi.2.1 pc = .ok (.astore_n i, 1)) (hn : pc + 1 = n) (hl : AS (i : Nat) (.ref x) ls ls') (hi : (i : Nat) < mi.2.2.1) (k : AWc l g mi d mc ms Q X cells slots h n ls' st) : AWc l g mi d mc ms Q X cells slots h pc ls (.ref x :: st) := by
  intro p e s m args below meth c H locs lsA F B L
  subst hn
  exact lv_astore_n F.2.1 F.2.2.1 hd rfl L hi rfl (fun lsB hB => k p e s m args below meth c H locs lsB F B (hl.to hB))
theorem aw_astore (n : Nat) {i : Nat} {x : Nat} (hd : decode mi.2.1 pc = .ok (.astore i, 2)) (hn : pc + 2 = n) (hl : AS i (.ref x) ls ls') (hi : i < mi.2.2.1) (k : AWc l g mi d mc ms Q X cells slots h n ls' st) : AWc l g mi d mc ms Q X cells slots h pc ls (.ref x :: st) := by
  intro p e s m args below meth c H locs lsA F B L
  subst hn
  exact lv_astore F.2.1 F.2.2.1 hd L hi rfl (fun lsB hB => k p e s m args below meth c H locs lsB F B (hl.to hB))
theorem aw_dstore_n (n : Nat) {i : Fin 4} {x : UInt64} (hd : decode mi.2.1 pc = .ok (.dstore_n i, 1)) (hn : pc + 1 = n) (hl : AS2 (i : Nat) (.double x) ls ls') (hi : (i : Nat) + 1 < mi.2.2.1) (k : AWc l g mi d mc ms Q X cells slots h n ls' st) : AWc l g mi d mc ms Q X cells slots h pc ls (.double x :: st) := by
  intro p e s m args below meth c H locs lsA F B L
  subst hn
  exact lv_dstore_n F.2.1 F.2.2.1 hd rfl L hi rfl (fun lsB hB => k p e s m args below meth c H locs lsB F B (hl.to hB))
theorem aw_dstore (n : Nat) {i : Nat} {x : UInt64} (hd : decode mi.2.1 pc = .ok (.dstore i, 2)) (hn : pc + 2 = n) (hl : AS2 i (.double x) ls ls') (hi : i + 1 < mi.2.2.1) (k : AWc l g mi d mc ms Q X cells slots h n ls' st) : AWc l g mi d mc ms Q X cells slots h pc ls (.double x :: st) := by
  intro p e s m args below meth c H locs lsA F B L
  subst hn
  exact lv_dstore F.2.1 F.2.2.1 hd L hi rfl (fun lsB hB => k p e s m args below meth c H locs lsB F B (hl.to hB))
theorem aw_astore_nN (n : Nat) {i : Fin 4} (hd : decode mi.2.1 pc = .ok (.astore_n i, 1)) (hn : pc + 1 = n) (hl : AS (i : Nat) (.null) ls ls') (hi : (i : Nat) < mi.2.2.1) (k : AWc l g mi d mc ms Q X cells slots h n ls' st) : AWc l g mi d mc ms Q X cells slots h pc ls (.null :: st) := by
  intro p e s m args below meth c H locs lsA F B L
  subst hn
  exact lv_astore_nN F.2.1 F.2.2.1 hd rfl L hi rfl (fun lsB hB => k p e s m args below meth c H locs lsB F B (hl.to hB))
theorem aw_astoreN (n : Nat) {i : Nat} (hd : decode mi.2.1 pc = .ok (.astore i, 2)) (hn : pc + 2 = n) (hl : AS i (.null) ls ls') (hi : i < mi.2.2.1) (k : AWc l g mi d mc ms Q X cells slots h n ls' st) : AWc l g mi d mc ms Q X cells slots h pc ls (.null :: st) := by
  intro p e s m args below meth c H locs lsA F B L
  subst hn
  exact lv_astoreN F.2.1 F.2.2.1 hd L hi rfl (fun lsB hB => k p e s m args below meth c H locs lsB F B (hl.to hB))
theorem aw_iinc (n : Nat) {i : Nat} {z a : Int} (hd : decode mi.2.1 pc = .ok (.iinc i z, 3)) (hn : pc + 3 = n) (hv : ls[i]? = some (some (iv a))) (hl : AS i (iv (a + z)) ls ls') (hi : i < mi.2.2.1) (k : AWc l g mi d mc ms Q X cells slots h n ls' st) : AWc l g mi d mc ms Q X cells slots h pc ls st := by
  intro p e s m args below meth c H locs lsA F B L
  subst hn
  obtain ⟨j, hj⟩ := List.getElem?_of_mem ((as_mem (k := 0) (j := i) (v := iv a) (l := ls)).mpr ⟨Nat.zero_le _, by simpa using hv⟩)
  exact lv_iinc F.2.1 F.2.2.1 hd L hj (i_add a z) hi rfl (fun lsB hB => k p e s m args below meth c H locs lsB F B (hl.to hB))
theorem aw_iadd (n : Nat) {a b : Int} (hd : decode mi.2.1 pc = .ok (.iadd, 1)) (hn : pc + 1 = n) (k : AWc l g mi d mc ms Q X cells slots h n ls (iv (a + b) :: st)) : AWc l g mi d mc ms Q X cells slots h pc ls (iv b :: iv a :: st) := by
  intro p e s m args below meth c H locs lsA F B L
  subst hn
  refine lv_iadd F.2.1 F.2.2.1 hd ?_
  rw [i_add]
  exact k p e s m args below meth c H locs lsA F B L
theorem aw_ladd (n : Nat) {a b : Int} (hd : decode mi.2.1 pc = .ok (.ladd, 1)) (hn : pc + 1 = n) (k : AWc l g mi d mc ms Q X cells slots h n ls (jv (a + b) :: st)) : AWc l g mi d mc ms Q X cells slots h pc ls (jv b :: jv a :: st) := by
  intro p e s m args below meth c H locs lsA F B L
  subst hn
  refine lv_ladd F.2.1 F.2.2.1 hd ?_
  rw [j_add]
  exact k p e s m args below meth c H locs lsA F B L
theorem aw_isub (n : Nat) {a b : Int} (hd : decode mi.2.1 pc = .ok (.isub, 1)) (hn : pc + 1 = n) (k : AWc l g mi d mc ms Q X cells slots h n ls (iv (a - b) :: st)) : AWc l g mi d mc ms Q X cells slots h pc ls (iv b :: iv a :: st) := by
  intro p e s m args below meth c H locs lsA F B L
  subst hn
  refine lv_isub F.2.1 F.2.2.1 hd ?_
  rw [i_sub]
  exact k p e s m args below meth c H locs lsA F B L
theorem aw_lsub (n : Nat) {a b : Int} (hd : decode mi.2.1 pc = .ok (.lsub, 1)) (hn : pc + 1 = n) (k : AWc l g mi d mc ms Q X cells slots h n ls (jv (a - b) :: st)) : AWc l g mi d mc ms Q X cells slots h pc ls (jv b :: jv a :: st) := by
  intro p e s m args below meth c H locs lsA F B L
  subst hn
  refine lv_lsub F.2.1 F.2.2.1 hd ?_
  rw [j_sub]
  exact k p e s m args below meth c H locs lsA F B L
theorem aw_imul (n : Nat) {a b : Int} (hd : decode mi.2.1 pc = .ok (.imul, 1)) (hn : pc + 1 = n) (k : AWc l g mi d mc ms Q X cells slots h n ls (iv (a * b) :: st)) : AWc l g mi d mc ms Q X cells slots h pc ls (iv b :: iv a :: st) := by
  intro p e s m args below meth c H locs lsA F B L
  subst hn
  refine lv_imul F.2.1 F.2.2.1 hd ?_
  rw [i_mul]
  exact k p e s m args below meth c H locs lsA F B L
theorem aw_lmul (n : Nat) {a b : Int} (hd : decode mi.2.1 pc = .ok (.lmul, 1)) (hn : pc + 1 = n) (k : AWc l g mi d mc ms Q X cells slots h n ls (jv (a * b) :: st)) : AWc l g mi d mc ms Q X cells slots h pc ls (jv b :: jv a :: st) := by
  intro p e s m args below meth c H locs lsA F B L
  subst hn
  refine lv_lmul F.2.1 F.2.2.1 hd ?_
  rw [j_mul]
  exact k p e s m args below meth c H locs lsA F B L
theorem aw_ineg (n : Nat) {a : Int} (hd : decode mi.2.1 pc = .ok (.ineg, 1)) (hn : pc + 1 = n) (k : AWc l g mi d mc ms Q X cells slots h n ls (iv (-a) :: st)) : AWc l g mi d mc ms Q X cells slots h pc ls (iv a :: st) := by
  intro p e s m args below meth c H locs lsA F B L
  subst hn
  refine lv_ineg F.2.1 F.2.2.1 hd ?_
  rw [i_neg]
  exact k p e s m args below meth c H locs lsA F B L
theorem aw_iand (n : Nat) {a b : Int32} (z : Int) (hd : decode mi.2.1 pc = .ok (.iand, 1)) (hn : pc + 1 = n) (hz : a &&& b = Int32.ofInt z) (k : AWc l g mi d mc ms Q X cells slots h n ls (iv z :: st)) : AWc l g mi d mc ms Q X cells slots h pc ls (.int b :: .int a :: st) := by
  intro p e s m args below meth c H locs lsA F B L
  subst hn
  refine lv_iand F.2.1 F.2.2.1 hd ?_
  rw [hz]
  exact k p e s m args below meth c H locs lsA F B L
theorem aw_ior (n : Nat) {a b : Int32} (z : Int) (hd : decode mi.2.1 pc = .ok (.ior, 1)) (hn : pc + 1 = n) (hz : a ||| b = Int32.ofInt z) (k : AWc l g mi d mc ms Q X cells slots h n ls (iv z :: st)) : AWc l g mi d mc ms Q X cells slots h pc ls (.int b :: .int a :: st) := by
  intro p e s m args below meth c H locs lsA F B L
  subst hn
  refine lv_ior F.2.1 F.2.2.1 hd ?_
  rw [hz]
  exact k p e s m args below meth c H locs lsA F B L
theorem aw_ixor (n : Nat) {a b : Int32} (z : Int) (hd : decode mi.2.1 pc = .ok (.ixor, 1)) (hn : pc + 1 = n) (hz : a ^^^ b = Int32.ofInt z) (k : AWc l g mi d mc ms Q X cells slots h n ls (iv z :: st)) : AWc l g mi d mc ms Q X cells slots h pc ls (.int b :: .int a :: st) := by
  intro p e s m args below meth c H locs lsA F B L
  subst hn
  refine lv_ixor F.2.1 F.2.2.1 hd ?_
  rw [hz]
  exact k p e s m args below meth c H locs lsA F B L
theorem aw_land (n : Nat) {a b : Int64} (z : Int) (hd : decode mi.2.1 pc = .ok (.land, 1)) (hn : pc + 1 = n) (hz : a &&& b = Int64.ofInt z) (k : AWc l g mi d mc ms Q X cells slots h n ls (jv z :: st)) : AWc l g mi d mc ms Q X cells slots h pc ls (.long b :: .long a :: st) := by
  intro p e s m args below meth c H locs lsA F B L
  subst hn
  refine lv_land F.2.1 F.2.2.1 hd ?_
  rw [hz]
  exact k p e s m args below meth c H locs lsA F B L
theorem aw_ishl (n : Nat) {a b : Int32} (z : Int) (hd : decode mi.2.1 pc = .ok (.ishl, 1)) (hn : pc + 1 = n) (hz : a <<< (b &&& 31) = Int32.ofInt z) (k : AWc l g mi d mc ms Q X cells slots h n ls (iv z :: st)) : AWc l g mi d mc ms Q X cells slots h pc ls (.int b :: .int a :: st) := by
  intro p e s m args below meth c H locs lsA F B L
  subst hn
  refine lv_ishl F.2.1 F.2.2.1 hd ?_
  rw [hz]
  exact k p e s m args below meth c H locs lsA F B L
theorem aw_ishr (n : Nat) {a b : Int32} (z : Int) (hd : decode mi.2.1 pc = .ok (.ishr, 1)) (hn : pc + 1 = n) (hz : a >>> (b &&& 31) = Int32.ofInt z) (k : AWc l g mi d mc ms Q X cells slots h n ls (iv z :: st)) : AWc l g mi d mc ms Q X cells slots h pc ls (.int b :: .int a :: st) := by
  intro p e s m args below meth c H locs lsA F B L
  subst hn
  refine lv_ishr F.2.1 F.2.2.1 hd ?_
  rw [hz]
  exact k p e s m args below meth c H locs lsA F B L
theorem aw_iushr (n : Nat) {a b : Int32} (z : Int) (hd : decode mi.2.1 pc = .ok (.iushr, 1)) (hn : pc + 1 = n) (hz : (a.toUInt32 >>> (b.toUInt32 &&& Int32.toUInt32 31)).toInt32 = Int32.ofInt z) (k : AWc l g mi d mc ms Q X cells slots h n ls (iv z :: st)) : AWc l g mi d mc ms Q X cells slots h pc ls (.int b :: .int a :: st) := by
  intro p e s m args below meth c H locs lsA F B L
  subst hn
  refine lv_iushr F.2.1 F.2.2.1 hd hz ?_
  exact k p e s m args below meth c H locs lsA F B L
theorem aw_lshr (n : Nat) {a : Int64} {b : Int32} (z : Int) (hd : decode mi.2.1 pc = .ok (.lshr, 1)) (hn : pc + 1 = n) (hz : a >>> (b.toInt64 &&& 63) = Int64.ofInt z) (k : AWc l g mi d mc ms Q X cells slots h n ls (jv z :: st)) : AWc l g mi d mc ms Q X cells slots h pc ls (.int b :: .long a :: st) := by
  intro p e s m args below meth c H locs lsA F B L
  subst hn
  refine lv_lshr F.2.1 F.2.2.1 hd hz ?_
  exact k p e s m args below meth c H locs lsA F B L
theorem aw_i2l (n : Nat) {a : Int} (hd : decode mi.2.1 pc = .ok (.i2l, 1)) (hn : pc + 1 = n) (hz : (Int32.ofInt a).toInt64 = Int64.ofInt a) (k : AWc l g mi d mc ms Q X cells slots h n ls (jv a :: st)) : AWc l g mi d mc ms Q X cells slots h pc ls (iv a :: st) := by
  intro p e s m args below meth c H locs lsA F B L
  subst hn
  refine lv_i2l F.2.1 F.2.2.1 hd hz ?_
  exact k p e s m args below meth c H locs lsA F B L
theorem aw_l2i (n : Nat) {a : Int} (hd : decode mi.2.1 pc = .ok (.l2i, 1)) (hn : pc + 1 = n) (hz : (Int64.ofInt a).toInt32 = Int32.ofInt a) (k : AWc l g mi d mc ms Q X cells slots h n ls (iv a :: st)) : AWc l g mi d mc ms Q X cells slots h pc ls (jv a :: st) := by
  intro p e s m args below meth c H locs lsA F B L
  subst hn
  refine lv_l2i F.2.1 F.2.2.1 hd hz ?_
  exact k p e s m args below meth c H locs lsA F B L
theorem aw_i2b (n : Nat) {a : Int32} (z : Int) (hd : decode mi.2.1 pc = .ok (.i2b, 1)) (hn : pc + 1 = n) (hz : a.toInt8.toInt32 = Int32.ofInt z) (k : AWc l g mi d mc ms Q X cells slots h n ls (iv z :: st)) : AWc l g mi d mc ms Q X cells slots h pc ls (.int a :: st) := by
  intro p e s m args below meth c H locs lsA F B L
  subst hn
  refine lv_i2b F.2.1 F.2.2.1 hd hz ?_
  exact k p e s m args below meth c H locs lsA F B L
theorem aw_i2c (n : Nat) {a : Int32} (z : Int) (hd : decode mi.2.1 pc = .ok (.i2c, 1)) (hn : pc + 1 = n) (hz : (a.toUInt32 % 65536).toInt32 = Int32.ofInt z) (k : AWc l g mi d mc ms Q X cells slots h n ls (iv z :: st)) : AWc l g mi d mc ms Q X cells slots h pc ls (.int a :: st) := by
  intro p e s m args below meth c H locs lsA F B L
  subst hn
  refine lv_i2c F.2.1 F.2.2.1 hd hz ?_
  exact k p e s m args below meth c H locs lsA F B L
theorem aw_idiv (n : Nat) {a b : Int32} (z : Int) (hd : decode mi.2.1 pc = .ok (.idiv, 1)) (hn : pc + 1 = n) (h0 : ¬ b = 0) (hz : a / b = Int32.ofInt z) (k : AWc l g mi d mc ms Q X cells slots h n ls (iv z :: st)) : AWc l g mi d mc ms Q X cells slots h pc ls (.int b :: .int a :: st) := by
  intro p e s m args below meth c H locs lsA F B L
  subst hn
  refine lv_idiv F.2.1 F.2.2.1 hd h0 ?_
  rw [hz]
  exact k p e s m args below meth c H locs lsA F B L
theorem aw_irem (n : Nat) {a b : Int32} (z : Int) (hd : decode mi.2.1 pc = .ok (.irem, 1)) (hn : pc + 1 = n) (h0 : ¬ b = 0) (hz : a - a / b * b = Int32.ofInt z) (k : AWc l g mi d mc ms Q X cells slots h n ls (iv z :: st)) : AWc l g mi d mc ms Q X cells slots h pc ls (.int b :: .int a :: st) := by
  intro p e s m args below meth c H locs lsA F B L
  subst hn
  refine lv_irem F.2.1 F.2.2.1 hd h0 ?_
  rw [hz]
  exact k p e s m args below meth c H locs lsA F B L
theorem i_div {a b : Int} (ha : 0 ≤ a) (ha2 : a ≤ 2147483647) (hb : 0 < b) (hb2 : b ≤ 2147483647) : Int32.ofInt a / Int32.ofInt b = Int32.ofInt (a / b) := by
  apply Int32.toInt_inj.mp
  have h1 : a / b ≤ a := Int.ediv_le_self b ha
  have h2 : 0 ≤ a / b := Int.ediv_nonneg ha (Int.le_of_lt hb)
  rw [Int32.toInt_div, i_to (by omega), i_to (by omega), i_to (by omega), Int.tdiv_eq_ediv_of_nonneg ha, Int.bmod_eq_of_le (by omega) (by omega)]
theorem i_nz {b : Int} (hb : 0 < b) (hb2 : b ≤ 2147483647) : ¬ Int32.ofInt b = 0 := by
  rw [i_0, i_eq (by omega) (by omega)]
  omega
theorem aw_idivP (n : Nat) {a b : Int} (hr : (0 ≤ a ∧ a ≤ 2147483647) ∧ 0 < b ∧ b ≤ 2147483647) (hd : decode mi.2.1 pc = .ok (.idiv, 1)) (hn : pc + 1 = n) (k : AWc l g mi d mc ms Q X cells slots h n ls (iv (a / b) :: st)) : AWc l g mi d mc ms Q X cells slots h pc ls (iv b :: iv a :: st) :=
  aw_idiv n (a / b) hd hn (i_nz hr.2.1 hr.2.2) (i_div hr.1.1 hr.1.2 hr.2.1 hr.2.2) k
theorem aw_iremP (n : Nat) {a b : Int} (hr : (0 ≤ a ∧ a ≤ 2147483647) ∧ 0 < b ∧ b ≤ 2147483647) (hd : decode mi.2.1 pc = .ok (.irem, 1)) (hn : pc + 1 = n) (k : AWc l g mi d mc ms Q X cells slots h n ls (iv (a % b) :: st)) : AWc l g mi d mc ms Q X cells slots h pc ls (iv b :: iv a :: st) :=
  aw_irem n (a % b) hd hn (i_nz hr.2.1 hr.2.2) (by
    rw [i_div hr.1.1 hr.1.2 hr.2.1 hr.2.2, i_mul, i_sub]
    congr 1
    have := Int.mul_ediv_add_emod a b
    rw [Int.mul_comm] at this
    omega) k
theorem aw_dup (n : Nat) {v : Value} (hd : decode mi.2.1 pc = .ok (.dup, 1)) (hn : pc + 1 = n) (hc : v.category = 1) (k : AWc l g mi d mc ms Q X cells slots h n ls (v :: v :: st)) : AWc l g mi d mc ms Q X cells slots h pc ls (v :: st) := by
  intro p e s m args below meth c H locs lsA F B L
  subst hn
  refine lv_dup F.2.1 F.2.2.1 hd hc ?_
  exact k p e s m args below meth c H locs lsA F B L
theorem aw_pop (n : Nat) {v : Value} (hd : decode mi.2.1 pc = .ok (.pop, 1)) (hn : pc + 1 = n) (hc : v.category = 1) (k : AWc l g mi d mc ms Q X cells slots h n ls (st)) : AWc l g mi d mc ms Q X cells slots h pc ls (v :: st) := by
  intro p e s m args below meth c H locs lsA F B L
  subst hn
  refine lv_pop F.2.1 F.2.2.1 hd hc ?_
  exact k p e s m args below meth c H locs lsA F B L
theorem aw_dup_x1 (n : Nat) {v w : Value} (hd : decode mi.2.1 pc = .ok (.dup_x1, 1)) (hn : pc + 1 = n) (hc : v.category = 1) (hc2 : w.category = 1) (k : AWc l g mi d mc ms Q X cells slots h n ls (v :: w :: v :: st)) : AWc l g mi d mc ms Q X cells slots h pc ls (v :: w :: st) := by
  intro p e s m args below meth c H locs lsA F B L
  subst hn
  refine lv_dup_x1 F.2.1 F.2.2.1 hd hc hc2 ?_
  exact k p e s m args below meth c H locs lsA F B L
theorem aw_dup2 (n : Nat) {v w : Value} (hd : decode mi.2.1 pc = .ok (.dup2, 1)) (hn : pc + 1 = n) (hc : v.category = 1) (hc2 : w.category = 1) (k : AWc l g mi d mc ms Q X cells slots h n ls (v :: w :: v :: w :: st)) : AWc l g mi d mc ms Q X cells slots h pc ls (v :: w :: st) := by
  intro p e s m args below meth c H locs lsA F B L
  subst hn
  refine lv_dup2_11 F.2.1 F.2.2.1 hd hc hc2 ?_
  exact k p e s m args below meth c H locs lsA F B L
theorem aw_lcmp (n : Nat) {a b : Int} (hr : Rj a ∧ Rj b) (hd : decode mi.2.1 pc = .ok (.lcmp, 1)) (hn : pc + 1 = n) (k : AWc l g mi d mc ms Q X cells slots h n ls (iv (cmpI a b) :: st)) : AWc l g mi d mc ms Q X cells slots h pc ls (jv b :: jv a :: st) := by
  intro p e s m args below meth c H locs lsA F B L
  subst hn
  refine W.lcmp F.2.1 F.2.2.1 hd ?_
  have he : lg_cmp (Int64.ofInt a) (Int64.ofInt b) = Int32.ofInt (cmpI a b) := by
    unfold lg_cmp cmpI
    show (if Int64.ofInt b < Int64.ofInt a then (1 : Int32) else if Int64.ofInt a = Int64.ofInt b then 0 else -1) = _
    simp only [j_lt hr.2 hr.1, j_eq hr.1 hr.2]
    by_cases h1 : b < a
    · rw [if_pos h1, if_neg (by omega), if_neg (by omega)]; rfl
    · by_cases h2 : a = b
      · rw [if_neg h1, if_pos h2, if_neg (by omega), if_pos h2]; rfl
      · rw [if_neg h1, if_neg h2, if_pos (by omega)]; rfl
  rw [he]
  exact k p e s m args below meth c H locs lsA F B L
theorem aw_i2d (n : Nat) {a : Int32} (hd : decode mi.2.1 pc = .ok (.i2d, 1)) (hn : pc + 1 = n) (k : AWc l g mi d mc ms Q X cells slots h n ls (.double (FP.i2d a) :: st)) : AWc l g mi d mc ms Q X cells slots h pc ls (.int a :: st) := by
  intro p e s m args below meth c H locs lsA F B L
  subst hn
  refine lv_i2d F.2.1 F.2.2.1 hd ?_
  exact k p e s m args below meth c H locs lsA F B L
theorem aw_dcmpl (n : Nat) {a b : UInt64} (hd : decode mi.2.1 pc = .ok (.dcmp .l, 1)) (hn : pc + 1 = n) (k : AWc l g mi d mc ms Q X cells slots h n ls (.int (Op.cmpValue (FP.dcmp a b) .l) :: st)) : AWc l g mi d mc ms Q X cells slots h pc ls (.double b :: .double a :: st) := by
  intro p e s m args below meth c H locs lsA F B L
  subst hn
  refine lv_dcmp F.2.1 F.2.2.1 hd ?_
  exact k p e s m args below meth c H locs lsA F B L
theorem aw_ddiv (n : Nat) {a b : UInt64} (hd : decode mi.2.1 pc = .ok (.ddiv, 1)) (hn : pc + 1 = n) (hz : vf_n64 (FP.ddiv a b)) (k : AWc l g mi d mc ms Q X cells slots h n ls (.double (FP.ddiv a b) :: st)) : AWc l g mi d mc ms Q X cells slots h pc ls (.double b :: .double a :: st) := by
  intro p e s m args below meth c H locs lsA F B L
  subst hn
  exact lv_ddiv F.2.1 F.2.2.1 hd hz (k p e s m args below meth c H locs lsA F B L)
theorem aw_icmp_eq (t n : Nat) {a b : Int} {off : Int} (hr : Rg a ∧ Rg b) (hd : decode mi.2.1 pc = .ok (.if_icmp .eq off, 3)) (ht : (pc : Int) + off = (t : Int)) (hn : pc + 3 = n) (kt : a = b → AWc l g mi d mc ms Q X cells slots h t ls st) (kf : ¬ a = b → AWc l g mi d mc ms Q X cells slots h n ls st) : AWc l g mi d mc ms Q X cells slots h pc ls (iv b :: iv a :: st) := by
  intro p e s m args below meth c H locs lsA F B L
  subst hn
  exact lv_icmp_eq F.2.1 F.2.2.1 hd ht (fun q => kt ((i_eq hr.1 hr.2).mp q) p e s m args below meth c H locs lsA F B L) (fun q => kf (fun z => q ((i_eq hr.1 hr.2).mpr z)) p e s m args below meth c H locs lsA F B L)
theorem aw_if_eq (t n : Nat) {a : Int} {off : Int} (hr : Rg a) (hd : decode mi.2.1 pc = .ok (.ifCond .eq off, 3)) (ht : (pc : Int) + off = (t : Int)) (hn : pc + 3 = n) (kt : a = 0 → AWc l g mi d mc ms Q X cells slots h t ls st) (kf : ¬ a = 0 → AWc l g mi d mc ms Q X cells slots h n ls st) : AWc l g mi d mc ms Q X cells slots h pc ls (iv a :: st) := by
  intro p e s m args below meth c H locs lsA F B L
  subst hn
  exact lv_if_eq F.2.1 F.2.2.1 hd ht (fun q => kt (by rw [i_0] at q; exact (i_eq hr (show Rg 0 by decide)).mp q) p e s m args below meth c H locs lsA F B L) (fun q => kf (by rw [i_0] at q; exact fun z => q ((i_eq hr (show Rg 0 by decide)).mpr z)) p e s m args below meth c H locs lsA F B L)
theorem aw_icmp_ne (t n : Nat) {a b : Int} {off : Int} (hr : Rg a ∧ Rg b) (hd : decode mi.2.1 pc = .ok (.if_icmp .ne off, 3)) (ht : (pc : Int) + off = (t : Int)) (hn : pc + 3 = n) (kt : ¬ a = b → AWc l g mi d mc ms Q X cells slots h t ls st) (kf : a = b → AWc l g mi d mc ms Q X cells slots h n ls st) : AWc l g mi d mc ms Q X cells slots h pc ls (iv b :: iv a :: st) := by
  intro p e s m args below meth c H locs lsA F B L
  subst hn
  exact lv_icmp_ne F.2.1 F.2.2.1 hd ht (fun q => kt (fun z => q ((i_eq hr.1 hr.2).mpr z)) p e s m args below meth c H locs lsA F B L) (fun q => kf ((i_eq hr.1 hr.2).mp q) p e s m args below meth c H locs lsA F B L)
theorem aw_if_ne (t n : Nat) {a : Int} {off : Int} (hr : Rg a) (hd : decode mi.2.1 pc = .ok (.ifCond .ne off, 3)) (ht : (pc : Int) + off = (t : Int)) (hn : pc + 3 = n) (kt : ¬ a = 0 → AWc l g mi d mc ms Q X cells slots h t ls st) (kf : a = 0 → AWc l g mi d mc ms Q X cells slots h n ls st) : AWc l g mi d mc ms Q X cells slots h pc ls (iv a :: st) := by
  intro p e s m args below meth c H locs lsA F B L
  subst hn
  exact lv_if_ne F.2.1 F.2.2.1 hd ht (fun q => kt (by rw [i_0] at q; exact fun z => q ((i_eq hr (show Rg 0 by decide)).mpr z)) p e s m args below meth c H locs lsA F B L) (fun q => kf (by rw [i_0] at q; exact (i_eq hr (show Rg 0 by decide)).mp q) p e s m args below meth c H locs lsA F B L)
theorem aw_icmp_lt (t n : Nat) {a b : Int} {off : Int} (hr : Rg a ∧ Rg b) (hd : decode mi.2.1 pc = .ok (.if_icmp .lt off, 3)) (ht : (pc : Int) + off = (t : Int)) (hn : pc + 3 = n) (kt : a < b → AWc l g mi d mc ms Q X cells slots h t ls st) (kf : b ≤ a → AWc l g mi d mc ms Q X cells slots h n ls st) : AWc l g mi d mc ms Q X cells slots h pc ls (iv b :: iv a :: st) := by
  intro p e s m args below meth c H locs lsA F B L
  subst hn
  exact lv_icmp_lt F.2.1 F.2.2.1 hd ht (fun q => kt ((i_lt hr.1 hr.2).mp q) p e s m args below meth c H locs lsA F B L) (fun q => kf (Int.not_lt.mp (fun z => q ((i_lt hr.1 hr.2).mpr z))) p e s m args below meth c H locs lsA F B L)
theorem aw_if_lt (t n : Nat) {a : Int} {off : Int} (hr : Rg a) (hd : decode mi.2.1 pc = .ok (.ifCond .lt off, 3)) (ht : (pc : Int) + off = (t : Int)) (hn : pc + 3 = n) (kt : a < 0 → AWc l g mi d mc ms Q X cells slots h t ls st) (kf : 0 ≤ a → AWc l g mi d mc ms Q X cells slots h n ls st) : AWc l g mi d mc ms Q X cells slots h pc ls (iv a :: st) := by
  intro p e s m args below meth c H locs lsA F B L
  subst hn
  exact lv_if_lt F.2.1 F.2.2.1 hd ht (fun q => kt (by rw [i_0] at q; exact (i_lt hr (show Rg 0 by decide)).mp q) p e s m args below meth c H locs lsA F B L) (fun q => kf (by rw [i_0] at q; exact Int.not_lt.mp (fun z => q ((i_lt hr (show Rg 0 by decide)).mpr z))) p e s m args below meth c H locs lsA F B L)
theorem aw_icmp_ge (t n : Nat) {a b : Int} {off : Int} (hr : Rg a ∧ Rg b) (hd : decode mi.2.1 pc = .ok (.if_icmp .ge off, 3)) (ht : (pc : Int) + off = (t : Int)) (hn : pc + 3 = n) (kt : b ≤ a → AWc l g mi d mc ms Q X cells slots h t ls st) (kf : a < b → AWc l g mi d mc ms Q X cells slots h n ls st) : AWc l g mi d mc ms Q X cells slots h pc ls (iv b :: iv a :: st) := by
  intro p e s m args below meth c H locs lsA F B L
  subst hn
  exact lv_icmp_ge F.2.1 F.2.2.1 hd ht (fun q => kt ((i_le hr.2 hr.1).mp q) p e s m args below meth c H locs lsA F B L) (fun q => kf (Int.not_le.mp (fun z => q ((i_le hr.2 hr.1).mpr z))) p e s m args below meth c H locs lsA F B L)
theorem aw_if_ge (t n : Nat) {a : Int} {off : Int} (hr : Rg a) (hd : decode mi.2.1 pc = .ok (.ifCond .ge off, 3)) (ht : (pc : Int) + off = (t : Int)) (hn : pc + 3 = n) (kt : 0 ≤ a → AWc l g mi d mc ms Q X cells slots h t ls st) (kf : a < 0 → AWc l g mi d mc ms Q X cells slots h n ls st) : AWc l g mi d mc ms Q X cells slots h pc ls (iv a :: st) := by
  intro p e s m args below meth c H locs lsA F B L
  subst hn
  exact lv_if_ge F.2.1 F.2.2.1 hd ht (fun q => kt (by rw [i_0] at q; exact (i_le (show Rg 0 by decide) hr).mp q) p e s m args below meth c H locs lsA F B L) (fun q => kf (by rw [i_0] at q; exact Int.not_le.mp (fun z => q ((i_le (show Rg 0 by decide) hr).mpr z))) p e s m args below meth c H locs lsA F B L)
theorem aw_icmp_gt (t n : Nat) {a b : Int} {off : Int} (hr : Rg a ∧ Rg b) (hd : decode mi.2.1 pc = .ok (.if_icmp .gt off, 3)) (ht : (pc : Int) + off = (t : Int)) (hn : pc + 3 = n) (kt : b < a → AWc l g mi d mc ms Q X cells slots h t ls st) (kf : a ≤ b → AWc l g mi d mc ms Q X cells slots h n ls st) : AWc l g mi d mc ms Q X cells slots h pc ls (iv b :: iv a :: st) := by
  intro p e s m args below meth c H locs lsA F B L
  subst hn
  exact lv_icmp_gt F.2.1 F.2.2.1 hd ht (fun q => kt ((i_lt hr.2 hr.1).mp q) p e s m args below meth c H locs lsA F B L) (fun q => kf (Int.not_lt.mp (fun z => q ((i_lt hr.2 hr.1).mpr z))) p e s m args below meth c H locs lsA F B L)
theorem aw_if_gt (t n : Nat) {a : Int} {off : Int} (hr : Rg a) (hd : decode mi.2.1 pc = .ok (.ifCond .gt off, 3)) (ht : (pc : Int) + off = (t : Int)) (hn : pc + 3 = n) (kt : 0 < a → AWc l g mi d mc ms Q X cells slots h t ls st) (kf : a ≤ 0 → AWc l g mi d mc ms Q X cells slots h n ls st) : AWc l g mi d mc ms Q X cells slots h pc ls (iv a :: st) := by
  intro p e s m args below meth c H locs lsA F B L
  subst hn
  exact lv_if_gt F.2.1 F.2.2.1 hd ht (fun q => kt (by rw [i_0] at q; exact (i_lt (show Rg 0 by decide) hr).mp q) p e s m args below meth c H locs lsA F B L) (fun q => kf (by rw [i_0] at q; exact Int.not_lt.mp (fun z => q ((i_lt (show Rg 0 by decide) hr).mpr z))) p e s m args below meth c H locs lsA F B L)
theorem aw_icmp_le (t n : Nat) {a b : Int} {off : Int} (hr : Rg a ∧ Rg b) (hd : decode mi.2.1 pc = .ok (.if_icmp .le off, 3)) (ht : (pc : Int) + off = (t : Int)) (hn : pc + 3 = n) (kt : a ≤ b → AWc l g mi d mc ms Q X cells slots h t ls st) (kf : b < a → AWc l g mi d mc ms Q X cells slots h n ls st) : AWc l g mi d mc ms Q X cells slots h pc ls (iv b :: iv a :: st) := by
  intro p e s m args below meth c H locs lsA F B L
  subst hn
  exact lv_icmp_le F.2.1 F.2.2.1 hd ht (fun q => kt ((i_le hr.1 hr.2).mp q) p e s m args below meth c H locs lsA F B L) (fun q => kf (Int.not_le.mp (fun z => q ((i_le hr.1 hr.2).mpr z))) p e s m args below meth c H locs lsA F B L)
theorem aw_if_le (t n : Nat) {a : Int} {off : Int} (hr : Rg a) (hd : decode mi.2.1 pc = .ok (.ifCond .le off, 3)) (ht : (pc : Int) + off = (t : Int)) (hn : pc + 3 = n) (kt : a ≤ 0 → AWc l g mi d mc ms Q X cells slots h t ls st) (kf : 0 < a → AWc l g mi d mc ms Q X cells slots h n ls st) : AWc l g mi d mc ms Q X cells slots h pc ls (iv a :: st) := by
  intro p e s m args below meth c H locs lsA F B L
  subst hn
  exact lv_if_le F.2.1 F.2.2.1 hd ht (fun q => kt (by rw [i_0] at q; exact (i_le hr (show Rg 0 by decide)).mp q) p e s m args below meth c H locs lsA F B L) (fun q => kf (by rw [i_0] at q; exact Int.not_le.mp (fun z => q ((i_le hr (show Rg 0 by decide)).mpr z))) p e s m args below meth c H locs lsA F B L)
/-- a truth value -/
theorem aw_if_eqB (t n : Nat) {b : Prop} {off : Int} (hd : decode mi.2.1 pc = .ok (.ifCond .eq off, 3)) (ht : (pc : Int) + off = (t : Int)) (hn : pc + 3 = n) (kt : ¬ b → AWc l g mi d mc ms Q X cells slots h t ls st) (kf : b → AWc l g mi d mc ms Q X cells slots h n ls st) : AWc l g mi d mc ms Q X cells slots h pc ls (iv (bI b) :: st) :=
  aw_if_eq t n (by have := bI_rg b; omega) hd ht hn (fun q => kt (bI_0.mp q)) (fun q => kf (bI_1.mp (by rcases bI_c b with z | z; exact absurd z q; exact z)))
theorem aw_if_neB (t n : Nat) {b : Prop} {off : Int} (hd : decode mi.2.1 pc = .ok (.ifCond .ne off, 3)) (ht : (pc : Int) + off = (t : Int)) (hn : pc + 3 = n) (kt : b → AWc l g mi d mc ms Q X cells slots h t ls st) (kf : ¬ b → AWc l g mi d mc ms Q X cells slots h n ls st) : AWc l g mi d mc ms Q X cells slots h pc ls (iv (bI b) :: st) :=
  aw_if_ne t n (by have := bI_rg b; omega) hd ht hn (fun q => kt (bI_1.mp (by rcases bI_c b with z | z; exact absurd z q; exact z))) (fun q => kf (bI_0.mp q))
/-- a compare of longs and its test -/
theorem aw_if_ltC (t n : Nat) {a b : Int} {off : Int} (hd : decode mi.2.1 pc = .ok (.ifCond .lt off, 3)) (ht : (pc : Int) + off = (t : Int)) (hn : pc + 3 = n) (kt : a < b → AWc l g mi d mc ms Q X cells slots h t ls st) (kf : b ≤ a → AWc l g mi d mc ms Q X cells slots h n ls st) : AWc l g mi d mc ms Q X cells slots h pc ls (iv (cmpI a b) :: st) :=
  aw_if_lt t n (by have := cmpI_rg a b; omega) hd ht hn (fun q => kt (cmpI_lt.mp q)) (fun q => kf (by have := @cmpI_lt a b; omega))
theorem aw_if_gtC (t n : Nat) {a b : Int} {off : Int} (hd : decode mi.2.1 pc = .ok (.ifCond .gt off, 3)) (ht : (pc : Int) + off = (t : Int)) (hn : pc + 3 = n) (kt : b < a → AWc l g mi d mc ms Q X cells slots h t ls st) (kf : a ≤ b → AWc l g mi d mc ms Q X cells slots h n ls st) : AWc l g mi d mc ms Q X cells slots h pc ls (iv (cmpI a b) :: st) :=
  aw_if_gt t n (by have := cmpI_rg a b; omega) hd ht hn (fun q => kt (by have := @cmpI_lt a b; have := @cmpI_eq a b; omega)) (fun q => kf (by have := @cmpI_lt a b; have := @cmpI_eq a b; omega))
theorem aw_if_eqC (t n : Nat) {a b : Int} {off : Int} (hd : decode mi.2.1 pc = .ok (.ifCond .eq off, 3)) (ht : (pc : Int) + off = (t : Int)) (hn : pc + 3 = n) (kt : a = b → AWc l g mi d mc ms Q X cells slots h t ls st) (kf : ¬ a = b → AWc l g mi d mc ms Q X cells slots h n ls st) : AWc l g mi d mc ms Q X cells slots h pc ls (iv (cmpI a b) :: st) :=
  aw_if_eq t n (by have := cmpI_rg a b; omega) hd ht hn (fun q => kt (cmpI_eq.mp q)) (fun q => kf (fun z => q (cmpI_eq.mpr z)))
theorem aw_if_neC (t n : Nat) {a b : Int} {off : Int} (hd : decode mi.2.1 pc = .ok (.ifCond .ne off, 3)) (ht : (pc : Int) + off = (t : Int)) (hn : pc + 3 = n) (kt : ¬ a = b → AWc l g mi d mc ms Q X cells slots h t ls st) (kf : a = b → AWc l g mi d mc ms Q X cells slots h n ls st) : AWc l g mi d mc ms Q X cells slots h pc ls (iv (cmpI a b) :: st) :=
  aw_if_ne t n (by have := cmpI_rg a b; omega) hd ht hn (fun q => kt (fun z => q (cmpI_eq.mpr z))) (fun q => kf (cmpI_eq.mp q))
theorem aw_goto (t : Nat) {off : Int} (hd : decode mi.2.1 pc = .ok (.goto off, 3)) (ht : (pc : Int) + off = (t : Int)) (k : AWc l g mi d mc ms Q X cells slots h t ls st) : AWc l g mi d mc ms Q X cells slots h pc ls st := by
  intro p e s m args below meth c H locs lsA F B L
  exact lv_goto F.2.1 F.2.2.1 hd ht (k p e s m args below meth c H locs lsA F B L)
theorem aw_ifnonnull (t : Nat) {x : Nat} {off : Int} (hd : decode mi.2.1 pc = .ok (.ifnonnull off, 3)) (ht : (pc : Int) + off = (t : Int)) (k : AWc l g mi d mc ms Q X cells slots h t ls st) : AWc l g mi d mc ms Q X cells slots h pc ls (.ref x :: st) := by
  intro p e s m args below meth c H locs lsA F B L
  exact lv_ifnonnull F.2.1 F.2.2.1 hd ht (k p e s m args below meth c H locs lsA F B L)
theorem aw_ifnull (n : Nat) {x : Nat} {off : Int} (hd : decode mi.2.1 pc = .ok (.ifnull off, 3)) (hn : pc + 3 = n) (k : AWc l g mi d mc ms Q X cells slots h n ls st) : AWc l g mi d mc ms Q X cells slots h pc ls (.ref x :: st) := by
  intro p e s m args below meth c H locs lsA F B L
  subst hn
  exact lv_ifnull F.2.1 F.2.2.1 hd (k p e s m args below meth c H locs lsA F B L)
theorem aw_ifnonnullN (n : Nat) {off : Int} (hd : decode mi.2.1 pc = .ok (.ifnonnull off, 3)) (hn : pc + 3 = n) (k : AWc l g mi d mc ms Q X cells slots h n ls st) : AWc l g mi d mc ms Q X cells slots h pc ls (.null :: st) := by
  intro p e s m args below meth c H locs lsA F B L
  subst hn
  exact lv_ifnonnullN F.2.1 F.2.2.1 hd (k p e s m args below meth c H locs lsA F B L)
theorem aw_ifnullN (t : Nat) {off : Int} (hd : decode mi.2.1 pc = .ok (.ifnull off, 3)) (ht : (pc : Int) + off = (t : Int)) (k : AWc l g mi d mc ms Q X cells slots h t ls st) : AWc l g mi d mc ms Q X cells slots h pc ls (.null :: st) := by
  intro p e s m args below meth c H locs lsA F B L
  exact lv_ifnullN F.2.1 F.2.2.1 hd ht (k p e s m args below meth c H locs lsA F B L)
theorem aw_acmp_ne (t n : Nat) {x y : Option Nat} {off : Int} (hd : decode mi.2.1 pc = .ok (.if_acmp .ne off, 3)) (ht : (pc : Int) + off = (t : Int)) (hn : pc + 3 = n) (kt : ¬ x = y → AWc l g mi d mc ms Q X cells slots h t ls st) (kf : x = y → AWc l g mi d mc ms Q X cells slots h n ls st) : AWc l g mi d mc ms Q X cells slots h pc ls (va_rf y :: va_rf x :: st) := by
  intro p e s m args below meth c H locs lsA F B L
  subst hn
  exact lv_acmp_ne F.2.1 F.2.2.1 hd ht (fun q => kt q p e s m args below meth c H locs lsA F B L) (fun q => kf q p e s m args below meth c H locs lsA F B L)
theorem aw_acmp_eq (t n : Nat) {x y : Option Nat} {off : Int} (hd : decode mi.2.1 pc = .ok (.if_acmp .eq off, 3)) (ht : (pc : Int) + off = (t : Int)) (hn : pc + 3 = n) (kt : x = y → AWc l g mi d mc ms Q X cells slots h t ls st) (kf : ¬ x = y → AWc l g mi d mc ms Q X cells slots h n ls st) : AWc l g mi d mc ms Q X cells slots h pc ls (va_rf y :: va_rf x :: st) := by
  intro p e s m args below meth c H locs lsA F B L
  subst hn
  exact lv_acmp_eq F.2.1 F.2.2.1 hd ht (fun q => kt q p e s m args below meth c H locs lsA F B L) (fun q => kf q p e s m args below meth c H locs lsA F B L)
theorem aw_tableOut (t : Nat) {z dflt lo hi : Int} {offs : Array Int} {len : Nat} (hr : Rg z) (hz : z < lo ∨ hi < z) (hd : decode mi.2.1 pc = .ok (.tableswitch dflt lo hi offs, len)) (ht : (pc : Int) + dflt = (t : Int)) (k : AWc l g mi d mc ms Q X cells slots h t ls st) : AWc l g mi d mc ms Q X cells slots h pc ls (iv z :: st) := by
  intro p e s m args below meth c H locs lsA F B L
  exact lv_tableOut F.2.1 F.2.2.1 hd (by rw [i_to hr]; exact hz) ht (k p e s m args below meth c H locs lsA F B L)
theorem aw_tableIn (t : Nat) {z dflt lo hi off : Int} {offs : Array Int} {len : Nat} (hr : Rg z) (h1 : lo ≤ z) (h2 : z ≤ hi) (ho : offs[(z - lo).toNat]? = some off) (hd : decode mi.2.1 pc = .ok (.tableswitch dflt lo hi offs, len)) (ht : (pc : Int) + off = (t : Int)) (k : AWc l g mi d mc ms Q X cells slots h t ls st) : AWc l g mi d mc ms Q X cells slots h pc ls (iv z :: st) := by
  intro p e s m args below meth c H locs lsA F B L
  exact lv_tableIn F.2.1 F.2.2.1 hd (by rw [i_to hr]; omega) (by rw [i_to hr]; omega) (by rw [i_to hr]; exact ho) ht (k p e s m args below meth c H locs lsA F B L)
theorem aw_lookup (t : Nat) {z dflt off : Int} {ps : Array (Int × Int)} {len : Nat} (hr : Rg z) (hp : (ps.toList.zip (ps.toList.drop 1)).all (fun (a, next) => a.1 < next.1) = true) (ho : Op.lookupswitch.offset ps.toList dflt z = off) (hd : decode mi.2.1 pc = .ok (.lookupswitch dflt ps, len)) (ht : (pc : Int) + off = (t : Int)) (k : AWc l g mi d mc ms Q X cells slots h t ls st) : AWc l g mi d mc ms Q X cells slots h pc ls (iv z :: st) := by
  intro p e s m args below meth c H locs lsA F B L
  exact lv_lookup F.2.1 F.2.2.1 hd hp (by rw [i_to hr]; exact ho) ht (k p e s m args below meth c H locs lsA F B L)
/-! ends -/
theorem aw_iret {z : Int} (hq : Q (some (iv z)) h) (hr : mi.2.2.2.1 = some .int) (hd : decode mi.2.1 pc = .ok (.ireturn, 1)) (hc : cells ≤ mc) (hs : slots ≤ ms) : AWc l g mi d mc ms Q X cells slots h pc ls [iv z] := by
  intro p e s m args below meth c H locs lsA F B L
  refine vx_ret (W.widen hc hs ?_)
  exact W.iret F.2.1 F.2.2.1 (F.2.2.2.1.trans hr) (fun t ht hW => ⟨_, h, rfl, hq, by rw [ht]; exact B.2.2.1, B.2.2.2.F ht⟩) B.2.2.2.2.2 hd F.2.2.2.2.2.2.2.1
theorem aw_zret {z : Int} {ty : FieldType} (hq : Q (some (iv z)) h) (hr : mi.2.2.2.1 = some ty) (hz : narrow ty (iv z) = iv z) (hd : decode mi.2.1 pc = .ok (.ireturn, 1)) (hc : cells ≤ mc) (hs : slots ≤ ms) : AWc l g mi d mc ms Q X cells slots h pc ls [iv z] := by
  intro p e s m args below meth c H locs lsA F B L
  refine vx_ret (W.widen hc hs ?_)
  exact W.zret F.2.1 F.2.2.1 (F.2.2.2.1.trans hr) hz (fun t ht hW => ⟨_, h, rfl, hq, by rw [ht]; exact B.2.2.1, B.2.2.2.F ht⟩) B.2.2.2.2.2 hd F.2.2.2.2.2.2.2.1
theorem aw_vret (hq : Q none h) (hr : mi.2.2.2.1 = none) (hd : decode mi.2.1 pc = .ok (.return_, 1)) (hc : cells ≤ mc) (hs : slots ≤ ms) : AWc l g mi d mc ms Q X cells slots h pc ls [] := by
  intro p e s m args below meth c H locs lsA F B L
  refine vx_ret (W.widen hc hs ?_)
  exact W.vret F.2.1 F.2.2.1 (F.2.2.2.1.trans hr) (fun t ht hW => ⟨_, h, rfl, hq, by rw [ht]; exact B.2.2.1, B.2.2.2.F ht⟩) B.2.2.2.2.2 hd F.2.2.2.2.2.2.2.1
theorem aw_lret {z : Int} (hq : Q (some (jv z)) h) (hr : mi.2.2.2.1 = some .long) (hd : decode mi.2.1 pc = .ok (.lreturn, 1)) (hc : cells ≤ mc) (hs : slots ≤ ms) : AWc l g mi d mc ms Q X cells slots h pc ls [jv z] := by
  intro p e s m args below meth c H locs lsA F B L
  refine vx_ret (W.widen hc hs ?_)
  exact W.lret F.2.1 F.2.2.1 (F.2.2.2.1.trans hr) (fun t ht hW => ⟨_, h, rfl, hq, by rw [ht]; exact B.2.2.1, B.2.2.2.F ht⟩) B.2.2.2.2.2 hd F.2.2.2.2.2.2.2.1
theorem aw_dret {z : UInt64} (hq : Q (some (.double z)) h) (hr : mi.2.2.2.1 = some .double) (hd : decode mi.2.1 pc = .ok (.dreturn, 1)) (hc : cells ≤ mc) (hs : slots ≤ ms) : AWc l g mi d mc ms Q X cells slots h pc ls [.double z] := by
  intro p e s m args below meth c H locs lsA F B L
  refine vx_ret (W.widen hc hs ?_)
  exact W.dret F.2.1 F.2.2.1 (F.2.2.2.1.trans hr) (fun t ht hW => ⟨_, h, rfl, hq, by rw [ht]; exact B.2.2.1, B.2.2.2.F ht⟩) B.2.2.2.2.2 hd F.2.2.2.2.2.2.2.1
theorem aw_aret {v : Value} {rt : FieldType} (hq : Q (some v) h) (hr : mi.2.2.2.1 = some rt) (hrt : (∃ n, rt = .object n) ∨ ∃ t, rt = .array t) (hv : v = .null ∨ ∃ a, v = .ref a) (hd : decode mi.2.1 pc = .ok (.areturn, 1)) (hc : cells ≤ mc) (hs : slots ≤ ms) : AWc l g mi d mc ms Q X cells slots h pc ls [v] := by
  intro p e s m args below meth c H locs lsA F B L
  refine vx_ret (W.widen hc hs ?_)
  exact W.aret F.2.1 F.2.2.1 (F.2.2.2.1.trans hr) hrt hv (fun t ht hW => ⟨_, h, rfl, hq, by rw [ht]; exact B.2.2.1, B.2.2.2.F ht⟩) B.2.2.2.2.2 hd F.2.2.2.2.2.2.2.1
end AROWS
theorem c2_ne {a : Option Value} {w : Value} (h : c2 a = false) (e : a = some w) : ¬ w.category = 2 := by
  subst e
  intro z
  simp [c2, z] at h
theorem as_0 {a0 : Option Value} {r : List (Option Value)} {v : Value} : AS 0 v (a0 :: r) (some v :: r) := as1 [] a0 r v 0 rfl (fun w h _ => by simp at h)
theorem as2_0 {a0 b : Option Value} {r : List (Option Value)} {v : Value} : AS2 0 v (a0 :: b :: r) (some v :: none :: r) := as2 [] a0 b r v 0 rfl (fun w h _ => by simp at h)
theorem as_1 {a0 a1 : Option Value} {r : List (Option Value)} {v : Value} (hc : c2 a0 = false) : AS 1 v (a0 :: a1 :: r) (a0 :: some v :: r) := as1 [a0] a1 r v 1 rfl (fun w h _ => c2_ne hc (by simpa using h))
theorem as2_1 {a0 a1 b : Option Value} {r : List (Option Value)} {v : Value} (hc : c2 a0 = false) : AS2 1 v (a0 :: a1 :: b :: r) (a0 :: some v :: none :: r) := as2 [a0] a1 b r v 1 rfl (fun w h _ => c2_ne hc (by simpa using h))
theorem as_2 {a0 a1 a2 : Option Value} {r : List (Option Value)} {v : Value} (hc : c2 a1 = false) : AS 2 v (a0 :: a1 :: a2 :: r) (a0 :: a1 :: some v :: r) := as1 [a0, a1] a2 r v 2 rfl (fun w h _ => c2_ne hc (by simpa using h))
theorem as2_2 {a0 a1 a2 b : Option Value} {r : List (Option Value)} {v : Value} (hc : c2 a1 = false) : AS2 2 v (a0 :: a1 :: a2 :: b :: r) (a0 :: a1 :: some v :: none :: r) := as2 [a0, a1] a2 b r v 2 rfl (fun w h _ => c2_ne hc (by simpa using h))
theorem as_3 {a0 a1 a2 a3 : Option Value} {r : List (Option Value)} {v : Value} (hc : c2 a2 = false) : AS 3 v (a0 :: a1 :: a2 :: a3 :: r) (a0 :: a1 :: a2 :: some v :: r) := as1 [a0, a1, a2] a3 r v 3 rfl (fun w h _ => c2_ne hc (by simpa using h))
theorem as2_3 {a0 a1 a2 a3 b : Option Value} {r : List (Option Value)} {v : Value} (hc : c2 a2 = false) : AS2 3 v (a0 :: a1 :: a2 :: a3 :: b :: r) (a0 :: a1 :: a2 :: some v :: none :: r) := as2 [a0, a1, a2] a3 b r v 3 rfl (fun w h _ => c2_ne hc (by simpa using h))
theorem as_4 {a0 a1 a2 a3 a4 : Option Value} {r : List (Option Value)} {v : Value} (hc : c2 a3 = false) : AS 4 v (a0 :: a1 :: a2 :: a3 :: a4 :: r) (a0 :: a1 :: a2 :: a3 :: some v :: r) := as1 [a0, a1, a2, a3] a4 r v 4 rfl (fun w h _ => c2_ne hc (by simpa using h))
theorem as2_4 {a0 a1 a2 a3 a4 b : Option Value} {r : List (Option Value)} {v : Value} (hc : c2 a3 = false) : AS2 4 v (a0 :: a1 :: a2 :: a3 :: a4 :: b :: r) (a0 :: a1 :: a2 :: a3 :: some v :: none :: r) := as2 [a0, a1, a2, a3] a4 b r v 4 rfl (fun w h _ => c2_ne hc (by simpa using h))
theorem as_5 {a0 a1 a2 a3 a4 a5 : Option Value} {r : List (Option Value)} {v : Value} (hc : c2 a4 = false) : AS 5 v (a0 :: a1 :: a2 :: a3 :: a4 :: a5 :: r) (a0 :: a1 :: a2 :: a3 :: a4 :: some v :: r) := as1 [a0, a1, a2, a3, a4] a5 r v 5 rfl (fun w h _ => c2_ne hc (by simpa using h))
theorem as2_5 {a0 a1 a2 a3 a4 a5 b : Option Value} {r : List (Option Value)} {v : Value} (hc : c2 a4 = false) : AS2 5 v (a0 :: a1 :: a2 :: a3 :: a4 :: a5 :: b :: r) (a0 :: a1 :: a2 :: a3 :: a4 :: some v :: none :: r) := as2 [a0, a1, a2, a3, a4] a5 b r v 5 rfl (fun w h _ => c2_ne hc (by simpa using h))
theorem as_6 {a0 a1 a2 a3 a4 a5 a6 : Option Value} {r : List (Option Value)} {v : Value} (hc : c2 a5 = false) : AS 6 v (a0 :: a1 :: a2 :: a3 :: a4 :: a5 :: a6 :: r) (a0 :: a1 :: a2 :: a3 :: a4 :: a5 :: some v :: r) := as1 [a0, a1, a2, a3, a4, a5] a6 r v 6 rfl (fun w h _ => c2_ne hc (by simpa using h))
theorem as2_6 {a0 a1 a2 a3 a4 a5 a6 b : Option Value} {r : List (Option Value)} {v : Value} (hc : c2 a5 = false) : AS2 6 v (a0 :: a1 :: a2 :: a3 :: a4 :: a5 :: a6 :: b :: r) (a0 :: a1 :: a2 :: a3 :: a4 :: a5 :: some v :: none :: r) := as2 [a0, a1, a2, a3, a4, a5] a6 b r v 6 rfl (fun w h _ => c2_ne hc (by simpa using h))
theorem as_7 {a0 a1 a2 a3 a4 a5 a6 a7 : Option Value} {r : List (Option Value)} {v : Value} (hc : c2 a6 = false) : AS 7 v (a0 :: a1 :: a2 :: a3 :: a4 :: a5 :: a6 :: a7 :: r) (a0 :: a1 :: a2 :: a3 :: a4 :: a5 :: a6 :: some v :: r) := as1 [a0, a1, a2, a3, a4, a5, a6] a7 r v 7 rfl (fun w h _ => c2_ne hc (by simpa using h))
theorem as2_7 {a0 a1 a2 a3 a4 a5 a6 a7 b : Option Value} {r : List (Option Value)} {v : Value} (hc : c2 a6 = false) : AS2 7 v (a0 :: a1 :: a2 :: a3 :: a4 :: a5 :: a6 :: a7 :: b :: r) (a0 :: a1 :: a2 :: a3 :: a4 :: a5 :: a6 :: some v :: none :: r) := as2 [a0, a1, a2, a3, a4, a5, a6] a7 b r v 7 rfl (fun w h _ => c2_ne hc (by simpa using h))
theorem as_8 {a0 a1 a2 a3 a4 a5 a6 a7 a8 : Option Value} {r : List (Option Value)} {v : Value} (hc : c2 a7 = false) : AS 8 v (a0 :: a1 :: a2 :: a3 :: a4 :: a5 :: a6 :: a7 :: a8 :: r) (a0 :: a1 :: a2 :: a3 :: a4 :: a5 :: a6 :: a7 :: some v :: r) := as1 [a0, a1, a2, a3, a4, a5, a6, a7] a8 r v 8 rfl (fun w h _ => c2_ne hc (by simpa using h))
theorem as2_8 {a0 a1 a2 a3 a4 a5 a6 a7 a8 b : Option Value} {r : List (Option Value)} {v : Value} (hc : c2 a7 = false) : AS2 8 v (a0 :: a1 :: a2 :: a3 :: a4 :: a5 :: a6 :: a7 :: a8 :: b :: r) (a0 :: a1 :: a2 :: a3 :: a4 :: a5 :: a6 :: a7 :: some v :: none :: r) := as2 [a0, a1, a2, a3, a4, a5, a6, a7] a8 b r v 8 rfl (fun w h _ => c2_ne hc (by simpa using h))
theorem as_9 {a0 a1 a2 a3 a4 a5 a6 a7 a8 a9 : Option Value} {r : List (Option Value)} {v : Value} (hc : c2 a8 = false) : AS 9 v (a0 :: a1 :: a2 :: a3 :: a4 :: a5 :: a6 :: a7 :: a8 :: a9 :: r) (a0 :: a1 :: a2 :: a3 :: a4 :: a5 :: a6 :: a7 :: a8 :: some v :: r) := as1 [a0, a1, a2, a3, a4, a5, a6, a7, a8] a9 r v 9 rfl (fun w h _ => c2_ne hc (by simpa using h))
theorem as2_9 {a0 a1 a2 a3 a4 a5 a6 a7 a8 a9 b : Option Value} {r : List (Option Value)} {v : Value} (hc : c2 a8 = false) : AS2 9 v (a0 :: a1 :: a2 :: a3 :: a4 :: a5 :: a6 :: a7 :: a8 :: a9 :: b :: r) (a0 :: a1 :: a2 :: a3 :: a4 :: a5 :: a6 :: a7 :: a8 :: some v :: none :: r) := as2 [a0, a1, a2, a3, a4, a5, a6, a7, a8] a9 b r v 9 rfl (fun w h _ => c2_ne hc (by simpa using h))
theorem as_10 {a0 a1 a2 a3 a4 a5 a6 a7 a8 a9 a10 : Option Value} {r : List (Option Value)} {v : Value} (hc : c2 a9 = false) : AS 10 v (a0 :: a1 :: a2 :: a3 :: a4 :: a5 :: a6 :: a7 :: a8 :: a9 :: a10 :: r) (a0 :: a1 :: a2 :: a3 :: a4 :: a5 :: a6 :: a7 :: a8 :: a9 :: some v :: r) := as1 [a0, a1, a2, a3, a4, a5, a6, a7, a8, a9] a10 r v 10 rfl (fun w h _ => c2_ne hc (by simpa using h))
theorem as2_10 {a0 a1 a2 a3 a4 a5 a6 a7 a8 a9 a10 b : Option Value} {r : List (Option Value)} {v : Value} (hc : c2 a9 = false) : AS2 10 v (a0 :: a1 :: a2 :: a3 :: a4 :: a5 :: a6 :: a7 :: a8 :: a9 :: a10 :: b :: r) (a0 :: a1 :: a2 :: a3 :: a4 :: a5 :: a6 :: a7 :: a8 :: a9 :: some v :: none :: r) := as2 [a0, a1, a2, a3, a4, a5, a6, a7, a8, a9] a10 b r v 10 rfl (fun w h _ => c2_ne hc (by simpa using h))
theorem as_11 {a0 a1 a2 a3 a4 a5 a6 a7 a8 a9 a10 a11 : Option Value} {r : List (Option Value)} {v : Value} (hc : c2 a10 = false) : AS 11 v (a0 :: a1 :: a2 :: a3 :: a4 :: a5 :: a6 :: a7 :: a8 :: a9 :: a10 :: a11 :: r) (a0 :: a1 :: a2 :: a3 :: a4 :: a5 :: a6 :: a7 :: a8 :: a9 :: a10 :: some v :: r) := as1 [a0, a1, a2, a3, a4, a5, a6, a7, a8, a9, a10] a11 r v 11 rfl (fun w h _ => c2_ne hc (by simpa using h))
theorem as2_11 {a0 a1 a2 a3 a4 a5 a6 a7 a8 a9 a10 a11 b : Option Value} {r : List (Option Value)} {v : Value} (hc : c2 a10 = false) : AS2 11 v (a0 :: a1 :: a2 :: a3 :: a4 :: a5 :: a6 :: a7 :: a8 :: a9 :: a10 :: a11 :: b :: r) (a0 :: a1 :: a2 :: a3 :: a4 :: a5 :: a6 :: a7 :: a8 :: a9 :: a10 :: some v :: none :: r) := as2 [a0, a1, a2, a3, a4, a5, a6, a7, a8, a9, a10] a11 b r v 11 rfl (fun w h _ => c2_ne hc (by simpa using h))
theorem as_12 {a0 a1 a2 a3 a4 a5 a6 a7 a8 a9 a10 a11 a12 : Option Value} {r : List (Option Value)} {v : Value} (hc : c2 a11 = false) : AS 12 v (a0 :: a1 :: a2 :: a3 :: a4 :: a5 :: a6 :: a7 :: a8 :: a9 :: a10 :: a11 :: a12 :: r) (a0 :: a1 :: a2 :: a3 :: a4 :: a5 :: a6 :: a7 :: a8 :: a9 :: a10 :: a11 :: some v :: r) := as1 [a0, a1, a2, a3, a4, a5, a6, a7, a8, a9, a10, a11] a12 r v 12 rfl (fun w h _ => c2_ne hc (by simpa using h))
theorem as2_12 {a0 a1 a2 a3 a4 a5 a6 a7 a8 a9 a10 a11 a12 b : Option Value} {r : List (Option Value)} {v : Value} (hc : c2 a11 = false) : AS2 12 v (a0 :: a1 :: a2 :: a3 :: a4 :: a5 :: a6 :: a7 :: a8 :: a9 :: a10 :: a11 :: a12 :: b :: r) (a0 :: a1 :: a2 :: a3 :: a4 :: a5 :: a6 :: a7 :: a8 :: a9 :: a10 :: a11 :: some v :: none :: r) := as2 [a0, a1, a2, a3, a4, a5, a6, a7, a8, a9, a10, a11] a12 b r v 12 rfl (fun w h _ => c2_ne hc (by simpa using h))
theorem as_13 {a0 a1 a2 a3 a4 a5 a6 a7 a8 a9 a10 a11 a12 a13 : Option Value} {r : List (Option Value)} {v : Value} (hc : c2 a12 = false) : AS 13 v (a0 :: a1 :: a2 :: a3 :: a4 :: a5 :: a6 :: a7 :: a8 :: a9 :: a10 :: a11 :: a12 :: a13 :: r) (a0 :: a1 :: a2 :: a3 :: a4 :: a5 :: a6 :: a7 :: a8 :: a9 :: a10 :: a11 :: a12 :: some v :: r) := as1 [a0, a1, a2, a3, a4, a5, a6, a7, a8, a9, a10, a11, a12] a13 r v 13 rfl (fun w h _ => c2_ne hc (by simpa using h))
theorem as2_13 {a0 a1 a2 a3 a4 a5 a6 a7 a8 a9 a10 a11 a12 a13 b : Option Value} {r : List (Option Value)} {v : Value} (hc : c2 a12 = false) : AS2 13 v (a0 :: a1 :: a2 :: a3 :: a4 :: a5 :: a6 :: a7 :: a8 :: a9 :: a10 :: a11 :: a12 :: a13 :: b :: r) (a0 :: a1 :: a2 :: a3 :: a4 :: a5 :: a6 :: a7 :: a8 :: a9 :: a10 :: a11 :: a12 :: some v :: none :: r) := as2 [a0, a1, a2, a3, a4, a5, a6, a7, a8, a9, a10, a11, a12] a13 b r v 13 rfl (fun w h _ => c2_ne hc (by simpa using h))
theorem as_14 {a0 a1 a2 a3 a4 a5 a6 a7 a8 a9 a10 a11 a12 a13 a14 : Option Value} {r : List (Option Value)} {v : Value} (hc : c2 a13 = false) : AS 14 v (a0 :: a1 :: a2 :: a3 :: a4 :: a5 :: a6 :: a7 :: a8 :: a9 :: a10 :: a11 :: a12 :: a13 :: a14 :: r) (a0 :: a1 :: a2 :: a3 :: a4 :: a5 :: a6 :: a7 :: a8 :: a9 :: a10 :: a11 :: a12 :: a13 :: some v :: r) := as1 [a0, a1, a2, a3, a4, a5, a6, a7, a8, a9, a10, a11, a12, a13] a14 r v 14 rfl (fun w h _ => c2_ne hc (by simpa using h))
theorem as2_14 {a0 a1 a2 a3 a4 a5 a6 a7 a8 a9 a10 a11 a12 a13 a14 b : Option Value} {r : List (Option Value)} {v : Value} (hc : c2 a13 = false) : AS2 14 v (a0 :: a1 :: a2 :: a3 :: a4 :: a5 :: a6 :: a7 :: a8 :: a9 :: a10 :: a11 :: a12 :: a13 :: a14 :: b :: r) (a0 :: a1 :: a2 :: a3 :: a4 :: a5 :: a6 :: a7 :: a8 :: a9 :: a10 :: a11 :: a12 :: a13 :: some v :: none :: r) := as2 [a0, a1, a2, a3, a4, a5, a6, a7, a8, a9, a10, a11, a12, a13] a14 b r v 14 rfl (fun w h _ => c2_ne hc (by simpa using h))
theorem as_15 {a0 a1 a2 a3 a4 a5 a6 a7 a8 a9 a10 a11 a12 a13 a14 a15 : Option Value} {r : List (Option Value)} {v : Value} (hc : c2 a14 = false) : AS 15 v (a0 :: a1 :: a2 :: a3 :: a4 :: a5 :: a6 :: a7 :: a8 :: a9 :: a10 :: a11 :: a12 :: a13 :: a14 :: a15 :: r) (a0 :: a1 :: a2 :: a3 :: a4 :: a5 :: a6 :: a7 :: a8 :: a9 :: a10 :: a11 :: a12 :: a13 :: a14 :: some v :: r) := as1 [a0, a1, a2, a3, a4, a5, a6, a7, a8, a9, a10, a11, a12, a13, a14] a15 r v 15 rfl (fun w h _ => c2_ne hc (by simpa using h))
theorem as2_15 {a0 a1 a2 a3 a4 a5 a6 a7 a8 a9 a10 a11 a12 a13 a14 a15 b : Option Value} {r : List (Option Value)} {v : Value} (hc : c2 a14 = false) : AS2 15 v (a0 :: a1 :: a2 :: a3 :: a4 :: a5 :: a6 :: a7 :: a8 :: a9 :: a10 :: a11 :: a12 :: a13 :: a14 :: a15 :: b :: r) (a0 :: a1 :: a2 :: a3 :: a4 :: a5 :: a6 :: a7 :: a8 :: a9 :: a10 :: a11 :: a12 :: a13 :: a14 :: some v :: none :: r) := as2 [a0, a1, a2, a3, a4, a5, a6, a7, a8, a9, a10, a11, a12, a13, a14] a15 b r v 15 rfl (fun w h _ => c2_ne hc (by simpa using h))
