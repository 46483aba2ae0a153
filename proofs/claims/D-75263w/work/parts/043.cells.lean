/-! rows of fields and arrays over AWc -/
set_option maxRecDepth 100000
/-- what a row of clG needs to be used -/
def CI (ci : Nat) (C : String) (T : u_T) (N : Nat) (ty : Nat → FieldType) : Prop := clG[ci]? = some (C, T, N) ∧ (∀ w ∈ u_ws C T N, w ∈ lw_all) ∧ (∀ k, k < N → parseFieldDescriptor (T k).2.2.1 = some (ty k)) ∧ ∀ a, a < N → ∀ b, b < N → a ≠ b → (T a).2.1 ≠ (T b).2.1
theorem ci1 : CI 0 RX1 TX1 7 tyX1 := ⟨rfl, in_X1, tyX1_ok, nmX1⟩
theorem ci2 : CI 1 RX2 TX2 4 tyX2 := ⟨rfl, in_X2, tyX2_ok, nmX2⟩
theorem ci3 : CI 2 RX3 TX3 4 tyX3 := ⟨rfl, in_X3, tyX3_ok, nmX3⟩
theorem ci4 : CI 3 RX4 TX4 36 tyX4 := ⟨rfl, in_X4, tyX4_ok, nmX4⟩
theorem ci5 : CI 4 RX5 TX5 8 tyX5 := ⟨rfl, in_X5, tyX5_ok, nmX5⟩
theorem ci6 : CI 5 RX6 TX6 7 tyX6 := ⟨rfl, in_X6, tyX6_ok, nmX6⟩
theorem ci7 : CI 6 RX7 TX7 6 tyX7 := ⟨rfl, in_X7, tyX7_ok, nmX7⟩
theorem ci8 : CI 7 RX8 TX8 4 tyX8 := ⟨rfl, in_X8, tyX8_ok, nmX8⟩
theorem ci9 : CI 8 RX9 TX9 6 tyX9 := ⟨rfl, in_X9, tyX9_ok, nmX9⟩
theorem ci10 : CI 9 RX10 TX10 3 tyX10 := ⟨rfl, in_X10, tyX10_ok, nmX10⟩
theorem ci11 : CI 10 RX11 TX11 5 tyX11 := ⟨rfl, in_X11, tyX11_ok, nmX11⟩
theorem ci12 : CI 11 RX12 TX12 4 tyX12 := ⟨rfl, in_X12, tyX12_ok, nmX12⟩
theorem ci14 : CI 12 RX14 TX14 1 tyX14 := ⟨rfl, in_X14, tyX14_ok, nmX14⟩
theorem ci15 : CI 13 RX15 TX15 1 tyX15 := ⟨rfl, in_X15, tyX15_ok, nmX15⟩
theorem ci16 : CI 14 RX16 TX16 1 tyX16 := ⟨rfl, in_X16, tyX16_ok, nmX16⟩
theorem ciL : CI 15 RJ2 TJ2 3 tyJ2 := ⟨rfl, in_J2, tyJ2_ok, nmJ2⟩
theorem ciT : CI 16 RJ24 TJ24 4 tyJ24 := ⟨rfl, in_J24, tyJ24_ok, nmJ24⟩
theorem ciD : CI 17 RJ18 TJ18 3 tyJ18 := ⟨rfl, in_J18, tyJ18_ok, nmJ18⟩
theorem ciB : CI 18 RJ8 TJ8 4 tyJ8 := ⟨rfl, in_J8, tyJ8_ok, nmJ8⟩
theorem ciS : CI 19 RJ9 TJ9 4 tyJ9 := ⟨rfl, in_J9, tyJ9_ok, nmJ9⟩
theorem ciI : CI 20 RJ17 TJ17 1 tyJ17 := ⟨rfl, in_J17, tyJ17_ok, nmJ17⟩
section ACELLS
variable {l : Launch} {g : AG} {mi : MI} {d mc ms : Nat} {Q : Option Value → AH → Prop} {X : String → Nat → AH → Prop} {cells slots : Nat} {h : AH} {pc : Nat} {ls ls' : List (Option Value)} {st : List Value}
/-- an inherited field's name is the owner's -/
def SameF (ref : String) (T : u_T) (k : Nat) : Prop := ref = (T k).1 ∨ Cond.sameField ref (T k).1 (T k).2.1 (T k).2.2.1 ∈ lw_all
theorem SameF.use {ref : String} {T : u_T} {k : Nat} (hs : SameF ref T k) {s : State} {args : Array Value} (hts : ∀ w ∈ lw_all, w.before args s = true) : ∀ x, s.fieldFound? (T k).1 (T k).2.1 (T k).2.2.1 = some x → s.fieldFound? ref (T k).2.1 (T k).2.2.1 = some x := by
  rcases hs with rfl | hs
  · exact fun _ z => z
  · exact fun x z => u_same (hts _ hs) x z
theorem aw_getG {ref C : String} {T : u_T} {N : Nat} {ty : Nat → FieldType} {ci idx a : Nat} {fs : List Value} {v : Value} (n : Nat) (hc : CI ci C T N ty) (k : Nat) (hk : k < N) (hr : RD g h a (.inr (ci, fs))) (hv : fs[k]? = some v)
    (row : ∀ (p : Program) (e : Env) (s : State) (m : MethodId) (args : Array Value) (below : List Frame) (meth : Method) (c : Code) (H : Heap) (locs : List Loc) (lsA : Array Slot) (cell : Cell) (cf fi : Nat) (kf : Class) (f : Field), AF l mi p s m args meth c → AB g s h H locs →
      s.fieldFound? (T k).1 (T k).2.1 (T k).2.2.1 = some (cf, kf, fi, f) → f.isStatic = false → H[a]? = some cell → cell.vm ≠ .unknown → cell.slots[f.slot]? = some v →
      W p l e (rmD d mc ms) s m args below meth c H locs cells slots (vx_MQ below (aQc g Q) (aXC g X) args s mc ms (aA g)) (F0 m n lsA (v :: st)) →
      W p l e (rmD d mc ms) s m args below meth c H locs cells slots (vx_MQ below (aQc g Q) (aXC g X) args s mc ms (aA g)) (F0 m pc lsA (.ref a :: st)))
    (kk : AWc l g mi d mc ms Q X cells slots h n ls (v :: st)) : AWc l g mi d mc ms Q X cells slots h pc ls (.ref a :: st) := by
  intro p e s m args below meth c H locs lsA F B L
  obtain ⟨r, cell, h1, h2, h3, h4, h5, h6⟩ := B.obj hr
  cases h1.symm.trans hc.1
  obtain ⟨hS, hfc, kC, hkC, hkind⟩ := B.1.1.1 ci _ hc.1
  obtain ⟨cf, kf, fi, f, hi, hsl⟩ := hS k hk
  refine row p e s m args below meth c H locs lsA cell cf fi kf f F B hi (u_facts hfc hkC (u_lays F.2.2.2.2.2.2.1 hc.2.1 hk) hi).1 h2 h4 ?_ (kk p e s m args below meth c H locs lsA F B L)
  rw [hsl, h6 k hk]
  simp [vp_V, hv]
theorem aw_get {ref C : String} {T : u_T} {N : Nat} {ty : Nat → FieldType} {ci idx a : Nat} {fs : List Value} {v : Value} (n : Nat) (hc : CI ci C T N ty) (k : Nat) (hk : k < N) (hlink : Cond.fieldLink mi.1.cls idx ref (T k).2.1 (T k).2.2.1 ∈ lw_all) (hsame : SameF ref T k) (hr : RD g h a (.inr (ci, fs))) (hv : fs[k]? = some v) (hd : decode mi.2.1 pc = .ok (.getfield idx, 3)) (hn : pc + 3 = n)
    (kk : AWc l g mi d mc ms Q X cells slots h n ls (v :: st)) : AWc l g mi d mc ms Q X cells slots h pc ls (.ref a :: st) := by
  subst hn
  refine aw_getG (ref := ref) (idx := idx) _ hc k hk hr hv (fun p e s m args below meth c H locs lsA cell cf fi kf f F B hi hst h2 h4 h5 kk => ?_) kk
  exact W.getf F.2.1 F.2.2.1 F.2.2.2.2.2.1 (F.2.2.2.2.2.2.1 _ hlink) (hsame.use F.2.2.2.2.2.2.1 _ hi) hst h2 h4 h5 rfl rfl hd kk
theorem aw_getN {ref C host : String} {T : u_T} {N : Nat} {ty : Nat → FieldType} {ci idx a : Nat} {fs : List Value} {v : Value} (n : Nat) (hc : CI ci C T N ty) (k : Nat) (hk : k < N) (hlink : Cond.fieldLinkNest mi.1.cls idx ref (T k).2.1 (T k).2.2.1 host ∈ lw_tbl) (hsame : SameF ref T k) (hr : RD g h a (.inr (ci, fs))) (hv : fs[k]? = some v) (hd : decode mi.2.1 pc = .ok (.getfield idx, 3)) (hn : pc + 3 = n)
    (kk : AWc l g mi d mc ms Q X cells slots h n ls (v :: st)) : AWc l g mi d mc ms Q X cells slots h pc ls (.ref a :: st) := by
  subst hn
  refine aw_getG (ref := ref) (idx := idx) _ hc k hk hr hv (fun p e s m args below meth c H locs lsA cell cf fi kf f F B hi hst h2 h4 h5 kk => ?_) kk
  exact va_Wgetf F.2.1 F.2.2.1 F.2.2.2.2.2.1 (va_Nw.use rfl (B.1.2.2.1 _ hlink rfl)) (hsame.use F.2.2.2.2.2.2.1 _ hi) hst h2 h4 h5 rfl rfl hd kk
theorem AHP.place {g : AG} {h : AH} {H : Heap} (hp : AHP g h H) {a : Nat} {e : AE} (he : h a = some e) : ∃ (ws : va_W) (q0 : Nat), va_P g.1 clG ws H ∧ va_D (aA g) ws ∧ (∀ b x, h b = some x → (b, av g.2.1 x) ∈ ws) ∧ ws[q0]? = some (a, av g.2.1 e) := by
  obtain ⟨ws, h1, h2, h3⟩ := hp
  obtain ⟨i, hi⟩ := List.getElem?_of_mem (h3 a e he)
  exact ⟨ws, i, h1, h2, h3, hi⟩
theorem aw_put {ref C : String} {T : u_T} {N : Nat} {ty0 : Nat → FieldType} {ci idx a : Nat} {fs : List Value} {v : Value} (n : Nat) (hc : CI ci C T N ty0) (k : Nat) (hk : k < N) (hlink : Cond.fieldLink mi.1.cls idx ref (T k).2.1 (T k).2.2.1 ∈ lw_all) (hsame : SameF ref T k) (hfin : (T k).2.2.2 = false) (hnr : narrow (ty0 k) v = v) (hfit : fits (ty0 k) v = true) (hl : k < fs.length) (hr : h a = some (.inr (ci, fs))) (hd : decode mi.2.1 pc = .ok (.putfield idx, 3)) (hn : pc + 3 = n)
    (kk : AWc l g mi d mc ms Q X cells slots (hset h a (.inr (ci, fs.set k v))) n ls st) : AWc l g mi d mc ms Q X cells slots h pc ls (v :: .ref a :: st) := by
  subst hn
  intro p e s m args below meth c H locs lsA F B L
  obtain ⟨ws, q0, h1, h2, h3, hq⟩ := B.2.2.1.place hr
  refine va_put F.2.1 F.2.2.1 F.2.2.2.2.2.2.1 hc.2.1 ty0 hc.2.2.1 hc.2.2.2 F.2.2.2.2.2.1 B.1.1 h1 h2 B.2.2.2 q0 hq hc.1 k hk (F.2.2.2.2.2.2.1 _ hlink) (hsame.use F.2.2.2.2.2.2.1) hfin (hc.2.2.1 k hk) hnr hfit hl hd (fun H1 locs1 hP hD hS => ?_)
  exact kk p e s m args below meth c H1 locs1 lsA F ⟨B.1, B.2.1, ahp_set h2 h3 hq hP, hS⟩ L
theorem aw_putN {ref C host : String} {T : u_T} {N : Nat} {ty0 : Nat → FieldType} {ci idx a : Nat} {fs : List Value} {v : Value} (n : Nat) (hc : CI ci C T N ty0) (k : Nat) (hk : k < N) (hlink : Cond.fieldLinkNest mi.1.cls idx ref (T k).2.1 (T k).2.2.1 host ∈ lw_tbl) (hsame : SameF ref T k) (hfin : (T k).2.2.2 = false) (hnr : narrow (ty0 k) v = v) (hfit : fits (ty0 k) v = true) (hl : k < fs.length) (hr : h a = some (.inr (ci, fs))) (hd : decode mi.2.1 pc = .ok (.putfield idx, 3)) (hn : pc + 3 = n)
    (kk : AWc l g mi d mc ms Q X cells slots (hset h a (.inr (ci, fs.set k v))) n ls st) : AWc l g mi d mc ms Q X cells slots h pc ls (v :: .ref a :: st) := by
  subst hn
  intro p e s m args below meth c H locs lsA F B L
  obtain ⟨ws, q0, h1, h2, h3, hq⟩ := B.2.2.1.place hr
  refine va_putN F.2.1 F.2.2.1 F.2.2.2.2.2.2.1 hc.2.1 ty0 hc.2.2.1 hc.2.2.2 F.2.2.2.2.2.1 B.1.1 h1 h2 B.2.2.2 q0 hq hc.1 k hk (va_Nw.use rfl (B.1.2.2.1 _ hlink rfl)) (hsame.use F.2.2.2.2.2.2.1) hfin (hc.2.2.1 k hk) hnr hfit hl hd (fun H1 locs1 hP hD hS => ?_)
  exact kk p e s m args below meth c H1 locs1 lsA F ⟨B.1, B.2.1, ahp_set h2 h3 hq hP, hS⟩ L
theorem aw_putF {ref C : String} {T : u_T} {N : Nat} {ty0 : Nat → FieldType} {ci idx a : Nat} {fs : List Value} {v : Value} (n : Nat) (hc : CI ci C T N ty0) (k : Nat) (hk : k < N) (hlink : Cond.fieldLink mi.1.cls idx ref (T k).2.1 (T k).2.2.1 ∈ lw_all) (hsame : SameF ref T k) (hfin : (T k).2.2.2 = true) (hin : mi.1.name = "<init>") (hdec : (T k).1 = mi.1.cls) (hnr : narrow (ty0 k) v = v) (hfit : fits (ty0 k) v = true) (hl : k < fs.length) (hr : h a = some (.inr (ci, fs))) (hd : decode mi.2.1 pc = .ok (.putfield idx, 3)) (hn : pc + 3 = n)
    (kk : AWc l g mi d mc ms Q X cells slots (hset h a (.inr (ci, fs.set k v))) n ls st) : AWc l g mi d mc ms Q X cells slots h pc ls (v :: .ref a :: st) := by
  subst hn
  intro p e s m args below meth c H locs lsA F B L
  obtain ⟨ws, q0, h1, h2, h3, hq⟩ := B.2.2.1.place hr
  refine va_putF F.2.1 F.2.2.1 F.2.2.2.2.2.2.1 hc.2.1 ty0 hc.2.2.1 hc.2.2.2 F.2.2.2.2.2.1 B.1.1 h1 h2 B.2.2.2 q0 hq hc.1 k hk (F.2.2.2.2.2.2.1 _ hlink) (hsame.use F.2.2.2.2.2.2.1) hfin (F.2.2.2.2.2.2.2.2.1.trans hin) hdec (hc.2.2.1 k hk) hnr hfit hl hd (fun H1 locs1 hP hD hS => ?_)
  exact kk p e s m args below meth c H1 locs1 lsA F ⟨B.1, B.2.1, ahp_set h2 h3 hq hP, hS⟩ L
theorem aw_gets {ref C nm dd : String} {idx : Nat} {v : Value} (n k : Nat) (hs : stL[k]? = some (C, nm, dd)) (hlink : Cond.fieldLink mi.1.cls idx ref nm dd ∈ lw_all) (hsame : ref = C) (hv : g.2.2.2.1 k = v) (hd : decode mi.2.1 pc = .ok (.getstatic idx, 3)) (hn : pc + 3 = n)
    (kk : AWc l g mi d mc ms Q X cells slots h n ls (v :: st)) : AWc l g mi d mc ms Q X cells slots h pc ls st := by
  subst hn; subst hsame; subst hv
  intro p e s m args below meth c H locs lsA F B L
  exact va_gets F.2.1 F.2.2.1 (B.1.2.1 k _ hs) B.2.2.2 F.2.2.2.2.2.1 (F.2.2.2.2.2.2.1 _ hlink) (fun _ z => z) hd (kk p e s m args below meth c H locs lsA F B L)
/-! arrays -/
theorem aw_alen {a t len : Nat} {x : (Nat → Int) ⊕ (Nat → Int) ⊕ (Nat → UInt64) ⊕ (Nat → Option Nat)} (n : Nat) (ht : t < 8) (hr : RD g h a (.inl (t, len, x))) (hd : decode mi.2.1 pc = .ok (.arraylength, 1)) (hn : pc + 1 = n)
    (kk : AWc l g mi d mc ms Q X cells slots h n ls (iv (len : Int) :: st)) : AWc l g mi d mc ms Q X cells slots h pc ls (.ref a :: st) := by
  subst hn
  intro p e s m args below meth c H locs lsA F B L
  obtain ⟨cell, h1, h2, h3, h4, h5, h6⟩ := B.arr ht hr
  exact W.alen (n := Int32.ofInt len) F.2.1 F.2.2.1 h1 h2 (h5.trans rfl) rfl rfl hd (kk p e s m args below meth c H locs lsA F B L)
theorem vp_in_size {i : Int32} {n N : Nat} (hin : vp_in i n) (hN : n ≤ N) : ¬ (i < 0 ∨ N ≤ i.toNatClampNeg) := by
  intro z
  rcases z with z | z
  · exact hin (Or.inl z)
  · exact hin (Or.inr (Nat.le_trans hN z))
theorem aw_iald {a len : Nat} {f : Nat → Int} {z : Int} (n : Nat) (hr : RD g h a (.inl (0, len, .inl f))) (hz : 0 ≤ z ∧ z < len) (hd : decode mi.2.1 pc = .ok (.iaload, 1)) (hn : pc + 1 = n) (hb : len ≤ 2147483647)
    (kk : AWc l g mi d mc ms Q X cells slots h n ls (iv (f z.toNat) :: st)) : AWc l g mi d mc ms Q X cells slots h pc ls (iv z :: .ref a :: st) := by
  subst hn
  intro p e s m args below meth c H locs lsA F B L
  obtain ⟨cell, h1, h2, h3, h4, h5, h6⟩ := B.arr (by decide) hr
  obtain ⟨i1, i2⟩ := i_in hz.1 hz.2 hb
  exact W.iald (v := iv (f z.toNat)) F.2.1 F.2.2.1 h1 h2 h3 (vp_in_size i1 h4) (by rw [i2]; exact h6 _ (by omega)) rfl rfl hd (kk p e s m args below meth c H locs lsA F B L)
theorem aw_bald {a len : Nat} {f : Nat → Int} {z : Int} (n : Nat) (hr : RD g h a (.inl (1, len, .inl f))) (hz : 0 ≤ z ∧ z < len) (hd : decode mi.2.1 pc = .ok (.baload, 1)) (hn : pc + 1 = n) (hb : len ≤ 2147483647)
    (kk : AWc l g mi d mc ms Q X cells slots h n ls (iv (f z.toNat) :: st)) : AWc l g mi d mc ms Q X cells slots h pc ls (iv z :: .ref a :: st) := by
  subst hn
  intro p e s m args below meth c H locs lsA F B L
  obtain ⟨cell, h1, h2, h3, h4, h5, h6⟩ := B.arr (by decide) hr
  obtain ⟨i1, i2⟩ := i_in hz.1 hz.2 hb
  exact W.bald (v := iv (f z.toNat)) F.2.1 F.2.2.1 h1 h2 h3 (vp_in_size i1 h4) (by rw [i2]; exact h6 _ (by omega)) rfl rfl hd (kk p e s m args below meth c H locs lsA F B L)
theorem aw_cald {a len : Nat} {f : Nat → Int} {z : Int} (n : Nat) (hr : RD g h a (.inl (2, len, .inl f))) (hz : 0 ≤ z ∧ z < len) (hd : decode mi.2.1 pc = .ok (.caload, 1)) (hn : pc + 1 = n) (hb : len ≤ 2147483647)
    (kk : AWc l g mi d mc ms Q X cells slots h n ls (iv (f z.toNat) :: st)) : AWc l g mi d mc ms Q X cells slots h pc ls (iv z :: .ref a :: st) := by
  subst hn
  intro p e s m args below meth c H locs lsA F B L
  obtain ⟨cell, h1, h2, h3, h4, h5, h6⟩ := B.arr (by decide) hr
  obtain ⟨i1, i2⟩ := i_in hz.1 hz.2 hb
  exact W.cald (v := iv (f z.toNat)) F.2.1 F.2.2.1 h1 h2 h3 (vp_in_size i1 h4) (by rw [i2]; exact h6 _ (by omega)) rfl rfl hd (kk p e s m args below meth c H locs lsA F B L)
theorem aw_zald {a len : Nat} {f : Nat → Int} {z : Int} (n : Nat) (hr : RD g h a (.inl (3, len, .inl f))) (hz : 0 ≤ z ∧ z < len) (hd : decode mi.2.1 pc = .ok (.baload, 1)) (hn : pc + 1 = n) (hb : len ≤ 2147483647)
    (kk : AWc l g mi d mc ms Q X cells slots h n ls (iv (f z.toNat) :: st)) : AWc l g mi d mc ms Q X cells slots h pc ls (iv z :: .ref a :: st) := by
  subst hn
  intro p e s m args below meth c H locs lsA F B L
  obtain ⟨cell, h1, h2, h3, h4, h5, h6⟩ := B.arr (by decide) hr
  obtain ⟨i1, i2⟩ := i_in hz.1 hz.2 hb
  exact W.zald (v := iv (f z.toNat)) F.2.1 F.2.2.1 h1 h2 h3 (vp_in_size i1 h4) (by rw [i2]; exact h6 _ (by omega)) rfl rfl hd (kk p e s m args below meth c H locs lsA F B L)
theorem aw_lald {a len : Nat} {f : Nat → Int} {z : Int} (n : Nat) (hr : RD g h a (.inl (4, len, .inr (.inl f)))) (hz : 0 ≤ z ∧ z < len) (hd : decode mi.2.1 pc = .ok (.laload, 1)) (hn : pc + 1 = n) (hb : len ≤ 2147483647)
    (kk : AWc l g mi d mc ms Q X cells slots h n ls (jv (f z.toNat) :: st)) : AWc l g mi d mc ms Q X cells slots h pc ls (iv z :: .ref a :: st) := by
  subst hn
  intro p e s m args below meth c H locs lsA F B L
  obtain ⟨cell, h1, h2, h3, h4, h5, h6⟩ := B.arr (by decide) hr
  obtain ⟨i1, i2⟩ := i_in hz.1 hz.2 hb
  exact W.lald (v := jv (f z.toNat)) F.2.1 F.2.2.1 h1 h2 h3 (vp_in_size i1 h4) (by rw [i2]; exact h6 _ (by omega)) rfl rfl hd (kk p e s m args below meth c H locs lsA F B L)
theorem aw_dald {a len : Nat} {f : Nat → UInt64} {z : Int} (n : Nat) (hr : RD g h a (.inl (5, len, .inr (.inr (.inl f))))) (hz : 0 ≤ z ∧ z < len) (hd : decode mi.2.1 pc = .ok (.daload, 1)) (hn : pc + 1 = n) (hb : len ≤ 2147483647)
    (kk : AWc l g mi d mc ms Q X cells slots h n ls (.double (f z.toNat) :: st)) : AWc l g mi d mc ms Q X cells slots h pc ls (iv z :: .ref a :: st) := by
  subst hn
  intro p e s m args below meth c H locs lsA F B L
  obtain ⟨cell, h1, h2, h3, h4, h5, h6⟩ := B.arr (by decide) hr
  obtain ⟨i1, i2⟩ := i_in hz.1 hz.2 hb
  exact W.dald (v := .double (f z.toNat)) F.2.1 F.2.2.1 h1 h2 h3 (vp_in_size i1 h4) (by rw [i2]; exact h6 _ (by omega)) rfl rfl hd (kk p e s m args below meth c H locs lsA F B L)
theorem aw_aald {a len : Nat} {f : Nat → Option Nat} {z : Int} (n : Nat) (hr : RD g h a (.inl (6, len, .inr (.inr (.inr f))))) (hz : 0 ≤ z ∧ z < len) (hd : decode mi.2.1 pc = .ok (.aaload, 1)) (hn : pc + 1 = n) (hb : len ≤ 2147483647)
    (kk : AWc l g mi d mc ms Q X cells slots h n ls (va_rf (f z.toNat) :: st)) : AWc l g mi d mc ms Q X cells slots h pc ls (iv z :: .ref a :: st) := by
  subst hn
  intro p e s m args below meth c H locs lsA F B L
  obtain ⟨cell, h1, h2, h3, h4, h5, h6⟩ := B.arr (by decide) hr
  obtain ⟨i1, i2⟩ := i_in hz.1 hz.2 hb
  exact W.aald (ty := tyL 6) (v := va_rf (f z.toNat)) F.2.1 F.2.2.1 h1 h2 rfl h3 (vp_in_size i1 h4) (by rw [i2]; exact h6 _ (by omega)) rfl rfl hd (kk p e s m args below meth c H locs lsA F B L)
theorem aw_aaldI {a len : Nat} {f : Nat → Option Nat} {z : Int} (n : Nat) (hr : RD g h a (.inl (7, len, .inr (.inr (.inr f))))) (hz : 0 ≤ z ∧ z < len) (hd : decode mi.2.1 pc = .ok (.aaload, 1)) (hn : pc + 1 = n) (hb : len ≤ 2147483647)
    (kk : AWc l g mi d mc ms Q X cells slots h n ls (va_rf (f z.toNat) :: st)) : AWc l g mi d mc ms Q X cells slots h pc ls (iv z :: .ref a :: st) := by
  subst hn
  intro p e s m args below meth c H locs lsA F B L
  obtain ⟨cell, h1, h2, h3, h4, h5, h6⟩ := B.arr (by decide) hr
  obtain ⟨i1, i2⟩ := i_in hz.1 hz.2 hb
  exact W.aald (ty := tyL 7) (v := va_rf (f z.toNat)) F.2.1 F.2.2.1 h1 h2 rfl h3 (vp_in_size i1 h4) (by rw [i2]; exact h6 _ (by omega)) rfl rfl hd (kk p e s m args below meth c H locs lsA F B L)
theorem up_i (f : Nat → Int) (j : Nat) (x : Int) : upd (fun k => Int32.ofInt (f k)) j (Int32.ofInt x) = fun k => Int32.ofInt (va_up f j x k) := by
  funext k
  by_cases hk : k = j <;> simp [upd, va_up, hk]
theorem up_l (f : Nat → Int) (j : Nat) (x : Int) : vp_updL (fun k => Int64.ofInt (f k)) j (Int64.ofInt x) = fun k => Int64.ofInt (va_up f j x k) := by
  funext k
  by_cases hk : k = j <;> simp [vp_updL, va_up, hk]
theorem up_d (f : Nat → UInt64) (j : Nat) (x : UInt64) : vf_upd f j x = va_up f j x := by
  funext k
  by_cases hk : k = j <;> simp [vf_upd, va_up, hk]
theorem aw_iast {a len : Nat} {f : Nat → Int} {z : Int} {x : Int} (n : Nat) (hr : h a = some (.inl (0, len, .inl f))) (hz : 0 ≤ z ∧ z < len) (hd : decode mi.2.1 pc = .ok (.iastore, 1)) (hn : pc + 1 = n) (hb : len ≤ 2147483647)
    (kk : AWc l g mi d mc ms Q X cells slots (hset h a (.inl (0, len, .inl (va_up f z.toNat x)))) n ls st) : AWc l g mi d mc ms Q X cells slots h pc ls (iv x :: iv z :: .ref a :: st) := by
  subst hn
  intro p e s m args below meth c H locs lsA F B L
  obtain ⟨ws, q0, h1, h2, h3, hq⟩ := B.2.2.1.place hr
  obtain ⟨i1, i2⟩ := i_in hz.1 hz.2 hb
  refine va_iast F.2.1 F.2.2.1 B.1.1 h1 h2 B.2.2.2 q0 0 hq rfl i1 hd (fun H1 locs1 hP hD hS => ?_)
  rw [i2, up_i] at hP
  exact kk p e s m args below meth c H1 locs1 lsA F ⟨B.1, B.2.1, ahp_set h2 h3 hq (e' := .inl (0, len, .inl (va_up f z.toNat x))) hP, hS⟩ L
theorem aw_bast {a len : Nat} {f : Nat → Int} {z : Int} {x : Int} (n : Nat) (hr : h a = some (.inl (1, len, .inl f))) (hz : 0 ≤ z ∧ z < len) (hx : vp_nar .byte (Int32.ofInt x) = Int32.ofInt x) (hd : decode mi.2.1 pc = .ok (.bastore, 1)) (hn : pc + 1 = n) (hb : len ≤ 2147483647)
    (kk : AWc l g mi d mc ms Q X cells slots (hset h a (.inl (1, len, .inl (va_up f z.toNat x)))) n ls st) : AWc l g mi d mc ms Q X cells slots h pc ls (iv x :: iv z :: .ref a :: st) := by
  subst hn
  intro p e s m args below meth c H locs lsA F B L
  obtain ⟨ws, q0, h1, h2, h3, hq⟩ := B.2.2.1.place hr
  obtain ⟨i1, i2⟩ := i_in hz.1 hz.2 hb
  refine va_bast F.2.1 F.2.2.1 B.1.1 h1 h2 B.2.2.2 q0 1 hq rfl i1 hd (fun H1 locs1 hP hD hS => ?_)
  rw [i2, hx, up_i] at hP
  exact kk p e s m args below meth c H1 locs1 lsA F ⟨B.1, B.2.1, ahp_set h2 h3 hq (e' := .inl (1, len, .inl (va_up f z.toNat x))) hP, hS⟩ L
theorem aw_cast_ {a len : Nat} {f : Nat → Int} {z : Int} {x : Int} (n : Nat) (hr : h a = some (.inl (2, len, .inl f))) (hz : 0 ≤ z ∧ z < len) (hx : vp_nar .char (Int32.ofInt x) = Int32.ofInt x) (hd : decode mi.2.1 pc = .ok (.castore, 1)) (hn : pc + 1 = n) (hb : len ≤ 2147483647)
    (kk : AWc l g mi d mc ms Q X cells slots (hset h a (.inl (2, len, .inl (va_up f z.toNat x)))) n ls st) : AWc l g mi d mc ms Q X cells slots h pc ls (iv x :: iv z :: .ref a :: st) := by
  subst hn
  intro p e s m args below meth c H locs lsA F B L
  obtain ⟨ws, q0, h1, h2, h3, hq⟩ := B.2.2.1.place hr
  obtain ⟨i1, i2⟩ := i_in hz.1 hz.2 hb
  refine va_cast F.2.1 F.2.2.1 B.1.1 h1 h2 B.2.2.2 q0 2 hq rfl i1 hd (fun H1 locs1 hP hD hS => ?_)
  rw [i2, hx, up_i] at hP
  exact kk p e s m args below meth c H1 locs1 lsA F ⟨B.1, B.2.1, ahp_set h2 h3 hq (e' := .inl (2, len, .inl (va_up f z.toNat x))) hP, hS⟩ L
theorem aw_zast {a len : Nat} {f : Nat → Int} {z : Int} {x : Int} (n : Nat) (hr : h a = some (.inl (3, len, .inl f))) (hz : 0 ≤ z ∧ z < len) (hx : vp_nar .boolean (Int32.ofInt x) = Int32.ofInt x) (hd : decode mi.2.1 pc = .ok (.bastore, 1)) (hn : pc + 1 = n) (hb : len ≤ 2147483647)
    (kk : AWc l g mi d mc ms Q X cells slots (hset h a (.inl (3, len, .inl (va_up f z.toNat x)))) n ls st) : AWc l g mi d mc ms Q X cells slots h pc ls (iv x :: iv z :: .ref a :: st) := by
  subst hn
  intro p e s m args below meth c H locs lsA F B L
  obtain ⟨ws, q0, h1, h2, h3, hq⟩ := B.2.2.1.place hr
  obtain ⟨i1, i2⟩ := i_in hz.1 hz.2 hb
  refine va_zast F.2.1 F.2.2.1 B.1.1 h1 h2 B.2.2.2 q0 3 hq rfl i1 hd (fun H1 locs1 hP hD hS => ?_)
  rw [i2, hx, up_i] at hP
  exact kk p e s m args below meth c H1 locs1 lsA F ⟨B.1, B.2.1, ahp_set h2 h3 hq (e' := .inl (3, len, .inl (va_up f z.toNat x))) hP, hS⟩ L
theorem aw_last {a len : Nat} {f : Nat → Int} {z : Int} {x : Int} (n : Nat) (hr : h a = some (.inl (4, len, .inr (.inl f)))) (hz : 0 ≤ z ∧ z < len) (hd : decode mi.2.1 pc = .ok (.lastore, 1)) (hn : pc + 1 = n) (hb : len ≤ 2147483647)
    (kk : AWc l g mi d mc ms Q X cells slots (hset h a (.inl (4, len, .inr (.inl (va_up f z.toNat x))))) n ls st) : AWc l g mi d mc ms Q X cells slots h pc ls (jv x :: iv z :: .ref a :: st) := by
  subst hn
  intro p e s m args below meth c H locs lsA F B L
  obtain ⟨ws, q0, h1, h2, h3, hq⟩ := B.2.2.1.place hr
  obtain ⟨i1, i2⟩ := i_in hz.1 hz.2 hb
  refine va_last F.2.1 F.2.2.1 B.1.1 h1 h2 B.2.2.2 q0 4 hq rfl i1 hd (fun H1 locs1 hP hD hS => ?_)
  rw [i2, up_l] at hP
  exact kk p e s m args below meth c H1 locs1 lsA F ⟨B.1, B.2.1, ahp_set h2 h3 hq (e' := .inl (4, len, .inr (.inl (va_up f z.toNat x)))) hP, hS⟩ L
theorem aw_dast {a len : Nat} {f : Nat → UInt64} {z : Int} {x : UInt64} (n : Nat) (hr : h a = some (.inl (5, len, .inr (.inr (.inl f))))) (hz : 0 ≤ z ∧ z < len) (hd : decode mi.2.1 pc = .ok (.dastore, 1)) (hn : pc + 1 = n) (hb : len ≤ 2147483647)
    (kk : AWc l g mi d mc ms Q X cells slots (hset h a (.inl (5, len, .inr (.inr (.inl (va_up f z.toNat x)))))) n ls st) : AWc l g mi d mc ms Q X cells slots h pc ls (.double x :: iv z :: .ref a :: st) := by
  subst hn
  intro p e s m args below meth c H locs lsA F B L
  obtain ⟨ws, q0, h1, h2, h3, hq⟩ := B.2.2.1.place hr
  obtain ⟨i1, i2⟩ := i_in hz.1 hz.2 hb
  refine va_dast F.2.1 F.2.2.1 B.1.1 h1 h2 B.2.2.2 q0 5 hq rfl i1 hd (fun H1 locs1 hP hD hS => ?_)
  rw [i2, up_d] at hP
  exact kk p e s m args below meth c H1 locs1 lsA F ⟨B.1, B.2.1, ahp_set h2 h3 hq (e' := .inl (5, len, .inr (.inr (.inl (va_up f z.toNat x))))) hP, hS⟩ L
theorem aw_aastN {a len : Nat} {f : Nat → Option Nat} {z : Int} (n : Nat) (hr : h a = some (.inl (6, len, .inr (.inr (.inr f))))) (hz : 0 ≤ z ∧ z < len) (hd : decode mi.2.1 pc = .ok (.aastore, 1)) (hn : pc + 1 = n) (hb : len ≤ 2147483647)
    (kk : AWc l g mi d mc ms Q X cells slots (hset h a (.inl (6, len, .inr (.inr (.inr (va_up f z.toNat none)))))) n ls st) : AWc l g mi d mc ms Q X cells slots h pc ls (.null :: iv z :: .ref a :: st) := by
  subst hn
  intro p e s m args below meth c H locs lsA F B L
  obtain ⟨ws, q0, h1, h2, h3, hq⟩ := B.2.2.1.place hr
  obtain ⟨i1, i2⟩ := i_in hz.1 hz.2 hb
  refine va_astqN F.2.1 F.2.2.1 B.1.1 h1 h2 B.2.2.2 q0 6 (C := "java/lang/Object") hq rfl i1 hd (fun H1 locs1 hP hD hS => ?_)
  rw [i2] at hP
  exact kk p e s m args below meth c H1 locs1 lsA F ⟨B.1, B.2.1, ahp_set h2 h3 hq (e' := .inl (6, len, .inr (.inr (.inr (va_up f z.toNat none))))) hP, hS⟩ L
theorem aw_aast {a v len ci : Nat} {fs : List Value} {r : vw_C} {f : Nat → Option Nat} {z : Int} (n : Nat) (hr : h a = some (.inl (6, len, .inr (.inr (.inr f))))) (hv : h v = some (.inr (ci, fs))) (hc : clG[ci]? = some r) (hca : Cond.castable r.1 "java/lang/Object" ∈ lw_tbl) (hz : 0 ≤ z ∧ z < len) (hd : decode mi.2.1 pc = .ok (.aastore, 1)) (hn : pc + 1 = n) (hb : len ≤ 2147483647)
    (kk : AWc l g mi d mc ms Q X cells slots (hset h a (.inl (6, len, .inr (.inr (.inr (va_up f z.toNat (some v))))))) n ls st) : AWc l g mi d mc ms Q X cells slots h pc ls (.ref v :: iv z :: .ref a :: st) := by
  subst hn
  intro p e s m args below meth c H locs lsA F B L
  obtain ⟨ws, q0, h1, h2, h3, hq⟩ := B.2.2.1.place hr
  obtain ⟨qk, hqk⟩ := List.getElem?_of_mem (h3 v _ hv)
  obtain ⟨i1, i2⟩ := i_in hz.1 hz.2 hb
  refine va_astqO F.2.1 F.2.2.1 B.1.1 h1 h2 B.2.2.2 q0 6 qk ci (E := "java/lang/Object") (r := r) hq rfl (B.1.2.2.1 _ hca rfl) hqk hc i1 hd (fun H1 locs1 hP hD hS => ?_)
  rw [i2] at hP
  exact kk p e s m args below meth c H1 locs1 lsA F ⟨B.1, B.2.1, ahp_set h2 h3 hq (e' := .inl (6, len, .inr (.inr (.inr (va_up f z.toNat (some v)))))) hP, hS⟩ L
/-! making -/
theorem aw_new {C : String} {T : u_T} {N : Nat} {ty : Nat → FieldType} {ci idx : Nat} (fs : List Value) (n : Nat) (hc : CI ci C T N ty) (hcl : Cond.classLink mi.1.cls idx C ∈ lw_all) (hinst : Cond.instantiable C N ∈ lw_all) (hini : Cond.initialized C ∈ lw_all) (hfs : ∀ j, j < N → defaultValue (ty j) = vp_V fs j) (hm : cells + 1 ≤ mc) (hs : slots + N ≤ ms) (hd : decode mi.2.1 pc = .ok (.new idx, 3)) (hn : pc + 3 = n)
    (kk : ∀ q : Nat, h q = none → aA g q → AWc l g mi d mc ms Q X (cells + 1) (slots + N) (hset h q (.inr (ci, fs))) n ls (.ref q :: st)) : AWc l g mi d mc ms Q X cells slots h pc ls st := by
  subst hn
  intro p e s m args below meth c H locs lsA F B L
  obtain ⟨ws, h1, h2, h3⟩ := B.2.2.1
  refine va_new F.2.1 F.2.2.1 F.2.2.2.2.2.2.1 hc.2.1 ty hc.2.2.1 F.2.2.2.2.2.1 (F.2.2.2.2.2.2.1 _ hcl) (F.2.2.2.2.2.2.1 _ hinst) (F.2.2.2.2.2.2.1 _ hini) B.1.1 h1 h2 B.2.2.2 (fun q hq => Nat.le_trans B.2.1 hq) hc.1 hfs hm hs hd (fun q H1 hP hD hS => ?_)
  obtain ⟨x1, x2⟩ := ahp_push (e' := .inr (ci, fs)) hD h3 hP
  exact kk q x2 (hD.2 ws.length _ (by rw [List.getElem?_append_right (Nat.le_refl _), Nat.sub_self]; rfl)) p e s m args below meth c H1 locs lsA F ⟨B.1, B.2.1, x1, hS⟩ L
/-- an array's number is the tables' -/
theorem ty_same {g : AG} {s : State} {t : Nat} {cA : ClassId} (ht : t < 7) (hK : va_K g.1 clG (tyG g.2.1) s) (h2 : va_RA s cA (tyL t)) : cA = g.2.1 t := by
  have h1 := (hK.2 t _ (tyG_at g.2.1 (by omega))).2
  match t, ht, h1, h2 with
  | 0, _, h1, h2 => exact Option.some.inj (h2.symm.trans h1)
  | 1, _, h1, h2 => exact Option.some.inj (h2.symm.trans h1)
  | 2, _, h1, h2 => exact Option.some.inj (h2.symm.trans h1)
  | 3, _, h1, h2 => exact Option.some.inj (h2.symm.trans h1)
  | 4, _, h1, h2 => exact Option.some.inj (h2.symm.trans h1)
  | 5, _, h1, h2 => exact Option.some.inj (h2.symm.trans h1)
  | 6, _, h1, h2 =>
    obtain ⟨_, _, -, -, -, e1⟩ := h1
    obtain ⟨_, _, -, -, -, e2⟩ := h2
    exact Option.some.inj (e2.symm.trans e1)
theorem aw_newaI {z : Int} (n N' : Nat) (hz : z = (N' : Int)) (hN : N' ≤ 60000000) (hm : cells + 1 ≤ mc) (hs : slots + N' ≤ ms) (hd : decode mi.2.1 pc = .ok (.newarray .int, 2)) (hn : pc + 2 = n)
    (kk : ∀ q : Nat, h q = none → aA g q → AWc l g mi d mc ms Q X (cells + 1) (slots + N') (hset h q (.inl (0, N', .inl (fun _ => 0)))) n ls (.ref q :: st)) : AWc l g mi d mc ms Q X cells slots h pc ls (iv z :: st) := by
  subst hz
  subst hn
  intro p e s m args below meth c H locs lsA F B L
  obtain ⟨ws, h1, h2, h3⟩ := B.2.2.1
  have hb : (Int32.ofInt (N' : Int)).toInt = N' := i_to (by omega)
  refine va_newa (atype := .int) (ty := .int) (N' := N') (a0 := match av g.2.1 (.inl (0, N', .inl (fun _ => 0))) with | .inl y => y.2 | .inr _ => (0, .inl fun _ => 0)) F.2.1 F.2.2.1 (F.2.2.2.2.2.2.1 _ q571) rfl B.1.1 h1 h2 B.2.2.2 (fun q hq => Nat.le_trans B.2.1 hq) (fun cA => rfl) ?_ ?_ (by show N' * 4 ≤ 536870912; omega) hm hs hd (fun q cA H1 hK hP hD hS => ?_)
  · rw [Int32.lt_iff_toInt_lt, hb]
    show ¬ (N' : Int) < 0
    omega
  · show (Int32.ofInt (N' : Int)).toInt.toNat = N'
    rw [hb]
    rfl
  have hcA : cA = g.2.1 0 := ty_same (t := 0) (by decide) B.1.1 (hK.2 8 (cA, .int) rfl).2
  subst hcA
  obtain ⟨x1, x2⟩ := ahp_push (e' := .inl (0, N', .inl (fun _ => 0))) hD h3 hP
  exact kk q x2 (hD.2 ws.length _ (by rw [List.getElem?_append_right (Nat.le_refl _), Nat.sub_self]; rfl)) p e s m args below meth c H1 locs lsA F ⟨B.1, B.2.1, x1, hS⟩ L
theorem aw_newaB {z : Int} (n N' : Nat) (hz : z = (N' : Int)) (hN : N' ≤ 60000000) (hm : cells + 1 ≤ mc) (hs : slots + N' ≤ ms) (hd : decode mi.2.1 pc = .ok (.newarray .byte, 2)) (hn : pc + 2 = n)
    (kk : ∀ q : Nat, h q = none → aA g q → AWc l g mi d mc ms Q X (cells + 1) (slots + N') (hset h q (.inl (1, N', .inl (fun _ => 0)))) n ls (.ref q :: st)) : AWc l g mi d mc ms Q X cells slots h pc ls (iv z :: st) := by
  subst hz
  subst hn
  intro p e s m args below meth c H locs lsA F B L
  obtain ⟨ws, h1, h2, h3⟩ := B.2.2.1
  have hb : (Int32.ofInt (N' : Int)).toInt = N' := i_to (by omega)
  refine va_newa (atype := .byte) (ty := .byte) (N' := N') (a0 := match av g.2.1 (.inl (1, N', .inl (fun _ => 0))) with | .inl y => y.2 | .inr _ => (0, .inl fun _ => 0)) F.2.1 F.2.2.1 (F.2.2.2.2.2.2.1 _ q255) rfl B.1.1 h1 h2 B.2.2.2 (fun q hq => Nat.le_trans B.2.1 hq) (fun cA => rfl) ?_ ?_ (by show N' * 1 ≤ 536870912; omega) hm hs hd (fun q cA H1 hK hP hD hS => ?_)
  · rw [Int32.lt_iff_toInt_lt, hb]
    show ¬ (N' : Int) < 0
    omega
  · show (Int32.ofInt (N' : Int)).toInt.toNat = N'
    rw [hb]
    rfl
  have hcA : cA = g.2.1 1 := ty_same (t := 1) (by decide) B.1.1 (hK.2 8 (cA, .byte) rfl).2
  subst hcA
  obtain ⟨x1, x2⟩ := ahp_push (e' := .inl (1, N', .inl (fun _ => 0))) hD h3 hP
  exact kk q x2 (hD.2 ws.length _ (by rw [List.getElem?_append_right (Nat.le_refl _), Nat.sub_self]; rfl)) p e s m args below meth c H1 locs lsA F ⟨B.1, B.2.1, x1, hS⟩ L
theorem aw_newaC {z : Int} (n N' : Nat) (hz : z = (N' : Int)) (hN : N' ≤ 60000000) (hm : cells + 1 ≤ mc) (hs : slots + N' ≤ ms) (hd : decode mi.2.1 pc = .ok (.newarray .char, 2)) (hn : pc + 2 = n)
    (kk : ∀ q : Nat, h q = none → aA g q → AWc l g mi d mc ms Q X (cells + 1) (slots + N') (hset h q (.inl (2, N', .inl (fun _ => 0)))) n ls (.ref q :: st)) : AWc l g mi d mc ms Q X cells slots h pc ls (iv z :: st) := by
  subst hz
  subst hn
  intro p e s m args below meth c H locs lsA F B L
  obtain ⟨ws, h1, h2, h3⟩ := B.2.2.1
  have hb : (Int32.ofInt (N' : Int)).toInt = N' := i_to (by omega)
  refine va_newa (atype := .char) (ty := .char) (N' := N') (a0 := match av g.2.1 (.inl (2, N', .inl (fun _ => 0))) with | .inl y => y.2 | .inr _ => (0, .inl fun _ => 0)) F.2.1 F.2.2.1 (F.2.2.2.2.2.2.1 _ q2141) rfl B.1.1 h1 h2 B.2.2.2 (fun q hq => Nat.le_trans B.2.1 hq) (fun cA => rfl) ?_ ?_ (by show N' * 2 ≤ 536870912; omega) hm hs hd (fun q cA H1 hK hP hD hS => ?_)
  · rw [Int32.lt_iff_toInt_lt, hb]
    show ¬ (N' : Int) < 0
    omega
  · show (Int32.ofInt (N' : Int)).toInt.toNat = N'
    rw [hb]
    rfl
  have hcA : cA = g.2.1 2 := ty_same (t := 2) (by decide) B.1.1 (hK.2 8 (cA, .char) rfl).2
  subst hcA
  obtain ⟨x1, x2⟩ := ahp_push (e' := .inl (2, N', .inl (fun _ => 0))) hD h3 hP
  exact kk q x2 (hD.2 ws.length _ (by rw [List.getElem?_append_right (Nat.le_refl _), Nat.sub_self]; rfl)) p e s m args below meth c H1 locs lsA F ⟨B.1, B.2.1, x1, hS⟩ L
theorem aw_newaZ {z : Int} (n N' : Nat) (hz : z = (N' : Int)) (hN : N' ≤ 60000000) (hm : cells + 1 ≤ mc) (hs : slots + N' ≤ ms) (hd : decode mi.2.1 pc = .ok (.newarray .boolean, 2)) (hn : pc + 2 = n)
    (kk : ∀ q : Nat, h q = none → aA g q → AWc l g mi d mc ms Q X (cells + 1) (slots + N') (hset h q (.inl (3, N', .inl (fun _ => 0)))) n ls (.ref q :: st)) : AWc l g mi d mc ms Q X cells slots h pc ls (iv z :: st) := by
  subst hz
  subst hn
  intro p e s m args below meth c H locs lsA F B L
  obtain ⟨ws, h1, h2, h3⟩ := B.2.2.1
  have hb : (Int32.ofInt (N' : Int)).toInt = N' := i_to (by omega)
  refine va_newa (atype := .boolean) (ty := .boolean) (N' := N') (a0 := match av g.2.1 (.inl (3, N', .inl (fun _ => 0))) with | .inl y => y.2 | .inr _ => (0, .inl fun _ => 0)) F.2.1 F.2.2.1 (F.2.2.2.2.2.2.1 _ q2142) rfl B.1.1 h1 h2 B.2.2.2 (fun q hq => Nat.le_trans B.2.1 hq) (fun cA => rfl) ?_ ?_ (by show N' * 1 ≤ 536870912; omega) hm hs hd (fun q cA H1 hK hP hD hS => ?_)
  · rw [Int32.lt_iff_toInt_lt, hb]
    show ¬ (N' : Int) < 0
    omega
  · show (Int32.ofInt (N' : Int)).toInt.toNat = N'
    rw [hb]
    rfl
  have hcA : cA = g.2.1 3 := ty_same (t := 3) (by decide) B.1.1 (hK.2 8 (cA, .boolean) rfl).2
  subst hcA
  obtain ⟨x1, x2⟩ := ahp_push (e' := .inl (3, N', .inl (fun _ => 0))) hD h3 hP
  exact kk q x2 (hD.2 ws.length _ (by rw [List.getElem?_append_right (Nat.le_refl _), Nat.sub_self]; rfl)) p e s m args below meth c H1 locs lsA F ⟨B.1, B.2.1, x1, hS⟩ L
theorem aw_newaL {z : Int} (n N' : Nat) (hz : z = (N' : Int)) (hN : N' ≤ 60000000) (hm : cells + 1 ≤ mc) (hs : slots + N' ≤ ms) (hd : decode mi.2.1 pc = .ok (.newarray .long, 2)) (hn : pc + 2 = n)
    (kk : ∀ q : Nat, h q = none → aA g q → AWc l g mi d mc ms Q X (cells + 1) (slots + N') (hset h q (.inl (4, N', .inr (.inl (fun _ => 0))))) n ls (.ref q :: st)) : AWc l g mi d mc ms Q X cells slots h pc ls (iv z :: st) := by
  subst hz
  subst hn
  intro p e s m args below meth c H locs lsA F B L
  obtain ⟨ws, h1, h2, h3⟩ := B.2.2.1
  have hb : (Int32.ofInt (N' : Int)).toInt = N' := i_to (by omega)
  refine va_newa (atype := .long) (ty := .long) (N' := N') (a0 := match av g.2.1 (.inl (4, N', .inr (.inl (fun _ => 0)))) with | .inl y => y.2 | .inr _ => (0, .inl fun _ => 0)) F.2.1 F.2.2.1 (F.2.2.2.2.2.2.1 _ q2140) rfl B.1.1 h1 h2 B.2.2.2 (fun q hq => Nat.le_trans B.2.1 hq) (fun cA => rfl) ?_ ?_ (by show N' * 8 ≤ 536870912; omega) hm hs hd (fun q cA H1 hK hP hD hS => ?_)
  · rw [Int32.lt_iff_toInt_lt, hb]
    show ¬ (N' : Int) < 0
    omega
  · show (Int32.ofInt (N' : Int)).toInt.toNat = N'
    rw [hb]
    rfl
  have hcA : cA = g.2.1 4 := ty_same (t := 4) (by decide) B.1.1 (hK.2 8 (cA, .long) rfl).2
  subst hcA
  obtain ⟨x1, x2⟩ := ahp_push (e' := .inl (4, N', .inr (.inl (fun _ => 0)))) hD h3 hP
  exact kk q x2 (hD.2 ws.length _ (by rw [List.getElem?_append_right (Nat.le_refl _), Nat.sub_self]; rfl)) p e s m args below meth c H1 locs lsA F ⟨B.1, B.2.1, x1, hS⟩ L
theorem aw_newaD {z : Int} (n N' : Nat) (hz : z = (N' : Int)) (hN : N' ≤ 60000000) (hm : cells + 1 ≤ mc) (hs : slots + N' ≤ ms) (hd : decode mi.2.1 pc = .ok (.newarray .double, 2)) (hn : pc + 2 = n)
    (kk : ∀ q : Nat, h q = none → aA g q → AWc l g mi d mc ms Q X (cells + 1) (slots + N') (hset h q (.inl (5, N', .inr (.inr (.inl (fun _ => 0)))))) n ls (.ref q :: st)) : AWc l g mi d mc ms Q X cells slots h pc ls (iv z :: st) := by
  subst hz
  subst hn
  intro p e s m args below meth c H locs lsA F B L
  obtain ⟨ws, h1, h2, h3⟩ := B.2.2.1
  have hb : (Int32.ofInt (N' : Int)).toInt = N' := i_to (by omega)
  refine va_newa (atype := .double) (ty := .double) (N' := N') (a0 := match av g.2.1 (.inl (5, N', .inr (.inr (.inl (fun _ => 0))))) with | .inl y => y.2 | .inr _ => (0, .inl fun _ => 0)) F.2.1 F.2.2.1 (F.2.2.2.2.2.2.1 _ q2652) rfl B.1.1 h1 h2 B.2.2.2 (fun q hq => Nat.le_trans B.2.1 hq) (fun cA => rfl) ?_ ?_ (by show N' * 8 ≤ 536870912; omega) hm hs hd (fun q cA H1 hK hP hD hS => ?_)
  · rw [Int32.lt_iff_toInt_lt, hb]
    show ¬ (N' : Int) < 0
    omega
  · show (Int32.ofInt (N' : Int)).toInt.toNat = N'
    rw [hb]
    rfl
  have hcA : cA = g.2.1 5 := ty_same (t := 5) (by decide) B.1.1 (hK.2 8 (cA, .double) rfl).2
  subst hcA
  obtain ⟨x1, x2⟩ := ahp_push (e' := .inl (5, N', .inr (.inr (.inl (fun _ => 0))))) hD h3 hP
  exact kk q x2 (hD.2 ws.length _ (by rw [List.getElem?_append_right (Nat.le_refl _), Nat.sub_self]; rfl)) p e s m args below meth c H1 locs lsA F ⟨B.1, B.2.1, x1, hS⟩ L
theorem aw_newq {z : Int} {idx : Nat} (n N' : Nat) (hz : z = (N' : Int)) (hN : N' ≤ 60000000) (hcl : Cond.classLink mi.1.cls idx "java/lang/Object" ∈ lw_all) (hm : cells + 1 ≤ mc) (hs : slots + N' ≤ ms) (hd : decode mi.2.1 pc = .ok (.anewarray idx, 3)) (hn : pc + 3 = n)
    (kk : ∀ q : Nat, h q = none → aA g q → AWc l g mi d mc ms Q X (cells + 1) (slots + N') (hset h q (.inl (6, N', .inr (.inr (.inr (fun _ => none)))))) n ls (.ref q :: st)) : AWc l g mi d mc ms Q X cells slots h pc ls (iv z :: st) := by
  subst hz
  subst hn
  intro p e s m args below meth c H locs lsA F B L
  obtain ⟨ws, h1, h2, h3⟩ := B.2.2.1
  have hb : (Int32.ofInt (N' : Int)).toInt = N' := i_to (by omega)
  refine va_newq (N' := N') F.2.1 F.2.2.1 F.2.2.2.2.2.1 (F.2.2.2.2.2.2.1 _ hcl) B.1.2.2.2.1.1 B.1.1 h1 h2 B.2.2.2 (fun q hq => Nat.le_trans B.2.1 hq) ?_ ?_ (by omega) hm hs hd (fun q cA H1 hK hP hD hS => ?_)
  · rw [Int32.lt_iff_toInt_lt, hb]
    show ¬ (N' : Int) < 0
    omega
  · show (Int32.ofInt (N' : Int)).toInt.toNat = N'
    rw [hb]
    rfl
  have hcA : cA = g.2.1 6 := ty_same (t := 6) (by decide) B.1.1 (hK.2 8 (cA, .object "java/lang/Object") rfl).2
  subst hcA
  obtain ⟨x1, x2⟩ := ahp_push (e' := .inl (6, N', .inr (.inr (.inr (fun _ => none))))) hD h3 hP
  exact kk q x2 (hD.2 ws.length _ (by rw [List.getElem?_append_right (Nat.le_refl _), Nat.sub_self]; rfl)) p e s m args below meth c H1 locs lsA F ⟨B.1, B.2.1, x1, hS⟩ L
/-! casts -/
theorem aw_castY {a ci idx : Nat} {fs : List Value} {r : vw_C} {nm : String} (n : Nat) (hr : RD g h a (.inr (ci, fs))) (hc : clG[ci]? = some r) (hlink : Cond.classLink mi.1.cls idx nm ∈ lw_all) (hca : Cond.castable r.1 nm ∈ lw_tbl) (hd : decode mi.2.1 pc = .ok (.checkcast idx, 3)) (hn : pc + 3 = n)
    (kk : AWc l g mi d mc ms Q X cells slots h n ls (.ref a :: st)) : AWc l g mi d mc ms Q X cells slots h pc ls (.ref a :: st) := by
  subst hn
  intro p e s m args below meth c H locs lsA F B L
  exact va_castY F.2.1 F.2.2.1 F.2.2.2.2.2.1 (F.2.2.2.2.2.2.1 _ hlink) (B.1.2.2.1 _ hca rfl) (B.recv hr hc) hd (kk p e s m args below meth c H locs lsA F B L)
theorem aw_castS {a ci idx : Nat} {fs : List Value} {r : vw_C} (n : Nat) (hr : RD g h a (.inr (ci, fs))) (hc : clG[ci]? = some r) (hlink : Cond.classLink mi.1.cls idx r.1 ∈ lw_all) (hd : decode mi.2.1 pc = .ok (.checkcast idx, 3)) (hn : pc + 3 = n)
    (kk : AWc l g mi d mc ms Q X cells slots h n ls (.ref a :: st)) : AWc l g mi d mc ms Q X cells slots h pc ls (.ref a :: st) := by
  subst hn
  intro p e s m args below meth c H locs lsA F B L
  exact va_castS F.2.1 F.2.2.1 F.2.2.2.2.2.1 (F.2.2.2.2.2.2.1 _ hlink) (B.1.1.1 ci r hc).2 (B.recv hr hc) hd (kk p e s m args below meth c H locs lsA F B L)
theorem aw_castN {idx : Nat} (n : Nat) (hd : decode mi.2.1 pc = .ok (.checkcast idx, 3)) (hn : pc + 3 = n) (kk : AWc l g mi d mc ms Q X cells slots h n ls (.null :: st)) : AWc l g mi d mc ms Q X cells slots h pc ls (.null :: st) := by
  subst hn
  intro p e s m args below meth c H locs lsA F B L
  exact lv_castN F.2.1 F.2.2.1 hd (kk p e s m args below meth c H locs lsA F B L)
theorem aw_instS {a ci idx : Nat} {fs : List Value} {r : vw_C} (n : Nat) (hr : RD g h a (.inr (ci, fs))) (hc : clG[ci]? = some r) (hlink : Cond.classLink mi.1.cls idx r.1 ∈ lw_all) (hd : decode mi.2.1 pc = .ok (.instanceof idx, 3)) (hn : pc + 3 = n)
    (kk : AWc l g mi d mc ms Q X cells slots h n ls (iv 1 :: st)) : AWc l g mi d mc ms Q X cells slots h pc ls (.ref a :: st) := by
  subst hn
  intro p e s m args below meth c H locs lsA F B L
  exact va_instS F.2.1 F.2.2.1 F.2.2.2.2.2.1 (F.2.2.2.2.2.2.1 _ hlink) (B.1.1.1 ci r hc).2 (B.recv hr hc) hd (kk p e s m args below meth c H locs lsA F B L)
theorem aw_objInit {a idx : Nat} (n : Nat) (hlink : Cond.methodLink mi.1.cls idx Lib.objectInit ∈ lw_all) (hls : 1 ≤ d) (hst : (st.map fun v => v.category).sum ≤ 40) (hd : decode mi.2.1 pc = .ok (.invokespecial idx, 3)) (hn : pc + 3 = n)
    (kk : AWc l g mi d mc ms Q X cells slots h n ls st) : AWc l g mi d mc ms Q X cells slots h pc ls (.ref a :: st) := by
  subst hn
  intro p e s m args below meth c H locs lsA F B L
  refine W.objInit F.2.1 F.2.2.1 F.2.2.2.2.2.1 (F.2.2.2.2.2.2.1 _ hlink) (F.2.2.2.2.2.2.1 _ q158) (F.2.2.2.2.2.2.1 _ q159) rfl (L.1.trans F.2.2.2.2.1.symm) rfl hd hls ?_ (kk p e s m args below meth c H locs lsA F B L)
  show 2 * (F0 m pc lsA _).monitorRoom + (st.map fun v => v.category).sum + 12 ≤ 64 * d
  have : 2 * (F0 m pc lsA (.ref a :: st)).monitorRoom + 0 ≤ 8 := lv_room (st := []) (by decide)
  omega
end ACELLS
