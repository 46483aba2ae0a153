/-! THE LAYER: one picture h of the known cells; the kit's rows over it, once for all -/
set_option maxRecDepth 100000
abbrev AE : Type := (Nat × Nat × ((Nat → Int) ⊕ (Nat → Int) ⊕ (Nat → UInt64) ⊕ (Nat → Option Nat))) ⊕ (Nat × List Value)
abbrev AH : Type := Nat → Option AE
/-- the numbers of a run: tables' numbers, array kinds' numbers, the first own address, statics' values, literals' addresses, what is only read -/
abbrev AG : Type := va_G × (Nat → ClassId) × Nat × (Nat → Value) × (Nat → Nat) × AH
abbrev iv (z : Int) : Value := .int (Int32.ofInt z)
abbrev jv (z : Int) : Value := .long (Int64.ofInt z)
def av (dA : Nat → ClassId) (e : AE) : va_E := match e with
  | .inl (t, n, .inl f) => .inl (dA t, n, .inl (fun k => Int32.ofInt (f k)))
  | .inl (t, n, .inr (.inl f)) => .inl (dA t, n, .inr (.inl (fun k => Int64.ofInt (f k))))
  | .inl (t, n, .inr (.inr (.inl f))) => .inl (dA t, n, .inr (.inr (.inr (.inl f))))
  | .inl (t, n, .inr (.inr (.inr f))) => .inl (dA t, n, .inr (.inr (.inr (.inr f))))
  | .inr o => .inr o
/-- what place j of an array cell holds -/
def aval (x : (Nat → Int) ⊕ (Nat → Int) ⊕ (Nat → UInt64) ⊕ (Nat → Option Nat)) (j : Nat) : Value := match x with
  | .inl f => iv (f j)
  | .inr (.inl f) => jv (f j)
  | .inr (.inr (.inl f)) => .double (f j)
  | .inr (.inr (.inr f)) => va_rf (f j)
def hset (h : AH) (a : Nat) (e : AE) : AH := fun q => if q = a then some e else h q
theorem hset_s (h : AH) (a : Nat) (e : AE) : hset h a e a = some e := by simp [hset]
theorem hset_n {h : AH} {a b : Nat} {e : AE} (n : b ≠ a) : hset h a e b = h b := by simp [hset, n]
theorem hset_hset (h : AH) (a : Nat) (e e' : AE) : hset (hset h a e) a e' = hset h a e' := by
  funext q
  by_cases hq : q = a <;> simp [hset, hq]
theorem hset_comm (h : AH) {a b : Nat} (e e' : AE) (n : a ≠ b) : hset (hset h a e) b e' = hset (hset h b e') a e := by
  funext q
  by_cases hq : q = a
  · subst hq; simp [hset, n]
  · by_cases hq2 : q = b
    · subst hq2; simp [hset, hq]
    · simp [hset, hq, hq2]
theorem hset_id {h : AH} {a : Nat} {e : AE} (x : h a = some e) : hset h a e = h := by
  funext q
  by_cases hq : q = a
  · subst hq; simp [hset, x]
  · simp [hset, hq]
def clG : List vw_C := [(RX1, TX1, 7), (RX2, TX2, 4), (RX3, TX3, 4), (RX4, TX4, 36), (RX5, TX5, 8), (RX6, TX6, 7), (RX7, TX7, 6), (RX8, TX8, 4), (RX9, TX9, 6), (RX10, TX10, 3), (RX11, TX11, 5), (RX12, TX12, 4), (RX14, TX14, 1), (RX15, TX15, 1), (RX16, TX16, 1), (RJ2, TJ2, 3), (RJ24, TJ24, 4), (RJ18, TJ18, 3), (RJ8, TJ8, 4), (RJ9, TJ9, 4), (RJ17, TJ17, 1)]
def tyG (dA : Nat → ClassId) : List (ClassId × FieldType) := [(dA 0, .int), (dA 1, .byte), (dA 2, .char), (dA 3, .boolean), (dA 4, .long), (dA 5, .double), (dA 6, .object "java/lang/Object"), (dA 7, .array .int)]
def tyL : Nat → FieldType := fun k => match k with
  | 0 => .int
  | 1 => .byte
  | 2 => .char
  | 3 => .boolean
  | 4 => .long
  | 5 => .double
  | 6 => .object "java/lang/Object"
  | 7 => .array .int
  | _ => .object "java/lang/Integer"
def stL : List (String × String × String) := [("java/lang/String", "COMPACT_STRINGS", "Z"), ("java/lang/Integer$IntegerCache", "high", "I"), ("java/lang/Integer$IntegerCache", "cache", "[Ljava/lang/Integer;"), ("java/lang/Integer", "DigitTens", "[B"), ("java/lang/Integer", "DigitOnes", "[B")]
def fwL : List (String × MethodName × MethodName) := [("CameraMoves$Plan$1", ⟨"java/util/Iterator", "hasNext", "()Z"⟩, ⟨"CameraMoves$Plan$1", "hasNext", "()Z"⟩), ("CameraMoves$Plan$1", ⟨"java/util/Iterator", "next", "()Ljava/lang/Object;"⟩, ⟨"CameraMoves$Plan$1", "next", "()Ljava/lang/Object;"⟩), ("java/util/ArrayList$Itr", ⟨"java/util/Iterator", "hasNext", "()Z"⟩, ⟨"java/util/ArrayList$Itr", "hasNext", "()Z"⟩), ("java/util/ArrayList$Itr", ⟨"java/util/Iterator", "next", "()Ljava/lang/Object;"⟩, ⟨"java/util/ArrayList$Itr", "next", "()Ljava/lang/Object;"⟩)]
def eIOB : String := "java/lang/IndexOutOfBoundsException"
def eIAE : String := "java/lang/IllegalArgumentException"
def eISE : String := "java/lang/IllegalStateException"
def eNSE : String := "java/util/NoSuchElementException"
def eTXT : String := "CameraMoves$TextException"
def ncL : List (String × String) := [("java/lang/IllegalArgumentException", "java/lang/IndexOutOfBoundsException"), ("java/util/NoSuchElementException", "java/lang/IndexOutOfBoundsException"), ("java/lang/IllegalStateException", "java/lang/IndexOutOfBoundsException"), ("java/util/NoSuchElementException", "java/lang/IllegalArgumentException"), ("java/lang/IllegalStateException", "java/lang/IllegalArgumentException")]
def rfL : List (String × Nat × String) := [("CameraMoves", 366, ""), ("CameraMoves", 368, "; "), ("CameraMoves", 384, " !"), ("CameraMoves$Parser", 29, ""), ("CameraMoves$Parser", 130, "axis"), ("CameraMoves$Parser", 132, "cue"), ("CameraMoves$Parser", 134, "wall"), ("CameraMoves$Parser", 136, "pass")]
def nwK : Cond → Bool
  | .fieldLinkNest .. => true
  | .methodLinkNest .. => true
  | .castable .. => true
  | .declares .. => true
  | _ => false
def aA (g : AG) : Nat → Prop := fun q => g.2.2.1 ≤ q
/-- a cell that is only read, as far as reading needs it -/
def wat (g : AG) (s : State) (a : Nat) (e : AE) (H : Heap) : Prop := match e with
  | .inr o => ∃ (r : vw_C) (cell : Cell), clG[o.1]? = some r ∧ H[a]? = some cell ∧ cell.vm.isStatics = false ∧ cell.vm ≠ .unknown ∧ cell.cls = g.1.1 o.1 ∧ ∀ k, k < r.2.2 → cell.slots[g.1.2 o.1 k]? = some (vp_V o.2 k)
  | .inl (t, n, x) => ∃ cell : Cell, H[a]? = some cell ∧ s.isArrayOf cell (tyL t) ∧ cell.vm ≠ .unknown ∧ n ≤ cell.slots.size ∧ cell.slots.size.toInt32 = Int32.ofNat n ∧ ∀ j, j < n → cell.slots[j]? = some (aval x j)
/-- the own cells -/
def AHP (g : AG) (h : AH) (H : Heap) : Prop := ∃ ws : va_W, va_P g.1 clG ws H ∧ va_D (aA g) ws ∧ ∀ a e, h a = some e → (a, av g.2.1 e) ∈ ws
/-- all else that holds through the run -/
def AK (g : AG) (s : State) (H : Heap) : Prop :=
  va_K g.1 clG (tyG g.2.1) s ∧
  (∀ (k : Nat) (q : String × String × String), stL[k]? = some q → va_Z q.1 q.2.1 q.2.2 (g.2.2.2.1 k) (aA g) s H) ∧
  (∀ w, w ∈ lw_tbl → nwK w = true → va_Nw w s) ∧
  (va_AO "java/lang/Object" s ∧ (Cond.arrayOver (.array .int)).before #[] s = true) ∧
  (∀ (k : Nat) (q : String × MethodName × MethodName), fwL[k]? = some q → va_Fw q.1 q.2.1 q.2.2 s) ∧
  (∀ (k : Nat) (q : String × String), ncL[k]? = some q → va_Nc q.1 q.2 s) ∧
  (∀ (k : Nat) (q : String × Nat × String), rfL[k]? = some q → vk_R q.1 q.2.1 q.2.2 (g.2.2.2.2.1 k) s) ∧
  (vx_Zq Bundle.tN "UNASSIGNED_STACK" Bundle.steD (aA g) s H ∧ vx_Zq Bundle.tN "SUPPRESSED_SENTINEL" Bundle.listD (aA g) s H) ∧
  ∀ (a : Nat) (e : AE), g.2.2.2.2.2 a = some e → ¬ aA g a ∧ wat g s a e H
theorem wat.lt {g : AG} {s : State} {a : Nat} {e : AE} {H : Heap} (h : wat g s a e H) : a < H.size := by
  rcases e with ⟨t, n, x⟩ | o
  · obtain ⟨cell, h1, -⟩ := h
    exact (Array.getElem?_eq_some_iff.mp h1).1
  · obtain ⟨r, cell, -, h1, -⟩ := h
    exact (Array.getElem?_eq_some_iff.mp h1).1
theorem wat.moved {g : AG} {s U : State} {a : Nat} {e : AE} {H H1 : Heap} (hvm : s.vm.Alike U.vm) (hq : H1[a]? = H[a]?) (h : wat g s a e H) : wat g U a e H1 := by
  rcases e with ⟨t, n, x⟩ | o
  · obtain ⟨cell, h1, h2, h3⟩ := h
    exact ⟨cell, by rw [hq]; exact h1, State.isArrayOf_alike hvm h2, h3⟩
  · obtain ⟨r, cell, h0, h1, h2⟩ := h
    exact ⟨r, cell, h0, by rw [hq]; exact h1, h2⟩
theorem aAO_moved {u U : State} (hvm : u.vm.Alike U.vm) (h : (Cond.arrayOver (.array .int)).before #[] u = true) : (Cond.arrayOver (.array .int)).before #[] U = true := by
  have tr : (Cond.arrayOver (.array .int)).before #[] (u.setVm U.vm) = true := by
    simp only [Cond.before, Cond.holds, Cond.value, beq_iff_eq] at h ⊢
    cases hc : u.vm.findClass (FieldType.array .int).toString with
    | none => simp [hc] at h
    | some comp =>
      simp only [hc, Option.bind_some, Option.bind_eq_some_iff, Option.map_eq_some_iff] at h
      obtain ⟨c, hi, k, hk, hb⟩ := h
      obtain ⟨k', hk', he⟩ := hvm.2.2 _ _ hk
      have f1 : (u.setVm U.vm).vm.findClass (FieldType.array .int).toString = some comp := by
        show U.vm.findClass _ = _
        rw [hvm.findClass]
        exact hc
      have f2 : (U.vm.classes.findIdx? fun (x : Class) => match x.kind with | .array component _ => component == comp | _ => false) = some c := by
        have e1 := va_idx_bare U.vm comp
        have e2 := va_idx_bare u.vm comp
        have e3 : U.vm.bare = u.vm.bare := by first | exact hvm.bare_eq | exact hvm.bare_eq.symm
        rw [e3] at e1
        exact (e1.symm.trans e2).trans hi
      have f3 : U.vm.findClass ("[" ++ (FieldType.array .int).toString) = u.vm.findClass ("[" ++ (FieldType.array .int).toString) := by rw [hvm.findClass]
      simp only [f1, Option.bind_some, Option.bind_eq_some_iff, Option.map_eq_some_iff]
      refine ⟨c, f2, k', hk', ?_⟩
      show (match k'.kind with | .array _ ty => decide (ty = FieldType.array .int) && decide (U.vm.findClass ("[" ++ (FieldType.array .int).toString) = some c) | _ => false) = true
      rw [he, f3]
      exact hb
  simp only [Cond.before, Cond.holds, Cond.value] at tr ⊢
  exact tr
theorem AK.moved {g : AG} {s U : State} {H H1 : Heap} (hW : s.WarmedH U.vm) (hq : ∀ q : Nat, q < H.size → ¬ aA g q → H1[q]? = H[q]?) (h : AK g s H) : AK g U H1 := by
  obtain ⟨h1, h2, h3, ⟨h4, h4'⟩, h5, h6, h7, ⟨h8, h8'⟩, h9⟩ := h
  refine ⟨h1.moved hW.alike, fun k q hk => (h2 k q hk).moved hW.alike |>.kept hq, fun w hw hn => ?_, ⟨h4.moved hW.alike, aAO_moved hW.alike h4'⟩, fun k q hk => ?_, fun k q hk => (h6 k q hk).moved hW.alike, fun k q hk => (h7 k q hk).warm hW, ⟨(h8.moved hW.alike).kept hq, (h8'.moved hW.alike).kept hq⟩, fun a e he => ⟨(h9 a e he).1, ?_⟩⟩
  · have hz := h3 w hw hn
    cases w <;> first | exact va_Nw.warmF hW hz | exact va_Nw.warmM hW hz | exact va_Nw.warmC hW hz | exact va_Nw.warmD hW hz | (simp [nwK] at hn)
  · refine va_Fw.moved ?_ hW.alike (h5 k q hk)
    have hm := List.mem_of_getElem? hk
    simp only [fwL, List.mem_cons, List.not_mem_nil, or_false] at hm
    rcases hm with rfl | rfl | rfl | rfl <;> exact ⟨by decide, by decide⟩
  · have hw := (h9 a e he).2
    exact hw.moved hW.alike (hq a hw.lt (h9 a e he).1)
theorem AK.calling {g : AG} {U : State} {f : JFrame} {mk : MethodId} {a : Array Value} {H : Heap} (h : AK g U H) : AK g (U.calling f mk a) H :=
  h.moved (State.WarmedH.refl U) (fun _ _ _ => rfl)
/-! ### the cells -/
theorem AHP.at' {g : AG} {h : AH} {H : Heap} (hp : AHP g h H) {a : Nat} {e : AE} (he : h a = some e) : va_at g.1 clG (a, av g.2.1 e) H ∧ aA g a := by
  obtain ⟨ws, h1, h2, h3⟩ := hp
  obtain ⟨i, hi⟩ := List.getElem?_of_mem (h3 a e he)
  exact ⟨h1 i _ hi, h2.2 i _ hi⟩
theorem AHP.lt {g : AG} {h : AH} {H : Heap} (hp : AHP g h H) {a : Nat} {e : AE} (he : h a = some e) : a < H.size := (hp.at' he).1.lt
theorem AHP.less {g : AG} {h h' : AH} {H : Heap} (hp : AHP g h H) (hh : ∀ a e, h' a = some e → h a = some e) : AHP g h' H := by
  obtain ⟨ws, h1, h2, h3⟩ := hp
  exact ⟨ws, h1, h2, fun a e he => h3 a e (hh a e he)⟩
theorem ahp_set {g : AG} {h : AH} {ws : va_W} {H1 : Heap} {q0 a : Nat} {e e' : AE} (h2 : va_D (aA g) ws) (h3 : ∀ b x, h b = some x → (b, av g.2.1 x) ∈ ws) (hq : ws[q0]? = some (a, av g.2.1 e)) (hP : va_P g.1 clG (ws.set q0 (a, av g.2.1 e')) H1) : AHP g (hset h a e') H1 := by
  refine ⟨_, hP, h2.set hq, fun b x hb => ?_⟩
  have hl := (List.getElem?_eq_some_iff.mp hq).1
  by_cases hba : b = a
  · subst hba
    rw [hset_s] at hb
    cases hb
    exact List.mem_of_getElem? (List.getElem?_set_self hl)
  · rw [hset_n hba] at hb
    obtain ⟨i, hi⟩ := List.getElem?_of_mem (h3 b x hb)
    have hne : q0 ≠ i := by
      intro z
      subst z
      rw [hq] at hi
      exact hba (congrArg Prod.fst (Option.some.inj hi)).symm
    exact List.mem_of_getElem? (i := i) (by rw [List.getElem?_set_ne hne]; exact hi)
theorem ahp_push {g : AG} {h : AH} {ws : va_W} {H1 : Heap} {a : Nat} {e' : AE} (hD : va_D (aA g) (ws ++ [(a, av g.2.1 e')])) (h3 : ∀ b x, h b = some x → (b, av g.2.1 x) ∈ ws) (hP : va_P g.1 clG (ws ++ [(a, av g.2.1 e')]) H1) : AHP g (hset h a e') H1 ∧ h a = none := by
  refine ⟨⟨_, hP, hD, fun b x hb => ?_⟩, ?_⟩
  · by_cases hba : b = a
    · subst hba
      rw [hset_s] at hb
      cases hb
      exact List.mem_append_right _ List.mem_cons_self
    · rw [hset_n hba] at hb
      exact List.mem_append_left _ (h3 b x hb)
  · cases hx : h a with
    | none => rfl
    | some x =>
      obtain ⟨i, hi⟩ := List.getElem?_of_mem (h3 a x hx)
      have hl := (List.getElem?_eq_some_iff.mp hi).1
      have := hD.1 i ws.length (a, av g.2.1 x) (a, av g.2.1 e') (by rw [List.getElem?_append_left hl]; exact hi) (by rw [List.getElem?_append_right (Nat.le_refl _), Nat.sub_self]; rfl) rfl
      omega
/-- what may be read: an own cell, or one that is only read -/
def RD (g : AG) (h : AH) (a : Nat) (e : AE) : Prop := h a = some e ∨ g.2.2.2.2.2 a = some e
theorem av_arr {dA : Nat → ClassId} {t n : Nat} {x : (Nat → Int) ⊕ (Nat → Int) ⊕ (Nat → UInt64) ⊕ (Nat → Option Nat)} : ∃ y : vp_A, av dA (.inl (t, n, x)) = .inl (dA t, y) ∧ vp_cell (dA t) y = arrV (dA t) n (aval x) := by
  rcases x with f | f | f | f
  · exact ⟨(n, .inl (fun k => Int32.ofInt (f k))), rfl, rfl⟩
  · exact ⟨(n, .inr (.inl (fun k => Int64.ofInt (f k)))), rfl, rfl⟩
  · exact ⟨(n, .inr (.inr (.inr (.inl f)))), rfl, rfl⟩
  · exact ⟨(n, .inr (.inr (.inr (.inr f)))), rfl, rfl⟩
theorem tyG_at (dA : Nat → ClassId) {t : Nat} (ht : t < 8) : (tyG dA)[t]? = some (dA t, tyL t) := by
  match t, ht with
  | 0, _ => rfl
  | 1, _ => rfl
  | 2, _ => rfl
  | 3, _ => rfl
  | 4, _ => rfl
  | 5, _ => rfl
  | 6, _ => rfl
  | 7, _ => rfl
/-- an array cell, as reading needs it -/
def wArr (s : State) (t n : Nat) (x : (Nat → Int) ⊕ (Nat → Int) ⊕ (Nat → UInt64) ⊕ (Nat → Option Nat)) (a : Nat) (H : Heap) : Prop := ∃ cell : Cell, H[a]? = some cell ∧ s.isArrayOf cell (tyL t) ∧ cell.vm ≠ .unknown ∧ n ≤ cell.slots.size ∧ cell.slots.size.toInt32 = Int32.ofNat n ∧ ∀ j, j < n → cell.slots[j]? = some (aval x j)
/-- the base: s is the method's start, H the cells now -/
def AB (g : AG) (s : State) (h : AH) (H : Heap) (locs : List Loc) : Prop := AK g s s.heap ∧ g.2.2.1 ≤ s.heap.size ∧ AHP g h H ∧ va_S (aA g) s.heap H locs
theorem AB.k {g : AG} {s : State} {h : AH} {H : Heap} {locs : List Loc} (b : AB g s h H locs) : AK g s H := b.1.moved (State.WarmedH.refl s) b.2.2.2.2.1
theorem AB.arr {g : AG} {s : State} {h : AH} {H : Heap} {locs : List Loc} (b : AB g s h H locs) {a t n : Nat} {x : (Nat → Int) ⊕ (Nat → Int) ⊕ (Nat → UInt64) ⊕ (Nat → Option Nat)} (ht : t < 8) (hr : RD g h a (.inl (t, n, x))) : wArr s t n x a H := by
  rcases hr with hr | hr
  · have h1 := (b.2.2.1.at' hr).1
    obtain ⟨y, e1, e2⟩ := av_arr (dA := g.2.1) (t := t) (n := n) (x := x)
    rw [e1] at h1
    have h2 : H[a]? = some (vp_cell (g.2.1 t) y) := h1
    rw [e2] at h2
    refine ⟨_, h2, (b.1.1.2 t _ (tyG_at _ ht)).1 n _, (fun q => by cases q), ?_, ?_, fun j hj => arrV_read _ _ hj⟩
    · rw [arrV_size]; exact Nat.le_refl n
    · rw [arrV_size] <;> rfl
  · exact (b.k.2.2.2.2.2.2.2.2 a _ hr).2
/-- of the ninth kind (the small Integers' row) -/
theorem AB.arr9 {g : AG} {s : State} {h : AH} {H : Heap} {locs : List Loc} (b : AB g s h H locs) {a t n : Nat} {x : (Nat → Int) ⊕ (Nat → Int) ⊕ (Nat → UInt64) ⊕ (Nat → Option Nat)} (hr : g.2.2.2.2.2 a = some (.inl (t, n, x))) : wArr s t n x a H := (b.k.2.2.2.2.2.2.2.2 a _ hr).2
/-- an object, as reading needs it -/
theorem AB.obj {g : AG} {s : State} {h : AH} {H : Heap} {locs : List Loc} (b : AB g s h H locs) {a ci : Nat} {fs : List Value} (hr : RD g h a (.inr (ci, fs))) : ∃ (r : vw_C) (cell : Cell), clG[ci]? = some r ∧ H[a]? = some cell ∧ cell.vm.isStatics = false ∧ cell.vm ≠ .unknown ∧ cell.cls = g.1.1 ci ∧ ∀ k, k < r.2.2 → cell.slots[g.1.2 ci k]? = some (vp_V fs k) := by
  rcases hr with hr | hr
  · obtain ⟨r, h1, cell, q1, q2, q3, q4⟩ := (b.2.2.1.at' hr).1
    exact ⟨r, cell, h1, q1, by rw [q3]; rfl, (by rw [q3]; exact fun z => by cases z), q2, q4⟩
  · exact (b.k.2.2.2.2.2.2.2.2 a _ hr).2
/-- the receiver of a call, of the known row ci -/
theorem AB.recv {g : AG} {s : State} {h : AH} {H : Heap} {locs : List Loc} (b : AB g s h H locs) {a ci : Nat} {fs : List Value} {r : vw_C} (hr : RD g h a (.inr (ci, fs))) (hc : clG[ci]? = some r) : ∃ cell : Cell, H[a]? = some cell ∧ cell.vm.isStatics = false ∧ s.vm.findClass r.1 = some cell.cls := by
  obtain ⟨r', cell, h1, h2, h3, -, h5, -⟩ := b.obj hr
  cases h1.symm.trans hc
  exact ⟨cell, h2, h3, by rw [h5]; exact (b.1.1.1 ci r hc).2.1⟩
