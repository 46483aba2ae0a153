/-! THE WALK over the picture: AWc is the kit's W with all that stays the same put away -/
set_option maxRecDepth 100000
/-- a method: name, bytes, locals, answer, handlers -/
abbrev MI : Type := MethodName × ByteArray × Nat × Option FieldType × List (Nat × Nat × Nat × Nat)
def wsM (mi : MI) : List Cond := match mi.2.2.2.2 with
  | [] => ws_ mi.1 mi.2.1 mi.2.2.1 mi.2.2.2.1
  | hh => wsW_ mi.1 mi.2.1 mi.2.2.1 mi.2.2.2.1 hh
abbrev rmD (d mc ms : Nat) : Room := { frames := d, cells := mc, slots := ms, locals := 64 * d }
def as_ : Nat → List (Option Value) → List (Nat × Value)
  | _, [] => []
  | i, some v :: r => (i, v) :: as_ (i + 1) r
  | i, none :: r => as_ (i + 1) r
theorem as_mem {l : List (Option Value)} : ∀ {k j : Nat} {v : Value}, (j, v) ∈ as_ k l ↔ k ≤ j ∧ l[j - k]? = some (some v) := by
  induction l with
  | nil => intro k j v; simp [as_]
  | cons a r ih =>
    intro k j v
    cases a with
    | none =>
      simp only [as_]
      rw [ih]
      constructor
      · rintro ⟨h1, h2⟩
        refine ⟨by omega, ?_⟩
        rw [show j - k = (j - (k + 1)) + 1 by omega, List.getElem?_cons_succ]
        exact h2
      · rintro ⟨h1, h2⟩
        rcases Nat.eq_or_lt_of_le h1 with e | e
        · subst e
          rw [Nat.sub_self] at h2
          cases h2
        · refine ⟨e, ?_⟩
          rw [show j - k = (j - (k + 1)) + 1 by omega, List.getElem?_cons_succ] at h2
          exact h2
    | some w =>
      simp only [as_, List.mem_cons]
      rw [ih]
      constructor
      · rintro (h | ⟨h1, h2⟩)
        · cases h
          exact ⟨Nat.le_refl _, by rw [Nat.sub_self]; rfl⟩
        · refine ⟨by omega, ?_⟩
          rw [show j - k = (j - (k + 1)) + 1 by omega, List.getElem?_cons_succ]
          exact h2
      · rintro ⟨h1, h2⟩
        rcases Nat.eq_or_lt_of_le h1 with e | e
        · subst e
          rw [Nat.sub_self, List.getElem?_cons_zero] at h2
          cases h2
          exact Or.inl rfl
        · refine Or.inr ⟨e, ?_⟩
          rw [show j - k = (j - (k + 1)) + 1 by omega, List.getElem?_cons_succ] at h2
          exact h2
def AL (lsA : Array Slot) (n : Nat) (ls : List (Option Value)) : Prop := lv_has lsA n (as_ 0 ls)
theorem AL.at' {lsA : Array Slot} {n : Nat} {ls : List (Option Value)} (h : AL lsA n ls) {i : Nat} {v : Value} (hi : ls[i]? = some (some v)) : lsA[i]? = some (.val v) :=
  h.2.2 (i, v) (as_mem.mpr ⟨Nat.zero_le _, by simpa using hi⟩)
theorem AL.less {lsA : Array Slot} {n : Nat} {l : List (Nat × Value)} {ls : List (Option Value)} (h : lv_has lsA n l) (hl : ∀ (j : Nat) (v : Value), ls[j]? = some (some v) → (j, v) ∈ l) : AL lsA n ls :=
  ⟨h.1, h.2.1, fun q hq => h.2.2 q (hl q.1 q.2 (by have := (as_mem (k := 0) (j := q.1) (v := q.2)).mp hq; simpa using this.2))⟩
/-- ls' is ls with v at i, for a value of one word -/
def AS (i : Nat) (v : Value) (ls ls' : List (Option Value)) : Prop := ls'[i]? = some (some v) ∧ ∀ (j : Nat) (w : Value), j ≠ i → ls'[j]? = some (some w) → ls[j]? = some (some w) ∧ ¬ (j + 1 = i ∧ w.category = 2)
/-- for a value of two words -/
def AS2 (i : Nat) (v : Value) (ls ls' : List (Option Value)) : Prop := ls'[i]? = some (some v) ∧ ∀ (j : Nat) (w : Value), j ≠ i → ls'[j]? = some (some w) → ls[j]? = some (some w) ∧ j ≠ i + 1 ∧ ¬ (j + 1 = i ∧ w.category = 2)
theorem AS.to {i : Nat} {v : Value} {ls ls' : List (Option Value)} {lsA : Array Slot} {n : Nat} (s : AS i v ls ls') (h : lv_has lsA n ((i, v) :: (as_ 0 ls).filter (fun q => !(q.1 == i) && !(q.1 + 1 == i && q.2.category == 2)))) : AL lsA n ls' := by
  refine AL.less h (fun j w hj => ?_)
  by_cases hji : j = i
  · subst hji
    rw [s.1] at hj
    cases hj
    exact List.mem_cons_self
  · obtain ⟨h1, h2⟩ := s.2 j w hji hj
    refine List.mem_cons_of_mem _ (List.mem_filter.mpr ⟨as_mem.mpr ⟨Nat.zero_le _, by simpa using h1⟩, ?_⟩)
    simp only [Bool.and_eq_true, Bool.not_eq_true', beq_eq_false_iff_ne, Bool.and_eq_false_iff]
    refine ⟨hji, ?_⟩
    by_cases hc : j + 1 = i
    · right
      exact fun z => h2 ⟨hc, z⟩
    · left
      exact hc
theorem AS2.to {i : Nat} {v : Value} {ls ls' : List (Option Value)} {lsA : Array Slot} {n : Nat} (s : AS2 i v ls ls') (h : lv_has lsA n ((i, v) :: (as_ 0 ls).filter (fun q => !(q.1 == i) && (!(q.1 == i + 1) && !(q.1 + 1 == i && q.2.category == 2))))) : AL lsA n ls' := by
  refine AL.less h (fun j w hj => ?_)
  by_cases hji : j = i
  · subst hji
    rw [s.1] at hj
    cases hj
    exact List.mem_cons_self
  · obtain ⟨h1, h3, h2⟩ := s.2 j w hji hj
    refine List.mem_cons_of_mem _ (List.mem_filter.mpr ⟨as_mem.mpr ⟨Nat.zero_le _, by simpa using h1⟩, ?_⟩)
    simp only [Bool.and_eq_true, Bool.not_eq_true', beq_eq_false_iff_ne, Bool.and_eq_false_iff]
    refine ⟨hji, h3, ?_⟩
    by_cases hc : j + 1 = i
    · right
      exact fun z => h2 ⟨hc, z⟩
    · left
      exact hc
def c2 (a : Option Value) : Bool := match a with
  | some v => v.category == 2
  | none => false
/-- forgetting what two words' first half held, if the store goes to its second half -/
def kil (a : Option Value) : Option Value := if c2 a then none else a
theorem kil_some {a : Option Value} {w : Value} (h : kil a = some w) : a = some w ∧ ¬ w.category = 2 := by
  unfold kil at h
  split at h
  · cases h
  · next hc =>
    subst h
    exact ⟨rfl, fun z => hc (by simp [c2, z])⟩
theorem as1 (pre : List (Option Value)) (a : Option Value) (r : List (Option Value)) (v : Value) (i : Nat) (hi : pre.length = i) (hl : ∀ (w : Value), pre[i - 1]? = some (some w) → 0 < i → ¬ w.category = 2) : AS i v (pre ++ a :: r) (pre ++ some v :: r) := by
  subst hi
  refine ⟨by simp, fun j w hj hw => ?_⟩
  rcases Nat.lt_trichotomy j pre.length with h | h | h
  · rw [List.getElem?_append_left h] at hw ⊢
    refine ⟨hw, fun z => hl w ?_ (by omega) z.2⟩
    rw [show pre.length - 1 = j by omega]
    exact hw
  · exact absurd h hj
  · rw [List.getElem?_append_right (by omega)] at hw ⊢
    rw [show j - pre.length = (j - pre.length - 1) + 1 by omega, List.getElem?_cons_succ] at hw ⊢
    exact ⟨hw, fun z => by omega⟩
theorem as2 (pre : List (Option Value)) (a b : Option Value) (r : List (Option Value)) (v : Value) (i : Nat) (hi : pre.length = i) (hl : ∀ (w : Value), pre[i - 1]? = some (some w) → 0 < i → ¬ w.category = 2) : AS2 i v (pre ++ a :: b :: r) (pre ++ some v :: none :: r) := by
  subst hi
  refine ⟨by simp, fun j w hj hw => ?_⟩
  rcases Nat.lt_trichotomy j pre.length with h | h | h
  · rw [List.getElem?_append_left h] at hw ⊢
    refine ⟨hw, by omega, fun z => hl w ?_ (by omega) z.2⟩
    rw [show pre.length - 1 = j by omega]
    exact hw
  · exact absurd h hj
  · rw [List.getElem?_append_right (by omega)] at hw ⊢
    rcases Nat.eq_or_lt_of_le (show pre.length + 1 ≤ j by omega) with e | e
    · rw [show j - pre.length = 1 by omega] at hw
      cases hw
    · rw [show j - pre.length = (j - pre.length - 2) + 2 by omega] at hw ⊢
      simp only [List.getElem?_cons_succ] at hw ⊢
      exact ⟨hw, by omega, fun z => by omega⟩
def aQc (g : AG) (Q : Option Value → AH → Prop) : Array Value → State → Outcome → State → Prop := fun _ st oc t => ∃ (r : Option Value) (h' : AH), oc = .returned r ∧ Q r h' ∧ AHP g h' t.heap ∧ va_F (aA g) st t
def aXC (g : AG) (X : String → Nat → AH → Prop) : String → Addr → State → State → Prop := fun E q st t => ∃ h' : AH, X E q h' ∧ AHP g h' t.heap ∧ va_F (aA g) st t
def aPc (g : AG) (args : List Value) (h : AH) : Array Value → State → Prop := fun a U => a = args.toArray ∧ AK g U U.heap ∧ g.2.2.1 ≤ U.heap.size ∧ AHP g h U.heap
/-- A CONTRACT at one heap: called with args at h, the method returns with Q or throws with X -/
def AM (l : Launch) (g : AG) (mi : MI) (d : Nat) (args : List Value) (h : AH) (Q : Option Value → AH → Prop) (X : String → Nat → AH → Prop) (mc ms : Nat) : Prop :=
  l.stackTraces = false → vx_Met l mi.1 (wsM mi) (rmD d mc ms) (aPc g args h) (aQc g Q) (aXC g X) mc ms (aA g)
/-- what stays the same through a body -/
def AF (l : Launch) (mi : MI) (p : Program) (s : State) (m : MethodId) (args : Array Value) (meth : Method) (c : Code) : Prop :=
  l.stackTraces = false ∧ p.tables.exec = Jvm.exec ∧ c.code = mi.2.1 ∧ meth.sig.returnType = mi.2.2.2.1 ∧ c.maxLocals = mi.2.2.1 ∧ s.vm.findClass mi.1.cls = some m.cls ∧ (∀ w ∈ lw_all, w.before args s = true) ∧ meth.locks = false ∧ meth.name = mi.1.name ∧ c.exceptionTable.toList = tableOf mi.2.2.2.2
def AWc (l : Launch) (g : AG) (mi : MI) (d mc ms : Nat) (Q : Option Value → AH → Prop) (X : String → Nat → AH → Prop) (cells slots : Nat) (h : AH) (pc : Nat) (ls : List (Option Value)) (st : List Value) : Prop :=
  ∀ (p : Program) (e : Env) (s : State) (m : MethodId) (args : Array Value) (below : List Frame) (meth : Method) (c : Code) (H : Heap) (locs : List Loc) (lsA : Array Slot),
    AF l mi p s m args meth c → AB g s h H locs → AL lsA mi.2.2.1 ls →
    W p l e (rmD d mc ms) s m args below meth c H locs cells slots (vx_MQ below (aQc g Q) (aXC g X) args s mc ms (aA g)) (F0 m pc lsA st)
/-- q, of the kind E, thrown at pc -/
def AWX (l : Launch) (g : AG) (mi : MI) (d mc ms : Nat) (Q : Option Value → AH → Prop) (X : String → Nat → AH → Prop) (cells slots : Nat) (h : AH) (pc : Nat) (ls : List (Option Value)) (E : String) (q : Nat) : Prop :=
  ∀ (p : Program) (e : Env) (s : State) (m : MethodId) (args : Array Value) (below : List Frame) (meth : Method) (c : Code) (H : Heap) (locs : List Loc) (lsA : Array Slot) (rest : List Value) (ce : Cell),
    AF l mi p s m args meth c → AB g s h H locs → AL lsA mi.2.2.1 ls → H[q]? = some ce → ce.vm = .none → s.vm.findClass E = some ce.cls →
    vx_W p l e (rmD d mc ms) s m args below meth c H locs cells slots (vx_MQ below (aQc g Q) (aXC g X) args s mc ms (aA g)) (F0 m pc lsA rest) q
theorem aPc_blind {g : AG} {args : List Value} {h : AH} : FrameBlind (aPc g args h) := fun _ _ _ _ q => ⟨q.1, q.2.1.calling, q.2.2.1, q.2.2.2⟩
/-- the locals at a method's entry -/
def lsE : List Value → List (Option Value)
  | [] => []
  | v :: r => if v.category = 2 then some v :: none :: lsE r else some v :: lsE r
theorem lsE_args : ∀ (vs : List Value) (k : Nat) (j : Nat) (v : Value), (lsE vs)[j]? = some (some v) → (k + j, v) ∈ lv_args k vs := by
  intro vs
  induction vs with
  | nil => intro k j v h; simp [lsE] at h
  | cons a r ih =>
    intro k j v h
    simp only [lsE] at h
    simp only [lv_args, List.mem_cons]
    split at h
    · next hc =>
      rw [if_pos hc]
      match j, h with
      | 0, h => simp at h; left; simp [h]
      | 1, h => simp at h
      | j + 2, h =>
        right
        rw [List.getElem?_cons_succ, List.getElem?_cons_succ] at h
        have := ih (k + 2) j v h
        rwa [show k + 2 + j = k + (j + 2) by omega] at this
    · next hc =>
      rw [if_neg hc]
      match j, h with
      | 0, h => simp at h; left; simp [h]
      | j + 1, h =>
        right
        rw [List.getElem?_cons_succ] at h
        have := ih (k + 1) j v h
        rwa [show k + 1 + j = k + (j + 1) by omega] at this
theorem al_entry {vs : List Value} {n : Nat} {ls : List (Option Value)} (hn : (lg_sl vs).length ≤ n) (hls : ∀ (j : Nat) (v : Value), ls[j]? = some (some v) → (lsE vs)[j]? = some (some v)) : AL ((lg_sl vs ++ List.replicate (n - (lg_sl vs).length) Slot.unset).toArray) n ls :=
  AL.less (lv_entry vs hn) (fun j v h => by simpa using lsE_args vs 0 j v (hls j v h))
/-- the locals ls agree with an entry's -/
theorem lsE_nones {l : List (Option Value)} (r : List (Option Value)) (hr : ∀ x ∈ r, x = none) : ∀ (j : Nat) (v : Value), (l ++ r)[j]? = some (some v) → l[j]? = some (some v) := by
  intro j v h
  rcases Nat.lt_or_ge j l.length with hj | hj
  · rwa [List.getElem?_append_left hj] at h
  · rw [List.getElem?_append_right hj] at h
    have := hr _ (List.mem_of_getElem? h)
    cases this
theorem aw_start {l : Launch} {g : AG} {mi : MI} {d mc ms : Nat} {args : List Value} {h : AH} {Q : Option Value → AH → Prop} {X : String → Nat → AH → Prop} (k : Nat) (hp : plainName mi.1.cls = true) (hh : mi.2.2.2.2 = []) (hn : (lg_sl args).length ≤ mi.2.2.1)
    (b : AWc l g mi d mc ms Q X 0 0 h 0 (lsE args ++ List.replicate k none) []) : AM l g mi d args h Q X mc ms := by
  intro hl
  have hw : wsM mi = ws_ mi.1 mi.2.1 mi.2.2.1 mi.2.2.2.1 := by unfold wsM; rw [hh]
  refine vx_ofW (cc := mi.2.1) (maxL := mi.2.2.1) (ret := mi.2.2.2.1) hp hw ?_
  intro p e s m a below meth c s₁ B hml ht hv
  obtain ⟨rfl, hk, hz, hpp⟩ := hv
  have hts := atoms_spec B.pre
  have hts : ∀ w ∈ lw_all, w.before args.toArray s = true := fun w hw' => hts w (by rw [hw]; exact List.mem_cons_of_mem _ hw')
  have ht0 : c.exceptionTable.toList = tableOf mi.2.2.2.2 := by
    rw [hh]
    exact List.eq_nil_iff_forall_not_mem.mpr (fun x hx => (ht x hx).elim)
  rw [lg_entry_eq]
  exact b p e s m _ below meth c s.heap [] _ ⟨hl, B.exec, B.bytes, B.returns, hml, findClass_of_methodNamed B.named, hts, B.notSynchronized, (name_of_methodNamed B.named B.method).1, ht0⟩ ⟨hk, hz, hpp, va_S.rf⟩
    (al_entry hn (lsE_nones _ (fun x hx => (List.mem_replicate.mp hx).2)))
theorem aw_startH {l : Launch} {g : AG} {mi : MI} {d mc ms : Nat} {args : List Value} {h : AH} {Q : Option Value → AH → Prop} {X : String → Nat → AH → Prop} (k : Nat) (hp : plainName mi.1.cls = true) (hh : mi.2.2.2.2 ≠ []) (hn : (lg_sl args).length ≤ mi.2.2.1)
    (b : AWc l g mi d mc ms Q X 0 0 h 0 (lsE args ++ List.replicate k none) []) : AM l g mi d args h Q X mc ms := by
  intro hl
  have hw : wsM mi = wsW_ mi.1 mi.2.1 mi.2.2.1 mi.2.2.2.1 mi.2.2.2.2 := by
    unfold wsM
    split
    · next h0 => exact absurd h0 hh
    · rfl
  refine vx_ofWH (cc := mi.2.1) (maxL := mi.2.2.1) (ret := mi.2.2.2.1) (hh := mi.2.2.2.2) hp hw ?_
  intro p e s m a below meth c s₁ B hml hv
  obtain ⟨rfl, hk, hz, hpp⟩ := hv
  have hts := atoms_spec B.pre
  have ht0 : c.exceptionTable.toList = tableOf mi.2.2.2.2 := vx_table (x := mi.1) B (hts _ (by rw [hw]; exact List.mem_cons_self))
  have hts : ∀ w ∈ lw_all, w.before args.toArray s = true := fun w hw' => hts w (by rw [hw]; exact List.mem_cons_of_mem _ hw')
  rw [lg_entry_eq]
  exact b p e s m _ below meth c s.heap [] _ ⟨hl, B.exec, B.bytes, B.returns, hml, findClass_of_methodNamed B.named, hts, B.notSynchronized, (name_of_methodNamed B.named B.method).1, ht0⟩ ⟨hk, hz, hpp, va_S.rf⟩
    (al_entry hn (lsE_nones _ (fun x hx => (List.mem_replicate.mp hx).2)))
