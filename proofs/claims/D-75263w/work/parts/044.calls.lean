/-! rows of calls over AWc (printed by calls.py) -/
set_option maxRecDepth 100000
def notH (c : String) : Prop := c ≠ "java/lang/invoke/MethodHandle" ∧ c ≠ "java/lang/invoke/VarHandle"
/-- what a contract's method needs to be called: k arguments -/
def MW (my : MI) (k : Nat) : Prop := my.2.2.2.2 = [] ∧ Cond.code my.1 my.2.1 my.2.2.1 my.2.2.2.1 ∈ lw_all ∧ Cond.initialized my.1.cls ∈ lw_all ∧ notH my.1.cls ∧ (parseMethodDescriptor my.1.desc).map (fun d => d.parameters.length) = some k
def MV (my : MI) (k : Nat) : Prop := MW my k ∧ Cond.instanceMethod my.1 ∈ lw_all ∧ Cond.selects my.1.cls my.1 my.1 ∈ lw_all
def MS (my : MI) (k : Nat) : Prop := MW my k ∧ Cond.static my.1 ∈ lw_all
def MC (my : MI) (k : Nat) : Prop := MW my k ∧ Cond.instanceMethod my.1 ∈ lw_all ∧ my.1.name = "<init>" ∧ my.2.2.2.1 = none
def MWH (my : MI) (k : Nat) : Prop := my.2.2.2.2 ≠ [] ∧ Cond.codeWith my.1 my.2.1 my.2.2.1 my.2.2.2.1 my.2.2.2.2 ∈ lw_all ∧ Cond.initialized my.1.cls ∈ lw_all ∧ notH my.1.cls ∧ (parseMethodDescriptor my.1.desc).map (fun d => d.parameters.length) = some k
def MVH (my : MI) (k : Nat) : Prop := MWH my k ∧ Cond.instanceMethod my.1 ∈ lw_all ∧ Cond.selects my.1.cls my.1 my.1 ∈ lw_all
def MSH (my : MI) (k : Nat) : Prop := MWH my k ∧ Cond.static my.1 ∈ lw_all
theorem wsM_0 {my : MI} (h : my.2.2.2.2 = []) : wsM my = ws_ my.1 my.2.1 my.2.2.1 my.2.2.2.1 := by unfold wsM; rw [h]
theorem wsM_H {my : MI} (h : my.2.2.2.2 ≠ []) : wsM my = wsW_ my.1 my.2.1 my.2.2.1 my.2.2.2.1 my.2.2.2.2 := by
  unfold wsM
  split
  · next h0 => exact absurd h0 h
  · rfl
section ACALLS
variable {l : Launch} {g : AG} {mi my : MI} {d mc ms d' mc' ms' : Nat} {Q Q' : Option Value → AH → Prop} {X X' : String → Nat → AH → Prop} {cells slots : Nat} {h : AH} {pc idx k b ci : Nat} {ls ls' : List (Option Value)} {st rest As : List Value} {fs : List Value} {r : vw_C}

theorem ax_go {p : Program} {e : Env} {s : State} {m : MethodId} {args a : Array Value} {below : List Frame} {meth : Method} {c : Code} {H : Heap} {locs : List Loc} {lsA : Array Slot} (n : Nat) (hn : pc + 3 = n) (F : AF l mi p s m args meth c) (B : AB g s h H locs) (L : AL lsA mi.2.2.1 ls)
    (hr : vx_Run p l e (rmD d mc ms) s m args below meth c H locs cells slots mc' ms' (F0 m pc lsA st) rest (aQc g Q' a) (aXC g X') (aA g))
    (kx : ∀ (E : String) (q : Nat) (h' : AH), X' E q h' → AWX l g mi d mc ms Q X (cells + mc') (slots + ms') h' pc ls E q)
    (kk : ∀ (r : Option Value) (h' : AH), Q' r h' → AWc l g mi d mc ms Q X (cells + mc') (slots + ms') h' n ls (r.toList ++ rest)) :
    W p l e (rmD d mc ms) s m args below meth c H locs cells slots (vx_MQ below (aQc g Q) (aXC g X) args s mc ms (aA g)) (F0 m pc lsA st) := by
  subst hn
  intro T hT X0
  rcases hr T hT X0 with ⟨v, st₀, t, T', L', h0, X', hL, e1, e2, ⟨r, h', hv, hq, hp, hF⟩, go⟩ | ⟨q, st₀, t, T', L', E, ce, h0, X', hL, e1, e2, ⟨h', hx, hp, hF⟩, hce, hcv, hcl, go⟩
  · cases hv
    obtain ⟨k1, k2, k3⟩ := vx_keep h0 e1 B.2.2.2 (fun _ _ z => z) (fun _ z => z) hL hF
    obtain ⟨t2, a1, b1⟩ := kk _ h' hq p e s m args below meth c T'.heap (locs ++ L') lsA F ⟨B.1, B.2.1, by rw [e1]; exact hp, k3⟩ L T' rfl X'
    exact ⟨t2, go t2 a1, b1⟩
  · obtain ⟨k1, k2, k3⟩ := vx_keep h0 e1 B.2.2.2 (fun _ _ z => z) (fun _ z => z) hL hF
    obtain ⟨t2, a1, b1⟩ := kx E q h' hx p e s m args below meth c T'.heap (locs ++ L') lsA rest ce F ⟨B.1, B.2.1, by rw [e1]; exact hp, k3⟩ L (by rw [e1]; exact hce) hcv hcl T' rfl X'
    exact ⟨t2, go.trans a1, b1⟩
theorem ax_go5 {p : Program} {e : Env} {s : State} {m : MethodId} {args a : Array Value} {below : List Frame} {meth : Method} {c : Code} {H : Heap} {locs : List Loc} {lsA : Array Slot} (n : Nat) (hn : pc + 5 = n) (F : AF l mi p s m args meth c) (B : AB g s h H locs) (L : AL lsA mi.2.2.1 ls)
    (hr : vx_Run5 p l e (rmD d mc ms) s m args below meth c H locs cells slots mc' ms' (F0 m pc lsA st) rest (aQc g Q' a) (aXC g X') (aA g))
    (kx : ∀ (E : String) (q : Nat) (h' : AH), X' E q h' → AWX l g mi d mc ms Q X (cells + mc') (slots + ms') h' pc ls E q)
    (kk : ∀ (r : Option Value) (h' : AH), Q' r h' → AWc l g mi d mc ms Q X (cells + mc') (slots + ms') h' n ls (r.toList ++ rest)) :
    W p l e (rmD d mc ms) s m args below meth c H locs cells slots (vx_MQ below (aQc g Q) (aXC g X) args s mc ms (aA g)) (F0 m pc lsA st) := by
  subst hn
  intro T hT X0
  rcases hr T hT X0 with ⟨v, st₀, t, T', L', h0, X', hL, e1, e2, ⟨r, h', hv, hq, hp, hF⟩, go⟩ | ⟨q, st₀, t, T', L', E, ce, h0, X', hL, e1, e2, ⟨h', hx, hp, hF⟩, hce, hcv, hcl, go⟩
  · cases hv
    obtain ⟨k1, k2, k3⟩ := vx_keep h0 e1 B.2.2.2 (fun _ _ z => z) (fun _ z => z) hL hF
    obtain ⟨t2, a1, b1⟩ := kk _ h' hq p e s m args below meth c T'.heap (locs ++ L') lsA F ⟨B.1, B.2.1, by rw [e1]; exact hp, k3⟩ L T' rfl X'
    exact ⟨t2, go t2 a1, b1⟩
  · obtain ⟨k1, k2, k3⟩ := vx_keep h0 e1 B.2.2.2 (fun _ _ z => z) (fun _ z => z) hL hF
    obtain ⟨t2, a1, b1⟩ := kx E q h' hx p e s m args below meth c T'.heap (locs ++ L') lsA rest ce F ⟨B.1, B.2.1, by rw [e1]; exact hp, k3⟩ L (by rw [e1]; exact hce) hcv hcl T' rfl X'
    exact ⟨t2, go.trans a1, b1⟩
theorem ax_pre {s : State} {H : Heap} {locs : List Loc} (B : AB g s h H locs) (as9 : List Value) : ∀ U : State, U.heap = H → s.WarmedH U.vm → aPc g as9 h as9.toArray U := by
  intro U hU hW
  refine ⟨rfl, B.1.moved hW ?_, ?_, by rw [hU]; exact B.2.2.1⟩
  · rw [hU]
    exact B.2.2.2.2.1
  · rw [hU]
    exact Nat.le_trans B.2.1 B.2.2.2.1
theorem ax_pre1 {s : State} {H : Heap} {locs : List Loc} (B : AB g s h H locs) (as9 : List Value) : PreS s H (aPc g as9 h) as9 := ⟨aPc_blind, ax_pre B as9⟩

theorem aw_callV (n : Nat) (hM : AM l g my d' (.ref b :: As) h Q' X' mc' ms') (mv : MV my k) (hlink : Cond.methodLink mi.1.cls idx my.1 ∈ lw_all) (hr : RD g h b (.inr (ci, fs))) (hc : clG[ci]? = some r) (hC : r.1 = my.1.cls) (hk : As.length = k) (hdep : d' + 1 ≤ d) (hloc : 19 + my.2.2.1 + 64 * d' ≤ 64 * d) (hcc : cells + mc' ≤ mc) (hss : slots + ms' ≤ ms) (hst : st = As.reverse ++ .ref b :: rest) (hcat : (rest.map fun v => v.category).sum ≤ 8) (hd : decode mi.2.1 pc = .ok (.invokevirtual idx, 3)) (hn : pc + 3 = n)
    (kx : ∀ (E : String) (q : Nat) (h' : AH), X' E q h' → AWX l g mi d mc ms Q X (cells + mc') (slots + ms') h' pc ls E q)
    (kk : ∀ (r : Option Value) (h' : AH), Q' r h' → AWc l g mi d mc ms Q X (cells + mc') (slots + ms') h' n ls (r.toList ++ rest)) : AWc l g mi d mc ms Q X cells slots h pc ls st := by
  subst hst
  intro p e s m args below meth c H locs lsA F B L
  have hw : wsM my = _ := wsM_0 mv.1.1
  have hM := hM F.1
  rw [hw] at hM
  have hrv := B.recv hr hc
  refine ax_go n hn F B L (a := _) (vx_runV ⟨F.2.1, F.2.2.1, F.2.2.2.2.1, F.2.2.2.2.2.1, F.2.2.2.2.2.2.1⟩ hM (cwV k F.2.2.2.2.2.2.1 (lw_V hlink mv.2.1 mv.2.2 mv.1.2.2.1 mv.1.2.1) rfl rfl rfl ⟨rfl, mv.1.2.2.2.1.1, mv.1.2.2.2.1.2, mv.1.2.2.2.2⟩ ⟨hdep, by show 8 + (my.2.2.1 + 11) + 64 * d' ≤ 64 * d; omega⟩) ⟨aPc_blind, (by rw [← hC]; exact hrv), ax_pre B _⟩ rfl hk L.1 rfl (lv_room hcat) hd ⟨hcc, hss⟩) kx kk
theorem aw_callS (n : Nat) (hM : AM l g my d' As h Q' X' mc' ms') (mv : MS my k) (hlink : Cond.methodLink mi.1.cls idx my.1 ∈ lw_all) (hk : As.length = k) (hdep : d' + 1 ≤ d) (hloc : 19 + my.2.2.1 + 64 * d' ≤ 64 * d) (hcc : cells + mc' ≤ mc) (hss : slots + ms' ≤ ms) (hst : st = As.reverse ++ rest) (hcat : (rest.map fun v => v.category).sum ≤ 8) (hd : decode mi.2.1 pc = .ok (.invokestatic idx, 3)) (hn : pc + 3 = n)
    (kx : ∀ (E : String) (q : Nat) (h' : AH), X' E q h' → AWX l g mi d mc ms Q X (cells + mc') (slots + ms') h' pc ls E q)
    (kk : ∀ (r : Option Value) (h' : AH), Q' r h' → AWc l g mi d mc ms Q X (cells + mc') (slots + ms') h' n ls (r.toList ++ rest)) : AWc l g mi d mc ms Q X cells slots h pc ls st := by
  subst hst
  intro p e s m args below meth c H locs lsA F B L
  have hw : wsM my = _ := wsM_0 mv.1.1
  have hM := hM F.1
  rw [hw] at hM
  skip
  refine ax_go n hn F B L (a := _) (vx_runS ⟨F.2.1, F.2.2.1, F.2.2.2.2.1, F.2.2.2.2.2.1, F.2.2.2.2.2.2.1⟩ hM (va_cwS k F.2.2.2.2.2.2.1 (lw_S hlink mv.2 mv.1.2.2.1 mv.1.2.1) rfl rfl rfl ⟨mv.1.2.2.2.1.1, mv.1.2.2.2.1.2, mv.1.2.2.2.2⟩ ⟨hdep, by show 8 + (my.2.2.1 + 11) + 64 * d' ≤ 64 * d; omega⟩) (ax_pre1 B _) rfl hk L.1 rfl (lv_room hcat) hd ⟨hcc, hss⟩) kx kk
theorem aw_callSN (n : Nat) (hM : AM l g my d' As h Q' X' mc' ms') (mv : MS my k) {host : String} (hlink : Cond.methodLinkNest mi.1.cls idx my.1 host ∈ lw_tbl) (hk : As.length = k) (hdep : d' + 1 ≤ d) (hloc : 19 + my.2.2.1 + 64 * d' ≤ 64 * d) (hcc : cells + mc' ≤ mc) (hss : slots + ms' ≤ ms) (hst : st = As.reverse ++ rest) (hcat : (rest.map fun v => v.category).sum ≤ 8) (hd : decode mi.2.1 pc = .ok (.invokestatic idx, 3)) (hn : pc + 3 = n)
    (kx : ∀ (E : String) (q : Nat) (h' : AH), X' E q h' → AWX l g mi d mc ms Q X (cells + mc') (slots + ms') h' pc ls E q)
    (kk : ∀ (r : Option Value) (h' : AH), Q' r h' → AWc l g mi d mc ms Q X (cells + mc') (slots + ms') h' n ls (r.toList ++ rest)) : AWc l g mi d mc ms Q X cells slots h pc ls st := by
  subst hst
  intro p e s m args below meth c H locs lsA F B L
  have hw : wsM my = _ := wsM_0 mv.1.1
  have hM := hM F.1
  rw [hw] at hM
  skip
  refine ax_go n hn F B L (a := _) (vx_runSN ⟨F.2.1, F.2.2.1, F.2.2.2.2.1, F.2.2.2.2.2.1, F.2.2.2.2.2.2.1⟩ hM (⟨va_cnB k F.2.2.2.2.2.2.1 (lw_meth mv.1.2.1) rfl rfl rfl (B.1.2.2.1 _ hlink rfl) (F.2.2.2.2.2.2.1 _ mv.1.2.2.1) ⟨mv.1.2.2.2.1.1, mv.1.2.2.2.1.2, mv.1.2.2.2.2⟩ ⟨hdep, by show 8 + (my.2.2.1 + 11) + 64 * d' ≤ 64 * d; omega⟩, F.2.2.2.2.2.2.1 _ mv.2, trivial⟩) (ax_pre1 B _) rfl hk L.1 rfl (lv_room hcat) hd ⟨hcc, hss⟩) kx kk
theorem aw_callSH (n : Nat) (hM : AM l g my d' As h Q' X' mc' ms') (mv : MSH my k) (hlink : Cond.methodLink mi.1.cls idx my.1 ∈ lw_all) (hk : As.length = k) (hdep : d' + 1 ≤ d) (hloc : 19 + my.2.2.1 + 64 * d' ≤ 64 * d) (hcc : cells + mc' ≤ mc) (hss : slots + ms' ≤ ms) (hst : st = As.reverse ++ rest) (hcat : (rest.map fun v => v.category).sum ≤ 8) (hd : decode mi.2.1 pc = .ok (.invokestatic idx, 3)) (hn : pc + 3 = n)
    (kx : ∀ (E : String) (q : Nat) (h' : AH), X' E q h' → AWX l g mi d mc ms Q X (cells + mc') (slots + ms') h' pc ls E q)
    (kk : ∀ (r : Option Value) (h' : AH), Q' r h' → AWc l g mi d mc ms Q X (cells + mc') (slots + ms') h' n ls (r.toList ++ rest)) : AWc l g mi d mc ms Q X cells slots h pc ls st := by
  subst hst
  intro p e s m args below meth c H locs lsA F B L
  have hw : wsM my = _ := wsM_H mv.1.1
  have hM := hM F.1
  rw [hw] at hM
  skip
  refine ax_go n hn F B L (a := _) (vx_runSX ⟨F.2.1, F.2.2.1, F.2.2.2.2.1, F.2.2.2.2.2.1, F.2.2.2.2.2.2.1⟩ hM (vx_cwSW k F.2.2.2.2.2.2.1 (lw_SW hlink mv.2 mv.1.2.2.1 mv.1.2.1) rfl rfl rfl ⟨mv.1.2.2.2.1.1, mv.1.2.2.2.1.2, mv.1.2.2.2.2⟩ ⟨hdep, by show 8 + (my.2.2.1 + 11) + 64 * d' ≤ 64 * d; omega⟩) (ax_pre1 B _) rfl hk L.1 rfl (lv_room hcat) hd ⟨hcc, hss⟩) kx kk
theorem aw_callVH (n : Nat) (hM : AM l g my d' (.ref b :: As) h Q' X' mc' ms') (mv : MVH my k) (hlink : Cond.methodLink mi.1.cls idx my.1 ∈ lw_all) (hr : RD g h b (.inr (ci, fs))) (hc : clG[ci]? = some r) (hC : r.1 = my.1.cls) (hk : As.length = k) (hdep : d' + 1 ≤ d) (hloc : 19 + my.2.2.1 + 64 * d' ≤ 64 * d) (hcc : cells + mc' ≤ mc) (hss : slots + ms' ≤ ms) (hst : st = As.reverse ++ .ref b :: rest) (hcat : (rest.map fun v => v.category).sum ≤ 8) (hd : decode mi.2.1 pc = .ok (.invokevirtual idx, 3)) (hn : pc + 3 = n)
    (kx : ∀ (E : String) (q : Nat) (h' : AH), X' E q h' → AWX l g mi d mc ms Q X (cells + mc') (slots + ms') h' pc ls E q)
    (kk : ∀ (r : Option Value) (h' : AH), Q' r h' → AWc l g mi d mc ms Q X (cells + mc') (slots + ms') h' n ls (r.toList ++ rest)) : AWc l g mi d mc ms Q X cells slots h pc ls st := by
  subst hst
  intro p e s m args below meth c H locs lsA F B L
  have hw : wsM my = _ := wsM_H mv.1.1
  have hM := hM F.1
  rw [hw] at hM
  have hrv := B.recv hr hc
  refine ax_go n hn F B L (a := _) (vx_runVX ⟨F.2.1, F.2.2.1, F.2.2.2.2.1, F.2.2.2.2.2.1, F.2.2.2.2.2.2.1⟩ hM (vx_cwVW k F.2.2.2.2.2.2.1 (lw_VW hlink mv.2.1 mv.2.2 mv.1.2.2.1 mv.1.2.1) rfl rfl rfl ⟨rfl, mv.1.2.2.2.1.1, mv.1.2.2.2.1.2, mv.1.2.2.2.2⟩ ⟨hdep, by show 8 + (my.2.2.1 + 11) + 64 * d' ≤ 64 * d; omega⟩) ⟨aPc_blind, (by rw [← hC]; exact hrv), ax_pre B _⟩ rfl hk L.1 rfl (lv_room hcat) hd ⟨hcc, hss⟩) kx kk
theorem aw_callU (n : Nat) (hM : AM l g my d' (.ref b :: As) h Q' X' mc' ms') (mv : MW my k) {x : MethodName} (owner : String) (hlink : Cond.methodLink mi.1.cls idx x ∈ lw_all) (hsm : Cond.sameMethod x.cls owner x.name x.desc ∈ lw_all) (hsel : Cond.selects r.1 x my.1 ∈ lw_all) (hi : Cond.instanceMethod my.1 ∈ lw_all) (hyx : my.1 = ⟨owner, x.name, x.desc⟩) (hno : notH owner) (hds : (parseMethodDescriptor x.desc).map (fun d => d.parameters.length) = some k) (hC : r.1 = r.1) (hr : RD g h b (.inr (ci, fs))) (hc : clG[ci]? = some r) (hk : As.length = k) (hdep : d' + 1 ≤ d) (hloc : 19 + my.2.2.1 + 64 * d' ≤ 64 * d) (hcc : cells + mc' ≤ mc) (hss : slots + ms' ≤ ms) (hst : st = As.reverse ++ .ref b :: rest) (hcat : (rest.map fun v => v.category).sum ≤ 8) (hd : decode mi.2.1 pc = .ok (.invokevirtual idx, 3)) (hn : pc + 3 = n)
    (kx : ∀ (E : String) (q : Nat) (h' : AH), X' E q h' → AWX l g mi d mc ms Q X (cells + mc') (slots + ms') h' pc ls E q)
    (kk : ∀ (r : Option Value) (h' : AH), Q' r h' → AWc l g mi d mc ms Q X (cells + mc') (slots + ms') h' n ls (r.toList ++ rest)) : AWc l g mi d mc ms Q X cells slots h pc ls st := by
  subst hst
  intro p e s m args below meth c H locs lsA F B L
  have hw : wsM my = _ := wsM_0 mv.1
  have hM := hM F.1
  rw [hw] at hM
  have hrv := B.recv hr hc
  refine ax_go n hn F B L (a := _) (vx_runU ⟨F.2.1, F.2.2.1, F.2.2.2.2.1, F.2.2.2.2.2.1, F.2.2.2.2.2.2.1⟩ hM (va_cwU k F.2.2.2.2.2.2.1 (lw_app (fun w hw9 => by simp only [List.mem_cons, List.not_mem_nil, or_false] at hw9; rcases hw9 with q | q | q | q | q; rw [q]; exact hlink; rw [q]; exact hsm; rw [q]; exact hsel; rw [q]; exact hi; rw [q]; exact mv.2.2.1) (lw_meth mv.2.1)) rfl rfl rfl hyx ⟨hno.1, hno.2, hds⟩ ⟨hdep, by show 8 + (my.2.2.1 + 11) + 64 * d' ≤ 64 * d; omega⟩) ⟨aPc_blind, (by rw [← hC]; exact hrv), ax_pre B _⟩ rfl hk L.1 rfl (lv_room hcat) hd ⟨hcc, hss⟩) kx kk
theorem aw_callA (n : Nat) (hM : AM l g my d' (.ref b :: As) h Q' X' mc' ms') (mv : MW my k) {x : MethodName} (owner : String) (hlink : Cond.methodLink mi.1.cls idx x ∈ lw_all) (hsm : Cond.sameMethod x.cls owner x.name x.desc ∈ lw_all) (hsel : Cond.selects r.1 x my.1 ∈ lw_all) (hi : Cond.instanceMethod my.1 ∈ lw_all) (hz : Cond.declares ⟨owner, x.name, x.desc⟩ ∈ lw_tbl) (hno : notH owner) (hds : (parseMethodDescriptor x.desc).map (fun d => d.parameters.length) = some k) (hC : r.1 = r.1) (hr : RD g h b (.inr (ci, fs))) (hc : clG[ci]? = some r) (hk : As.length = k) (hdep : d' + 1 ≤ d) (hloc : 19 + my.2.2.1 + 64 * d' ≤ 64 * d) (hcc : cells + mc' ≤ mc) (hss : slots + ms' ≤ ms) (hst : st = As.reverse ++ .ref b :: rest) (hcat : (rest.map fun v => v.category).sum ≤ 8) (hd : decode mi.2.1 pc = .ok (.invokevirtual idx, 3)) (hn : pc + 3 = n)
    (kx : ∀ (E : String) (q : Nat) (h' : AH), X' E q h' → AWX l g mi d mc ms Q X (cells + mc') (slots + ms') h' pc ls E q)
    (kk : ∀ (r : Option Value) (h' : AH), Q' r h' → AWc l g mi d mc ms Q X (cells + mc') (slots + ms') h' n ls (r.toList ++ rest)) : AWc l g mi d mc ms Q X cells slots h pc ls st := by
  subst hst
  intro p e s m args below meth c H locs lsA F B L
  have hw : wsM my = _ := wsM_0 mv.1
  have hM := hM F.1
  rw [hw] at hM
  have hrv := B.recv hr hc
  refine ax_go n hn F B L (a := _) (vx_runU ⟨F.2.1, F.2.2.1, F.2.2.2.2.1, F.2.2.2.2.2.1, F.2.2.2.2.2.2.1⟩ hM (va_cwA k F.2.2.2.2.2.2.1 (lw_app (fun w hw9 => by simp only [List.mem_cons, List.not_mem_nil, or_false] at hw9; rcases hw9 with q | q | q | q | q; rw [q]; exact hlink; rw [q]; exact hsm; rw [q]; exact hsel; rw [q]; exact hi; rw [q]; exact mv.2.2.1) (lw_meth mv.2.1)) rfl rfl rfl (B.1.2.2.1 _ hz rfl) ⟨hno.1, hno.2, hds⟩ ⟨hdep, by show 8 + (my.2.2.1 + 11) + 64 * d' ≤ 64 * d; omega⟩) ⟨aPc_blind, (by rw [← hC]; exact hrv), ax_pre B _⟩ rfl hk L.1 rfl (lv_room hcat) hd ⟨hcc, hss⟩) kx kk
theorem aw_callSU (n : Nat) (hM : AM l g my d' (.ref b :: As) h Q' X' mc' ms') (mv : MW my k) (hlink : Cond.methodLink mi.1.cls idx my.1 ∈ lw_all) (hsm : Cond.sameMethod my.1.cls my.1.cls my.1.name my.1.desc ∈ lw_all) (hsup : Cond.superclass mi.1.cls my.1.cls ∈ lw_all) (hi : Cond.instanceMethod my.1 ∈ lw_all) (hni : my.1.name ≠ "<init>") (hC : r.1 = r.1) (hr : RD g h b (.inr (ci, fs))) (hc : clG[ci]? = some r) (hk : As.length = k) (hdep : d' + 1 ≤ d) (hloc : 19 + my.2.2.1 + 64 * d' ≤ 64 * d) (hcc : cells + mc' ≤ mc) (hss : slots + ms' ≤ ms) (hst : st = As.reverse ++ .ref b :: rest) (hcat : (rest.map fun v => v.category).sum ≤ 8) (hd : decode mi.2.1 pc = .ok (.invokespecial idx, 3)) (hn : pc + 3 = n)
    (kx : ∀ (E : String) (q : Nat) (h' : AH), X' E q h' → AWX l g mi d mc ms Q X (cells + mc') (slots + ms') h' pc ls E q)
    (kk : ∀ (r : Option Value) (h' : AH), Q' r h' → AWc l g mi d mc ms Q X (cells + mc') (slots + ms') h' n ls (r.toList ++ rest)) : AWc l g mi d mc ms Q X cells slots h pc ls st := by
  subst hst
  intro p e s m args below meth c H locs lsA F B L
  have hw : wsM my = _ := wsM_0 mv.1
  have hM := hM F.1
  rw [hw] at hM
  have hrv := B.recv hr hc
  refine ax_go n hn F B L (a := _) (vx_runSU (B.1.1.1 ci r hc).2 ⟨F.2.1, F.2.2.1, F.2.2.2.2.1, F.2.2.2.2.2.1, F.2.2.2.2.2.2.1⟩ hM (va_cwSU k F.2.2.2.2.2.2.1 (lw_app (fun w hw9 => by simp only [List.mem_cons, List.not_mem_nil, or_false] at hw9; rcases hw9 with q | q | q | q | q; rw [q]; exact hlink; rw [q]; exact hsm; rw [q]; exact hsup; rw [q]; exact hi; rw [q]; exact mv.2.2.1) (lw_meth mv.2.1)) rfl rfl rfl ⟨hni, mv.2.2.2.2⟩ ⟨hdep, by show 8 + (my.2.2.1 + 11) + 64 * d' ≤ 64 * d; omega⟩) ⟨aPc_blind, (by rw [← hC]; exact hrv), ax_pre B _⟩ rfl hk L.1 rfl (lv_room hcat) hd ⟨hcc, hss⟩) kx kk
theorem aw_callF (n : Nat) (hM : AM l g my d' (.ref b :: As) h Q' X' mc' ms') (mv : MW my k) {x : MethodName} {count : Nat} (j : Nat) (hfw : fwL[j]? = some (r.1, x, my.1)) (hlink : Cond.methodLink mi.1.cls idx x ∈ lw_all) (hsel : Cond.selects r.1 x my.1 ∈ lw_all) (hi : Cond.instanceMethod my.1 ∈ lw_all) (hno : notH x.cls) (hds : (parseMethodDescriptor x.desc).map (fun d => d.parameters.length) = some k) (hC : r.1 = r.1) (hr : RD g h b (.inr (ci, fs))) (hc : clG[ci]? = some r) (hk : As.length = k) (hdep : d' + 1 ≤ d) (hloc : 19 + my.2.2.1 + 64 * d' ≤ 64 * d) (hcc : cells + mc' ≤ mc) (hss : slots + ms' ≤ ms) (hst : st = As.reverse ++ .ref b :: rest) (hcat : (rest.map fun v => v.category).sum ≤ 8) (hd : decode mi.2.1 pc = .ok (.invokeinterface idx count, 5)) (hn : pc + 5 = n)
    (kx : ∀ (E : String) (q : Nat) (h' : AH), X' E q h' → AWX l g mi d mc ms Q X (cells + mc') (slots + ms') h' pc ls E q)
    (kk : ∀ (r : Option Value) (h' : AH), Q' r h' → AWc l g mi d mc ms Q X (cells + mc') (slots + ms') h' n ls (r.toList ++ rest)) : AWc l g mi d mc ms Q X cells slots h pc ls st := by
  subst hst
  intro p e s m args below meth c H locs lsA F B L
  have hw : wsM my = _ := wsM_0 mv.1
  have hM := hM F.1
  rw [hw] at hM
  have hrv := B.recv hr hc
  refine ax_go5 n hn F B L (a := _) (vx_runF (B.1.1.1 ci r hc).2 ⟨F.2.1, F.2.2.1, F.2.2.2.2.1, F.2.2.2.2.2.1, F.2.2.2.2.2.2.1⟩ hM (va_cwF k F.2.2.2.2.2.2.1 (lw_app (fun w hw9 => by simp only [List.mem_cons, List.not_mem_nil, or_false] at hw9; rcases hw9 with q | q | q | q; rw [q]; exact hlink; rw [q]; exact hsel; rw [q]; exact hi; rw [q]; exact mv.2.2.1) (lw_meth mv.2.1)) rfl rfl rfl (B.1.2.2.2.2.1 j _ hfw) ⟨hno.1, hno.2, hds⟩ ⟨hdep, by show 8 + (my.2.2.1 + 11) + 64 * d' ≤ 64 * d; omega⟩) ⟨aPc_blind, (by rw [← hC]; exact hrv), ax_pre B _⟩ rfl hk L.1 rfl (lv_room hcat) hd ⟨hcc, hss⟩) kx kk
theorem aw_callI (n : Nat) (hM : AM l g my d' (.ref b :: As) h Q' X' mc' ms') (mv : MC my k) (hlink : Cond.methodLink mi.1.cls idx my.1 ∈ lw_all) (hk : As.length = k) (hdep : d' + 1 ≤ d) (hloc : 19 + my.2.2.1 + 64 * d' ≤ 64 * d) (hcc : cells + mc' ≤ mc) (hss : slots + ms' ≤ ms) (hst : st = As.reverse ++ .ref b :: rest) (hcat : (rest.map fun v => v.category).sum ≤ 8) (hd : decode mi.2.1 pc = .ok (.invokespecial idx, 3)) (hn : pc + 3 = n)
    (kx : ∀ (E : String) (q : Nat) (h' : AH), X' E q h' → AWX l g mi d mc ms Q X (cells + mc') (slots + ms') h' pc ls E q)
    (kk : ∀ (r : Option Value) (h' : AH), Q' r h' → AWc l g mi d mc ms Q X (cells + mc') (slots + ms') h' n ls (r.toList ++ rest)) : AWc l g mi d mc ms Q X cells slots h pc ls st := by
  subst hst
  intro p e s m args below meth c H locs lsA F B L
  have hw : wsM my = _ := wsM_0 mv.1.1
  have hM := hM F.1
  rw [hw, mv.2.2.2] at hM
  have hco := mv.1.2.1
  rw [mv.2.2.2] at hco
  refine ax_go n hn F B L (a := _) (vx_runI ⟨F.2.1, F.2.2.1, F.2.2.2.2.1, F.2.2.2.2.2.1, F.2.2.2.2.2.2.1⟩ hM (cwI k F.2.2.2.2.2.2.1 (lw_meth hco) rfl rfl rfl (F.2.2.2.2.2.2.1 _ mv.1.2.2.1) (F.2.2.2.2.2.2.1 _ hlink) (F.2.2.2.2.2.2.1 _ mv.2.1) mv.2.2.1 ⟨mv.1.2.2.2.1.1, mv.1.2.2.2.1.2, mv.1.2.2.2.2⟩ ⟨hdep, by show 8 + (my.2.2.1 + 11) + 64 * d' ≤ 64 * d; omega⟩) (ax_pre1 B _) rfl hk L.1 rfl (lv_room hcat) hd ⟨hcc, hss⟩) kx kk
theorem aw_callIN (n : Nat) {host : String} (hM : AM l g my d' (.ref b :: As) h Q' X' mc' ms') (mv : MC my k) (hlink : Cond.methodLinkNest mi.1.cls idx my.1 host ∈ lw_tbl) (hk : As.length = k) (hdep : d' + 1 ≤ d) (hloc : 19 + my.2.2.1 + 64 * d' ≤ 64 * d) (hcc : cells + mc' ≤ mc) (hss : slots + ms' ≤ ms) (hst : st = As.reverse ++ .ref b :: rest) (hcat : (rest.map fun v => v.category).sum ≤ 8) (hd : decode mi.2.1 pc = .ok (.invokespecial idx, 3)) (hn : pc + 3 = n)
    (kx : ∀ (E : String) (q : Nat) (h' : AH), X' E q h' → AWX l g mi d mc ms Q X (cells + mc') (slots + ms') h' pc ls E q)
    (kk : ∀ (r : Option Value) (h' : AH), Q' r h' → AWc l g mi d mc ms Q X (cells + mc') (slots + ms') h' n ls (r.toList ++ rest)) : AWc l g mi d mc ms Q X cells slots h pc ls st := by
  subst hst
  intro p e s m args below meth c H locs lsA F B L
  have hw : wsM my = _ := wsM_0 mv.1.1
  have hM := hM F.1
  rw [hw, mv.2.2.2] at hM
  have hco := mv.1.2.1
  rw [mv.2.2.2] at hco
  refine ax_go n hn F B L (a := _) (vx_runIN ⟨F.2.1, F.2.2.1, F.2.2.2.2.1, F.2.2.2.2.2.1, F.2.2.2.2.2.2.1⟩ hM ⟨va_cnB k F.2.2.2.2.2.2.1 (lw_meth hco) rfl rfl rfl (B.1.2.2.1 _ hlink rfl) (F.2.2.2.2.2.2.1 _ mv.1.2.2.1) ⟨mv.1.2.2.2.1.1, mv.1.2.2.2.1.2, mv.1.2.2.2.2⟩ ⟨hdep, by show 8 + (my.2.2.1 + 11) + 64 * d' ≤ 64 * d; omega⟩, mv.2.2.1, F.2.2.2.2.2.2.1 _ mv.2.1⟩ (ax_pre1 B _) rfl hk L.1 rfl (lv_room hcat) hd ⟨hcc, hss⟩) kx kk
/-! exceptions -/
theorem awx_out {E : String} {q : Nat} (hh : mi.2.2.2.2 = []) (hx : X E q h) (hc : cells ≤ mc) (hs : slots ≤ ms) : AWX l g mi d mc ms Q X cells slots h pc ls E q := by
  intro p e s m args below meth c H locs lsA rest ce F B L h1 h2 h3
  have ht := F.2.2.2.2.2.2.2.2.2
  rw [hh] at ht
  exact vx_out (fun x hx9 => by rw [ht] at hx9; cases hx9) F.2.2.2.2.2.2.2.1 h1 h2 h3 (fun t ht _ => ⟨h, hx, by rw [ht]; exact B.2.2.1, B.2.2.2.F ht⟩) B.2.2.2.2.2 hc hs
/-- no handler at pc catches E -/
theorem awx_outP {E : String} {q : Nat} (hx : X E q h) (hp : ∀ z ∈ tableOf mi.2.2.2.2, covers z pc = false ∨ (z.catchType ≠ 0 ∧ ∃ nm : String, Cond.classLink mi.1.cls z.catchType nm ∈ lw_all ∧ (E, nm) ∈ ncL)) (hc : cells ≤ mc) (hs : slots ≤ ms) : AWX l g mi d mc ms Q X cells slots h pc ls E q := by
  intro p e s m args below meth c H locs lsA rest ce F B L h1 h2 h3
  refine vx_outP F.2.2.2.2.2.1 F.2.2.2.2.2.2.2.1 (fun z hz => ?_) h1 h2 h3 (fun t ht _ => ⟨h, hx, by rw [ht]; exact B.2.2.1, B.2.2.2.F ht⟩) B.2.2.2.2.2 hc hs
  rw [F.2.2.2.2.2.2.2.2.2] at hz
  rcases hp z hz with q | ⟨q1, nm, q2, q3⟩
  · exact Or.inl q
  · obtain ⟨i, hi⟩ := List.getElem?_of_mem q3
    exact Or.inr ⟨q1, nm, F.2.2.2.2.2.2.1 _ q2, B.1.2.2.2.2.2.1 i _ hi⟩
theorem awx_catch {E name : String} {q : Nat} (t : Nat) (pre : List ExceptionTableEntry) (x : ExceptionTableEntry) (suf : List ExceptionTableEntry) (hsplit : tableOf mi.2.2.2.2 = pre ++ x :: suf) (hp : ∀ z ∈ pre, covers z pc = false ∨ (z.catchType ≠ 0 ∧ ∃ nm : String, Cond.classLink mi.1.cls z.catchType nm ∈ lw_all ∧ (E, nm) ∈ ncL)) (hx : covers x pc = true) (h0 : x.catchType ≠ 0) (hlink : Cond.classLink mi.1.cls x.catchType name ∈ lw_all) (hcast : Cond.castable E name ∈ lw_tbl ∨ (E = name ∧ ∃ dC, ClassAt dC E 0 ∧ False) ) (ht : x.handlerPc = t) (kk : AWc l g mi d mc ms Q X cells slots h t ls [.ref q]) : AWX l g mi d mc ms Q X cells slots h pc ls E q := by
  subst ht
  intro p e s m args below meth c H locs lsA rest ce F B L h1 h2 h3
  have hct : (Cond.castable E name).before args s = true := by
    rcases hcast with z | ⟨-, -, -, z⟩
    · exact va_Nw.use rfl (B.1.2.2.1 _ z rfl)
    · exact z.elim
  refine vx_catch F.2.2.2.2.2.1 pre x suf (by rw [F.2.2.2.2.2.2.2.2.2]; exact hsplit) (fun z hz => ?_) hx h0 (F.2.2.2.2.2.2.1 _ hlink) hct h1 h2 h3 (kk p e s m args below meth c H locs lsA F B L)
  rcases hp z hz with q | ⟨q1, nm, q2, q3⟩
  · exact Or.inl q
  · obtain ⟨i, hi⟩ := List.getElem?_of_mem q3
    exact Or.inr ⟨q1, nm, F.2.2.2.2.2.2.1 _ q2, B.1.2.2.2.2.2.1 i _ hi⟩
/-- throw new E() -/
theorem aw_throw0 {cls : String} {names : List String} {ik ic : Nat} (hcls : Bundle.fit cls = true) (hnames : ∀ n ∈ names, Bundle.fit n = true) (hk : Cond.classLink mi.1.cls ik cls ∈ lw_all) (hini : Cond.initialized cls ∈ lw_all) (hat : ∀ w ∈ vx_at0 mi.1.cls ic cls names, w ∈ lw_all ∨ (w ∈ lw_tbl ∧ nwK w = true)) (hgood : ∀ w ∈ Cond.classLink mi.1.cls ik cls :: Cond.initialized cls :: vx_at0 mi.1.cls ic cls names, vx_ot w = true)
    (d0 : decode mi.2.1 pc = .ok (.new ik, 3)) (d3 : decode mi.2.1 (pc + 3) = .ok (.dup, 1)) (d4 : decode mi.2.1 (pc + 4) = .ok (.invokespecial ic, 3)) (d7 : decode mi.2.1 (pc + 7) = .ok (.athrow, 1))
    (hh : ∀ z ∈ tableOf mi.2.2.2.2, covers z (pc + 7) = false) (hfr : names.length + 3 < d) (hlo : (st.map fun v => v.category).sum + (13 * (names.length + 1) + 42) ≤ 64 * d) (hc : cells + 1 ≤ mc) (hs : slots + 6 ≤ ms)
    (hx : ∀ q, X cls q h) : AWc l g mi d mc ms Q X cells slots h pc ls st := by
  intro p e s m args below meth c H locs lsA F B L
  refine vx_throw0 F.2.1 F.2.2.1 F.1 F.2.2.2.2.2.1 hcls hnames (F.2.2.2.2.2.2.1 _ hk) (F.2.2.2.2.2.2.1 _ hini) (fun w hw => ?_) hgood B.1.2.2.2.2.2.2.2.1.1 B.1.2.2.2.2.2.2.2.1.2 B.2.2.2 (L.1.trans F.2.2.2.2.1.symm) d0 d3 d4 d7 (fun x hx9 => hh x (by rw [← F.2.2.2.2.2.2.2.2.2]; exact hx9)) hfr hlo hc hs F.2.2.2.2.2.2.2.1 (fun q t hv hz hq => ⟨h, hx q, ?_, Nat.le_trans B.2.2.2.1 hz, fun a ha hb => (hq a (Nat.lt_of_lt_of_le ha B.2.2.2.1)).trans (B.2.2.2.2.1 a ha hb)⟩) B.2.2.2.2.2 hc hs
  · rcases hat w hw with z | ⟨z1, z2⟩
    · exact F.2.2.2.2.2.2.1 _ z
    · have hz := B.1.2.2.1 _ z1 z2
      cases w <;> first | exact va_Nw.use rfl hz | (simp [nwK] at z2)
  · obtain ⟨ws, h1, h2, h3⟩ := B.2.2.1
    exact ⟨ws, h1.kept (fun j x hj => hq x.1 (h1 j x hj).lt), h2, h3⟩
theorem aw_athrow {q ci9 : Nat} {fs9 : List Value} {r9 : vw_C} (hr : h q = some (.inr (ci9, fs9))) (hc : clG[ci9]? = some r9) (hd : decode mi.2.1 pc = .ok (.athrow, 1)) (kk : AWX l g mi d mc ms Q X cells slots h pc ls r9.1 q) : AWc l g mi d mc ms Q X cells slots h pc ls (.ref q :: st) := by
  intro p e s m args below meth c H locs lsA F B L
  obtain ⟨r', h1, cell, q1, q2, q3, q4⟩ := (B.2.2.1.at' hr).1
  cases h1.symm.trans hc
  exact vx_athrow F.2.1 F.2.2.1 hd (kk p e s m args below meth c H locs lsA st cell F B L q1 q3 (by rw [q2]; exact (B.1.1.1 ci9 r9 hc).2.1))
end ACALLS
