/-! THE ABSTRACT MACHINE, 4: calls, throws, handlers -/
set_option maxRecDepth 100000
/-- a post of what returns alone -/
def aRet (P : Option Value → AH → Prop) : AR → AH → Prop
  | .inl v, h' => P v h'
  | .inr _, _ => False
/-- what a call asks of a method: its code, its class, its parameters -/
def aMk (Y : YC) (n : Nat) : Prop := yH Y = [] ∧ Cond.code (yM Y) (yC Y) (yN Y) (yR Y) ∈ lw_all ∧ Cond.initialized (yO Y) ∈ lw_all ∧ (yO Y ≠ "java/lang/invoke/MethodHandle" ∧ yO Y ≠ "java/lang/invoke/VarHandle" ∧ (parseMethodDescriptor (yM Y).desc).map (fun d => d.parameters.length) = some n) ∧ yN Y ≤ 21
/-- the same of a method with handlers -/
def aMkW (Y : YC) (n : Nat) : Prop := aWs Y = wsW_ (yM Y) (yC Y) (yN Y) (yR Y) (yH Y) ∧ Cond.codeWith (yM Y) (yC Y) (yN Y) (yR Y) (yH Y) ∈ lw_all ∧ Cond.initialized (yO Y) ∈ lw_all ∧ (yO Y ≠ "java/lang/invoke/MethodHandle" ∧ yO Y ≠ "java/lang/invoke/VarHandle" ∧ (parseMethodDescriptor (yM Y).desc).map (fun d => d.parameters.length) = some n) ∧ yN Y ≤ 21
theorem aWs_nil {Y : YC} (h : yH Y = []) : aWs Y = ws_ (yM Y) (yC Y) (yN Y) (yR Y) := by
  unfold aWs
  rw [h]
section AWC
variable {g : AG} {Y : YC} {d : Nat} {Q : AR → AH → Prop} {h : AH} {loc loc' : List (Option Value)} {pc : Nat} {rest : List Value}
variable {p : Program} {e : Env} {R : Room} {s : State} {m : MethodId} {args : Array Value} {below : List Frame} {meth : Method} {c : Code} {H : Heap} {locs : List Loc} {cells slots mc ms : Nat} {ls : Array Slot}
theorem aDrop {T : State} (X : Stand p (gL g) e R s m args below meth c T locs cells slots) : hsl T.heap = hsl s.heap + ((T.heap.toList.drop s.heap.size).map (·.slots.size)).sum := by
  have h0 : s.slotsTrue = true := by
    have h := X.room
    simp only [State.hasRoom, Bool.and_eq_true] at h
    exact h.2
  have h1 := X.book
  unfold State.slotsTrue at h0 h1
  rw [hsl_fold] at h0 h1
  have h0 := eq_of_beq h0
  have h1 := eq_of_beq h1
  rw [← h0, ← h1]
  exact X.same.2.2.2.1
/-- behind a call: what it has made is known -/
theorem aAfter {h' : AH} {T T' : State} {L : List Loc} {c2 n2 : Nat} (hR : aRel g h H) (hR' : aRel g h' T'.heap) (hM : aRoom g d (gLc g - h.2.1) (gLs g - h.2.2) R s H locs cells slots mc ms) (hT : T.heap = H) (X : Stand p (gL g) e R s m args below meth c T locs cells slots) (X' : Stand p (gL g) e R s m args below meth c T' (locs ++ L) (cells + c2) (slots + n2)) (hz : aGr H T'.heap) (hL : ∀ q ∈ L, aFree g q.base) :
    Stand p (gL g) e R s m args below meth c T' (locs ++ L) (cells + (h'.2.1 - h.2.1)) (slots + (h'.2.2 - h.2.2)) ∧ aRoom g d (gLc g - h'.2.1) (gLs g - h'.2.2) R s T'.heap (locs ++ L) (cells + (h'.2.1 - h.2.1)) (slots + (h'.2.2 - h.2.2)) mc ms := by
  have d1 := aDrop X
  have d2 := aDrop X'
  rw [hT] at d1
  obtain ⟨y1, y2, y3, y4, y5, y6⟩ := X'.same
  have x3 := X.same.2.2.1
  have x5 := X.same.2.2.2.2.1
  have x3 : T.heap.size ≤ s.heap.size + cells := x3
  have x5 : ((T.heap.toList.drop s.heap.size).map (·.slots.size)).sum ≤ slots := x5
  rw [hT] at x3 x5
  obtain ⟨r1, -, -, -, r5, r6, r7⟩ := hR
  obtain ⟨s1, -, -, -, s5, s6, s7⟩ := hR'
  obtain ⟨m1, m2, m3, m4, m5, m6, m7, m8⟩ := hM
  have w1 : T'.heap.size ≤ s.heap.size + (cells + (h'.2.1 - h.2.1)) := by omega
  have w2 : ((T'.heap.toList.drop s.heap.size).map (·.slots.size)).sum ≤ slots + (h'.2.2 - h.2.2) := by omega
  obtain ⟨z1, z2⟩ := hz
  obtain ⟨n1, n2⟩ := m2
  refine ⟨{ X' with same := ⟨y1, y2, w1, y4, w2, y6⟩ }, fun q hq => ?_, ⟨by omega, by omega⟩, m3, m4, by omega, by omega, by omega, by omega⟩
  rcases List.mem_append.mp hq with hq | hq
  · exact m1 q hq
  · exact hL q hq
theorem aw_ofRun {as : Array Value} {st0 : List Value} {Q2 : AR → AH → Prop} (A : aAct g Y p s m args meth c) (hR : aRel g h H) (hM : aRoom g d (gLc g - h.2.1) (gLs g - h.2.2) R s H locs cells slots mc ms) (hL : aHas ls (yN Y) loc) (hr : vx_Run p (gL g) e R s m args below meth c H locs cells slots (gLc g - h.2.1) (gLs g - h.2.2) (F0 m pc ls st0) rest (aQ g Q2 as) (aX g Q2) (aFree g))
    (kk : ∀ (v : Option Value) (h' : AH), h.2.1 ≤ h'.2.1 → Q2 (.inl v) h' → AW g Y d Q h' loc (pc + 3) (v.toList ++ rest)) (kx : ∀ (E : String) (h' : AH), h.2.1 ≤ h'.2.1 → Q2 (.inr E) h' → AX g Y d Q h' loc pc E) :
    W p (gL g) e R s m args below meth c H locs cells slots (vx_MQ below (aQ g Q) (aX g Q) args s mc ms (aFree g)) (F0 m pc ls st0) := by
  intro T hT X
  rcases hr T hT X with ⟨v, st₀, t, T', L, h0, X', hL', e1, e2, ⟨v', h', hv, hR', hz, hq⟩, st⟩ | ⟨q, st₀, t, T', L, E, ce, h0, X', hL', e1, e2, ⟨h', hR', hz, hq⟩, hce, hcv, hcl, st⟩
  · cases hv
    rw [← e1] at hR' hz
    rw [h0] at hz
    obtain ⟨X2, hM2⟩ := aAfter hR hR' hM hT X X' hz hL'
    obtain ⟨t2, a1, b1⟩ := kk v h' (by rw [hR.1, hR'.1]; exact hz.1) hq p e R s m args below meth c T'.heap (locs ++ L) _ _ mc ms ls A hR' hM2 hL T' rfl X2
    exact ⟨t2, st t2 a1, b1⟩
  · rw [← e1] at hR' hz hce
    rw [h0] at hz
    obtain ⟨X2, hM2⟩ := aAfter hR hR' hM hT X X' hz hL'
    obtain ⟨t2, a1, b1⟩ := kx E h' (by rw [hR.1, hR'.1]; exact hz.1) hq p e R s m args below meth c T'.heap (locs ++ L) _ _ mc ms ls rest q ce A hR' hM2 hL hce hcv hcl T' rfl X2
    exact ⟨t2, st.trans a1, b1⟩
theorem aw_ofRun5 {as : Array Value} {st0 : List Value} {Q2 : AR → AH → Prop} (A : aAct g Y p s m args meth c) (hR : aRel g h H) (hM : aRoom g d (gLc g - h.2.1) (gLs g - h.2.2) R s H locs cells slots mc ms) (hL : aHas ls (yN Y) loc) (hr : vx_Run5 p (gL g) e R s m args below meth c H locs cells slots (gLc g - h.2.1) (gLs g - h.2.2) (F0 m pc ls st0) rest (aQ g Q2 as) (aX g Q2) (aFree g))
    (kk : ∀ (v : Option Value) (h' : AH), h.2.1 ≤ h'.2.1 → Q2 (.inl v) h' → AW g Y d Q h' loc (pc + 5) (v.toList ++ rest)) (kx : ∀ (E : String) (h' : AH), h.2.1 ≤ h'.2.1 → Q2 (.inr E) h' → AX g Y d Q h' loc pc E) :
    W p (gL g) e R s m args below meth c H locs cells slots (vx_MQ below (aQ g Q) (aX g Q) args s mc ms (aFree g)) (F0 m pc ls st0) := by
  intro T hT X
  rcases hr T hT X with ⟨v, st₀, t, T', L, h0, X', hL', e1, e2, ⟨v', h', hv, hR', hz, hq⟩, st⟩ | ⟨q, st₀, t, T', L, E, ce, h0, X', hL', e1, e2, ⟨h', hR', hz, hq⟩, hce, hcv, hcl, st⟩
  · cases hv
    rw [← e1] at hR' hz
    rw [h0] at hz
    obtain ⟨X2, hM2⟩ := aAfter hR hR' hM hT X X' hz hL'
    obtain ⟨t2, a1, b1⟩ := kk v h' (by rw [hR.1, hR'.1]; exact hz.1) hq p e R s m args below meth c T'.heap (locs ++ L) _ _ mc ms ls A hR' hM2 hL T' rfl X2
    exact ⟨t2, st t2 a1, b1⟩
  · rw [← e1] at hR' hz hce
    rw [h0] at hz
    obtain ⟨X2, hM2⟩ := aAfter hR hR' hM hT X X' hz hL'
    obtain ⟨t2, a1, b1⟩ := kx E h' (by rw [hR.1, hR'.1]; exact hz.1) hq p e R s m args below meth c T'.heap (locs ++ L) _ _ mc ms ls rest q ce A hR' hM2 hL hce hcv hcl T' rfl X2
    exact ⟨t2, st.trans a1, b1⟩
theorem aRoom.call {d2 bc bs bc2 bs2 L : Nat} (hM : aRoom g d bc bs R s H locs cells slots mc ms) (hd : d2 + 1 ≤ d) (hN : L ≤ 21) : (aRm d2 bc2 bs2).frames + 1 ≤ R.frames ∧ 8 + (L + 11) + (aRm d2 bc2 bs2).locals ≤ R.locals := by
  obtain ⟨m1, m2, m3, m4, m5, m6, m7, m8⟩ := hM
  show d2 + 1 ≤ R.frames ∧ 8 + (L + 11) + 40 * d2 ≤ R.locals
  omega
theorem aRoom.pay {mc2 ms2 : Nat} (hM : aRoom g d mc2 ms2 R s H locs cells slots mc ms) : cells + mc2 ≤ R.cells ∧ slots + ms2 ≤ R.slots := by
  obtain ⟨m1, m2, m3, m4, m5, m6, m7, m8⟩ := hM
  omega
theorem aAct.fix (A : aAct g Y p s m args meth c) : CallFix p m c (yC Y) (yN Y) s args lw_all (yO Y) := ⟨A.1, A.2.1, A.2.2.1, A.2.2.2.2.2.1, A.2.2.2.2.2.2.1⟩
theorem aPreV {as : List Value} {b ci : Nat} {fs : List Value} {r : vw_C} (A : aAct g Y p s m args meth c) (hR : aRel g h H) (ha : h.1 b = some (.inr (ci, fs))) (hc : aCl[ci]? = some r) : PreV s H r.1 b (aPc g (.ref b :: as) h) as :=
  ⟨aPc.blind, aRecv A.2.2.2.2.2.2.2.1 hR ha hc, fun U hU hW => ⟨rfl, by rw [hU]; exact hR, A.2.2.2.2.2.2.2.1.moved hW⟩⟩
theorem aPreS {as : List Value} (A : aAct g Y p s m args meth c) (hR : aRel g h H) : PreS s H (aPc g as h) as :=
  ⟨aPc.blind, fun U hU hW => ⟨rfl, by rw [hU]; exact hR, A.2.2.2.2.2.2.2.1.moved hW⟩⟩
theorem CT.met {Y2 : YC} {d2 : Nat} {as : List Value} {Q2 : AR → AH → Prop} (hM : CT g Y2 d2 as h Q2) (hh : yH Y2 = []) : vx_Met (gL g) (yM Y2) (ws_ (yM Y2) (yC Y2) (yN Y2) (yR Y2)) (aRm d2 (gLc g - h.2.1) (gLs g - h.2.2)) (aPc g as h) (aQ g Q2) (aX g Q2) (gLc g - h.2.1) (gLs g - h.2.2) (aFree g) := by
  have h1 : vx_Met (gL g) (yM Y2) (aWs Y2) (aRm d2 (gLc g - h.2.1) (gLs g - h.2.2)) (aPc g as h) (aQ g Q2) (aX g Q2) (gLc g - h.2.1) (gLs g - h.2.2) (aFree g) := hM
  rwa [aWs_nil hh] at h1
theorem CT.metW {Y2 : YC} {d2 : Nat} {as : List Value} {Q2 : AR → AH → Prop} (hM : CT g Y2 d2 as h Q2) (hh : aWs Y2 = wsW_ (yM Y2) (yC Y2) (yN Y2) (yR Y2) (yH Y2)) : vx_Met (gL g) (yM Y2) (wsW_ (yM Y2) (yC Y2) (yN Y2) (yR Y2) (yH Y2)) (aRm d2 (gLc g - h.2.1) (gLs g - h.2.2)) (aPc g as h) (aQ g Q2) (aX g Q2) (gLc g - h.2.1) (gLs g - h.2.2) (aFree g) := by
  have h1 : vx_Met (gL g) (yM Y2) (aWs Y2) (aRm d2 (gLc g - h.2.1) (gLs g - h.2.2)) (aPc g as h) (aQ g Q2) (aX g Q2) (gLc g - h.2.1) (gLs g - h.2.2) (aFree g) := hM
  rwa [hh] at h1
theorem aw_callVX {Y2 : YC} {idx n d2 : Nat} {As st : List Value} {Q2 : AR → AH → Prop} {b ci : Nat} {fs : List Value} {r : vw_C} (hk : aMk Y2 n) (ha : h.1 b = some (.inr (ci, fs))) (hc : aCl[ci]? = some r) (ho : yO Y2 = r.1) (hl : Cond.methodLink (yO Y) idx (yM Y2) ∈ lw_all) (hi : Cond.instanceMethod (yM Y2) ∈ lw_all) (hv : Cond.selects r.1 (yM Y2) (yM Y2) ∈ lw_all) (dd : decode (yC Y) pc = .ok (.invokevirtual idx, 3)) (hs : st = As.reverse ++ .ref b :: rest) (hn : As.length = n) (hct : CT g Y2 d2 (.ref b :: As) h Q2) (hd : d2 + 1 ≤ d) (hr : (rest.map fun v => v.category).sum ≤ 8) (kk : ∀ (v : Option Value) (h' : AH), h.2.1 ≤ h'.2.1 → Q2 (.inl v) h' → AW g Y d Q h' loc (pc + 3) (v.toList ++ rest)) (kx : ∀ (E : String) (h' : AH), h.2.1 ≤ h'.2.1 → Q2 (.inr E) h' → AX g Y d Q h' loc pc E) : AW g Y d Q h loc pc st := by
  intro p e R s m args below meth c H locs cells slots mc ms ls A hR hM hL
  subst hs
  have hts := A.2.2.2.2.2.2.1
  have hK : aK g s := A.2.2.2.2.2.2.2.1
  obtain ⟨k1, k2, k3, k4, k5⟩ := hk
  refine aw_ofRun A hR hM hL (vx_runV (C := r.1) (n := n) A.fix (hct.met k1) (cwV n hts (lw_V hl hi hv (ho ▸ k3) k2) rfl rfl rfl ⟨ho, k4⟩ (hM.call hd k5)) (aPreV A hR ha hc) rfl hn hL.1 rfl (lv_room hr) dd hM.pay) kk kx
theorem aw_callV {Y2 : YC} {idx n d2 : Nat} {As st : List Value} {P2 : Option Value → AH → Prop} {b ci : Nat} {fs : List Value} {r : vw_C} (hk : aMk Y2 n) (ha : h.1 b = some (.inr (ci, fs))) (hc : aCl[ci]? = some r) (ho : yO Y2 = r.1) (hl : Cond.methodLink (yO Y) idx (yM Y2) ∈ lw_all) (hi : Cond.instanceMethod (yM Y2) ∈ lw_all) (hv : Cond.selects r.1 (yM Y2) (yM Y2) ∈ lw_all) (dd : decode (yC Y) pc = .ok (.invokevirtual idx, 3)) (hs : st = As.reverse ++ .ref b :: rest) (hn : As.length = n) (hct : CT g Y2 d2 (.ref b :: As) h (aRet P2)) (hd : d2 + 1 ≤ d) (hr : (rest.map fun v => v.category).sum ≤ 8) (kk : ∀ (v : Option Value) (h' : AH), h.2.1 ≤ h'.2.1 → P2 v h' → AW g Y d Q h' loc (pc + 3) (v.toList ++ rest)) : AW g Y d Q h loc pc st :=
  aw_callVX hk ha hc ho hl hi hv dd hs hn hct hd hr kk (fun _ _ _ z => z.elim)
theorem aw_callWX {Y2 : YC} {idx n d2 : Nat} {As st : List Value} {Q2 : AR → AH → Prop} {b ci : Nat} {fs : List Value} {r : vw_C} (hk : aMkW Y2 n) (ha : h.1 b = some (.inr (ci, fs))) (hc : aCl[ci]? = some r) (ho : yO Y2 = r.1) (hl : Cond.methodLink (yO Y) idx (yM Y2) ∈ lw_all) (hi : Cond.instanceMethod (yM Y2) ∈ lw_all) (hv : Cond.selects r.1 (yM Y2) (yM Y2) ∈ lw_all) (dd : decode (yC Y) pc = .ok (.invokevirtual idx, 3)) (hs : st = As.reverse ++ .ref b :: rest) (hn : As.length = n) (hct : CT g Y2 d2 (.ref b :: As) h Q2) (hd : d2 + 1 ≤ d) (hr : (rest.map fun v => v.category).sum ≤ 8) (kk : ∀ (v : Option Value) (h' : AH), h.2.1 ≤ h'.2.1 → Q2 (.inl v) h' → AW g Y d Q h' loc (pc + 3) (v.toList ++ rest)) (kx : ∀ (E : String) (h' : AH), h.2.1 ≤ h'.2.1 → Q2 (.inr E) h' → AX g Y d Q h' loc pc E) : AW g Y d Q h loc pc st := by
  intro p e R s m args below meth c H locs cells slots mc ms ls A hR hM hL
  subst hs
  have hts := A.2.2.2.2.2.2.1
  have hK : aK g s := A.2.2.2.2.2.2.2.1
  obtain ⟨k1, k2, k3, k4, k5⟩ := hk
  refine aw_ofRun A hR hM hL (vx_runVX (C := r.1) (n := n) A.fix (hct.metW k1) (vx_cwVW n hts (lw_VW hl hi hv (ho ▸ k3) k2) rfl rfl rfl ⟨ho, k4⟩ (hM.call hd k5)) (aPreV A hR ha hc) rfl hn hL.1 rfl (lv_room hr) dd hM.pay) kk kx
theorem aw_callW {Y2 : YC} {idx n d2 : Nat} {As st : List Value} {P2 : Option Value → AH → Prop} {b ci : Nat} {fs : List Value} {r : vw_C} (hk : aMkW Y2 n) (ha : h.1 b = some (.inr (ci, fs))) (hc : aCl[ci]? = some r) (ho : yO Y2 = r.1) (hl : Cond.methodLink (yO Y) idx (yM Y2) ∈ lw_all) (hi : Cond.instanceMethod (yM Y2) ∈ lw_all) (hv : Cond.selects r.1 (yM Y2) (yM Y2) ∈ lw_all) (dd : decode (yC Y) pc = .ok (.invokevirtual idx, 3)) (hs : st = As.reverse ++ .ref b :: rest) (hn : As.length = n) (hct : CT g Y2 d2 (.ref b :: As) h (aRet P2)) (hd : d2 + 1 ≤ d) (hr : (rest.map fun v => v.category).sum ≤ 8) (kk : ∀ (v : Option Value) (h' : AH), h.2.1 ≤ h'.2.1 → P2 v h' → AW g Y d Q h' loc (pc + 3) (v.toList ++ rest)) : AW g Y d Q h loc pc st :=
  aw_callWX hk ha hc ho hl hi hv dd hs hn hct hd hr kk (fun _ _ _ z => z.elim)
theorem aw_callVNX {Y2 : YC} {idx n d2 : Nat} {As st : List Value} {Q2 : AR → AH → Prop} {b ci : Nat} {fs : List Value} {r : vw_C} {host : String} (hk : aMk Y2 n) (ha : h.1 b = some (.inr (ci, fs))) (hc : aCl[ci]? = some r) (hl : Cond.methodLinkNest (yO Y) idx (yM Y2) host ∈ lw_tbl) (hi : Cond.instanceMethod (yM Y2) ∈ lw_all) (hv : Cond.selects r.1 (yM Y2) (yM Y2) ∈ lw_all) (dd : decode (yC Y) pc = .ok (.invokevirtual idx, 3)) (hs : st = As.reverse ++ .ref b :: rest) (hn : As.length = n) (hct : CT g Y2 d2 (.ref b :: As) h Q2) (hd : d2 + 1 ≤ d) (hr : (rest.map fun v => v.category).sum ≤ 8) (kk : ∀ (v : Option Value) (h' : AH), h.2.1 ≤ h'.2.1 → Q2 (.inl v) h' → AW g Y d Q h' loc (pc + 3) (v.toList ++ rest)) (kx : ∀ (E : String) (h' : AH), h.2.1 ≤ h'.2.1 → Q2 (.inr E) h' → AX g Y d Q h' loc pc E) : AW g Y d Q h loc pc st := by
  intro p e R s m args below meth c H locs cells slots mc ms ls A hR hM hL
  subst hs
  have hts := A.2.2.2.2.2.2.1
  have hK : aK g s := A.2.2.2.2.2.2.2.1
  obtain ⟨k1, k2, k3, k4, k5⟩ := hk
  refine aw_ofRun A hR hM hL (vx_runVN (C := r.1) (n := n) A.fix (hct.met k1) ⟨va_cnB n hts (lw_meth k2) rfl rfl rfl (hK.nw hl rfl) (hts _ k3) k4 (hM.call hd k5), hts _ hi, hts _ hv⟩ (aPreV A hR ha hc) rfl hn hL.1 rfl (lv_room hr) dd hM.pay) kk kx
theorem aw_callVN {Y2 : YC} {idx n d2 : Nat} {As st : List Value} {P2 : Option Value → AH → Prop} {b ci : Nat} {fs : List Value} {r : vw_C} {host : String} (hk : aMk Y2 n) (ha : h.1 b = some (.inr (ci, fs))) (hc : aCl[ci]? = some r) (hl : Cond.methodLinkNest (yO Y) idx (yM Y2) host ∈ lw_tbl) (hi : Cond.instanceMethod (yM Y2) ∈ lw_all) (hv : Cond.selects r.1 (yM Y2) (yM Y2) ∈ lw_all) (dd : decode (yC Y) pc = .ok (.invokevirtual idx, 3)) (hs : st = As.reverse ++ .ref b :: rest) (hn : As.length = n) (hct : CT g Y2 d2 (.ref b :: As) h (aRet P2)) (hd : d2 + 1 ≤ d) (hr : (rest.map fun v => v.category).sum ≤ 8) (kk : ∀ (v : Option Value) (h' : AH), h.2.1 ≤ h'.2.1 → P2 v h' → AW g Y d Q h' loc (pc + 3) (v.toList ++ rest)) : AW g Y d Q h loc pc st :=
  aw_callVNX hk ha hc hl hi hv dd hs hn hct hd hr kk (fun _ _ _ z => z.elim)
theorem aw_callSX {Y2 : YC} {idx n d2 : Nat} {As st : List Value} {Q2 : AR → AH → Prop} (hk : aMk Y2 n) (hl : Cond.methodLink (yO Y) idx (yM Y2) ∈ lw_all) (hi : Cond.static (yM Y2) ∈ lw_all) (dd : decode (yC Y) pc = .ok (.invokestatic idx, 3)) (hs : st = As.reverse ++ rest) (hn : As.length = n) (hct : CT g Y2 d2 As h Q2) (hd : d2 + 1 ≤ d) (hr : (rest.map fun v => v.category).sum ≤ 8) (kk : ∀ (v : Option Value) (h' : AH), h.2.1 ≤ h'.2.1 → Q2 (.inl v) h' → AW g Y d Q h' loc (pc + 3) (v.toList ++ rest)) (kx : ∀ (E : String) (h' : AH), h.2.1 ≤ h'.2.1 → Q2 (.inr E) h' → AX g Y d Q h' loc pc E) : AW g Y d Q h loc pc st := by
  intro p e R s m args below meth c H locs cells slots mc ms ls A hR hM hL
  subst hs
  have hts := A.2.2.2.2.2.2.1
  have hK : aK g s := A.2.2.2.2.2.2.2.1
  obtain ⟨k1, k2, k3, k4, k5⟩ := hk
  refine aw_ofRun A hR hM hL (vx_runS (n := n) A.fix (hct.met k1) (va_cwS n hts (lw_S hl hi k3 k2) rfl rfl rfl k4 (hM.call hd k5)) (aPreS A hR) rfl hn hL.1 rfl (lv_room hr) dd hM.pay) kk kx
theorem aw_callS {Y2 : YC} {idx n d2 : Nat} {As st : List Value} {P2 : Option Value → AH → Prop} (hk : aMk Y2 n) (hl : Cond.methodLink (yO Y) idx (yM Y2) ∈ lw_all) (hi : Cond.static (yM Y2) ∈ lw_all) (dd : decode (yC Y) pc = .ok (.invokestatic idx, 3)) (hs : st = As.reverse ++ rest) (hn : As.length = n) (hct : CT g Y2 d2 As h (aRet P2)) (hd : d2 + 1 ≤ d) (hr : (rest.map fun v => v.category).sum ≤ 8) (kk : ∀ (v : Option Value) (h' : AH), h.2.1 ≤ h'.2.1 → P2 v h' → AW g Y d Q h' loc (pc + 3) (v.toList ++ rest)) : AW g Y d Q h loc pc st :=
  aw_callSX hk hl hi dd hs hn hct hd hr kk (fun _ _ _ z => z.elim)
theorem aw_callSWX {Y2 : YC} {idx n d2 : Nat} {As st : List Value} {Q2 : AR → AH → Prop} (hk : aMkW Y2 n) (hl : Cond.methodLink (yO Y) idx (yM Y2) ∈ lw_all) (hi : Cond.static (yM Y2) ∈ lw_all) (dd : decode (yC Y) pc = .ok (.invokestatic idx, 3)) (hs : st = As.reverse ++ rest) (hn : As.length = n) (hct : CT g Y2 d2 As h Q2) (hd : d2 + 1 ≤ d) (hr : (rest.map fun v => v.category).sum ≤ 8) (kk : ∀ (v : Option Value) (h' : AH), h.2.1 ≤ h'.2.1 → Q2 (.inl v) h' → AW g Y d Q h' loc (pc + 3) (v.toList ++ rest)) (kx : ∀ (E : String) (h' : AH), h.2.1 ≤ h'.2.1 → Q2 (.inr E) h' → AX g Y d Q h' loc pc E) : AW g Y d Q h loc pc st := by
  intro p e R s m args below meth c H locs cells slots mc ms ls A hR hM hL
  subst hs
  have hts := A.2.2.2.2.2.2.1
  have hK : aK g s := A.2.2.2.2.2.2.2.1
  obtain ⟨k1, k2, k3, k4, k5⟩ := hk
  refine aw_ofRun A hR hM hL (vx_runSX (n := n) A.fix (hct.metW k1) (vx_cwSW n hts (lw_SW hl hi k3 k2) rfl rfl rfl k4 (hM.call hd k5)) (aPreS A hR) rfl hn hL.1 rfl (lv_room hr) dd hM.pay) kk kx
theorem aw_callSW {Y2 : YC} {idx n d2 : Nat} {As st : List Value} {P2 : Option Value → AH → Prop} (hk : aMkW Y2 n) (hl : Cond.methodLink (yO Y) idx (yM Y2) ∈ lw_all) (hi : Cond.static (yM Y2) ∈ lw_all) (dd : decode (yC Y) pc = .ok (.invokestatic idx, 3)) (hs : st = As.reverse ++ rest) (hn : As.length = n) (hct : CT g Y2 d2 As h (aRet P2)) (hd : d2 + 1 ≤ d) (hr : (rest.map fun v => v.category).sum ≤ 8) (kk : ∀ (v : Option Value) (h' : AH), h.2.1 ≤ h'.2.1 → P2 v h' → AW g Y d Q h' loc (pc + 3) (v.toList ++ rest)) : AW g Y d Q h loc pc st :=
  aw_callSWX hk hl hi dd hs hn hct hd hr kk (fun _ _ _ z => z.elim)
theorem aw_callIX {Y2 : YC} {idx n d2 : Nat} {As st : List Value} {Q2 : AR → AH → Prop} {b : Nat} (hk : aMk Y2 n) (hi0 : (yM Y2).name = "<init>") (h0 : yR Y2 = none) (hl : Cond.methodLink (yO Y) idx (yM Y2) ∈ lw_all) (hi : Cond.instanceMethod (yM Y2) ∈ lw_all) (dd : decode (yC Y) pc = .ok (.invokespecial idx, 3)) (hs : st = As.reverse ++ .ref b :: rest) (hn : As.length = n) (hct : CT g Y2 d2 (.ref b :: As) h Q2) (hd : d2 + 1 ≤ d) (hr : (rest.map fun v => v.category).sum ≤ 8) (kk : ∀ (v : Option Value) (h' : AH), h.2.1 ≤ h'.2.1 → Q2 (.inl v) h' → AW g Y d Q h' loc (pc + 3) (v.toList ++ rest)) (kx : ∀ (E : String) (h' : AH), h.2.1 ≤ h'.2.1 → Q2 (.inr E) h' → AX g Y d Q h' loc pc E) : AW g Y d Q h loc pc st := by
  intro p e R s m args below meth c H locs cells slots mc ms ls A hR hM hL
  subst hs
  have hts := A.2.2.2.2.2.2.1
  have hK : aK g s := A.2.2.2.2.2.2.2.1
  obtain ⟨k1, k2, k3, k4, k5⟩ := hk
  refine aw_ofRun A hR hM hL (vx_runI (n := n) A.fix (hct.met k1) (by rw [h0] at k2 ⊢; exact cwI n hts (lw_meth k2) rfl rfl rfl (hts _ k3) (hts _ hl) (hts _ hi) hi0 k4 (hM.call hd k5)) (aPreS A hR) rfl hn hL.1 rfl (lv_room hr) dd hM.pay) kk kx
theorem aw_callI {Y2 : YC} {idx n d2 : Nat} {As st : List Value} {P2 : Option Value → AH → Prop} {b : Nat} (hk : aMk Y2 n) (hi0 : (yM Y2).name = "<init>") (h0 : yR Y2 = none) (hl : Cond.methodLink (yO Y) idx (yM Y2) ∈ lw_all) (hi : Cond.instanceMethod (yM Y2) ∈ lw_all) (dd : decode (yC Y) pc = .ok (.invokespecial idx, 3)) (hs : st = As.reverse ++ .ref b :: rest) (hn : As.length = n) (hct : CT g Y2 d2 (.ref b :: As) h (aRet P2)) (hd : d2 + 1 ≤ d) (hr : (rest.map fun v => v.category).sum ≤ 8) (kk : ∀ (v : Option Value) (h' : AH), h.2.1 ≤ h'.2.1 → P2 v h' → AW g Y d Q h' loc (pc + 3) (v.toList ++ rest)) : AW g Y d Q h loc pc st :=
  aw_callIX hk hi0 h0 hl hi dd hs hn hct hd hr kk (fun _ _ _ z => z.elim)
theorem aw_callINX {Y2 : YC} {idx n d2 : Nat} {As st : List Value} {Q2 : AR → AH → Prop} {b : Nat} {host : String} (hk : aMk Y2 n) (hi0 : (yM Y2).name = "<init>") (h0 : yR Y2 = none) (hl : Cond.methodLinkNest (yO Y) idx (yM Y2) host ∈ lw_tbl) (hi : Cond.instanceMethod (yM Y2) ∈ lw_all) (dd : decode (yC Y) pc = .ok (.invokespecial idx, 3)) (hs : st = As.reverse ++ .ref b :: rest) (hn : As.length = n) (hct : CT g Y2 d2 (.ref b :: As) h Q2) (hd : d2 + 1 ≤ d) (hr : (rest.map fun v => v.category).sum ≤ 8) (kk : ∀ (v : Option Value) (h' : AH), h.2.1 ≤ h'.2.1 → Q2 (.inl v) h' → AW g Y d Q h' loc (pc + 3) (v.toList ++ rest)) (kx : ∀ (E : String) (h' : AH), h.2.1 ≤ h'.2.1 → Q2 (.inr E) h' → AX g Y d Q h' loc pc E) : AW g Y d Q h loc pc st := by
  intro p e R s m args below meth c H locs cells slots mc ms ls A hR hM hL
  subst hs
  have hts := A.2.2.2.2.2.2.1
  have hK : aK g s := A.2.2.2.2.2.2.2.1
  obtain ⟨k1, k2, k3, k4, k5⟩ := hk
  refine aw_ofRun A hR hM hL (vx_runIN (n := n) A.fix (hct.met k1) (by rw [h0] at k2 ⊢; exact ⟨va_cnB n hts (lw_meth k2) rfl rfl rfl (hK.nw hl rfl) (hts _ k3) k4 (hM.call hd k5), hi0, hts _ hi⟩) (aPreS A hR) rfl hn hL.1 rfl (lv_room hr) dd hM.pay) kk kx
theorem aw_callIN {Y2 : YC} {idx n d2 : Nat} {As st : List Value} {P2 : Option Value → AH → Prop} {b : Nat} {host : String} (hk : aMk Y2 n) (hi0 : (yM Y2).name = "<init>") (h0 : yR Y2 = none) (hl : Cond.methodLinkNest (yO Y) idx (yM Y2) host ∈ lw_tbl) (hi : Cond.instanceMethod (yM Y2) ∈ lw_all) (dd : decode (yC Y) pc = .ok (.invokespecial idx, 3)) (hs : st = As.reverse ++ .ref b :: rest) (hn : As.length = n) (hct : CT g Y2 d2 (.ref b :: As) h (aRet P2)) (hd : d2 + 1 ≤ d) (hr : (rest.map fun v => v.category).sum ≤ 8) (kk : ∀ (v : Option Value) (h' : AH), h.2.1 ≤ h'.2.1 → P2 v h' → AW g Y d Q h' loc (pc + 3) (v.toList ++ rest)) : AW g Y d Q h loc pc st :=
  aw_callINX hk hi0 h0 hl hi dd hs hn hct hd hr kk (fun _ _ _ z => z.elim)
theorem aw_callSUX {Y2 : YC} {idx n d2 : Nat} {As st : List Value} {Q2 : AR → AH → Prop} {b ci : Nat} {fs : List Value} {r : vw_C} (hk : aMk Y2 n) (ha : h.1 b = some (.inr (ci, fs))) (hc : aCl[ci]? = some r) (h19 : ci < 19) (hl : Cond.methodLink (yO Y) idx (yM Y2) ∈ lw_all) (hsm : Cond.sameMethod (yO Y2) (yO Y2) (yM Y2).name (yM Y2).desc ∈ lw_all) (hsu : Cond.superclass (yO Y) (yO Y2) ∈ lw_all) (hi : Cond.instanceMethod (yM Y2) ∈ lw_all) (hni : (yM Y2).name ≠ "<init>") (dd : decode (yC Y) pc = .ok (.invokespecial idx, 3)) (hs : st = As.reverse ++ .ref b :: rest) (hn : As.length = n) (hct : CT g Y2 d2 (.ref b :: As) h Q2) (hd : d2 + 1 ≤ d) (hr : (rest.map fun v => v.category).sum ≤ 8) (kk : ∀ (v : Option Value) (h' : AH), h.2.1 ≤ h'.2.1 → Q2 (.inl v) h' → AW g Y d Q h' loc (pc + 3) (v.toList ++ rest)) (kx : ∀ (E : String) (h' : AH), h.2.1 ≤ h'.2.1 → Q2 (.inr E) h' → AX g Y d Q h' loc pc E) : AW g Y d Q h loc pc st := by
  intro p e R s m args below meth c H locs cells slots mc ms ls A hR hM hL
  subst hs
  have hts := A.2.2.2.2.2.2.1
  have hK : aK g s := A.2.2.2.2.2.2.2.1
  obtain ⟨k1, k2, k3, k4, k5⟩ := hk
  refine aw_ofRun A hR hM hL (vx_runSU (C := r.1) (n := n) (hK.kn h19 hc).2 A.fix (hct.met k1) (va_cwSU n hts (lw_app (fun w z => (by simp only [List.mem_cons, List.not_mem_nil, or_false] at z; rcases z with rfl | rfl | rfl | rfl | rfl <;> assumption)) (lw_meth k2)) rfl rfl rfl ⟨hni, k4.2.2⟩ (hM.call hd k5)) (aPreV A hR ha hc) rfl hn hL.1 rfl (lv_room hr) dd hM.pay) kk kx
theorem aw_callSU {Y2 : YC} {idx n d2 : Nat} {As st : List Value} {P2 : Option Value → AH → Prop} {b ci : Nat} {fs : List Value} {r : vw_C} (hk : aMk Y2 n) (ha : h.1 b = some (.inr (ci, fs))) (hc : aCl[ci]? = some r) (h19 : ci < 19) (hl : Cond.methodLink (yO Y) idx (yM Y2) ∈ lw_all) (hsm : Cond.sameMethod (yO Y2) (yO Y2) (yM Y2).name (yM Y2).desc ∈ lw_all) (hsu : Cond.superclass (yO Y) (yO Y2) ∈ lw_all) (hi : Cond.instanceMethod (yM Y2) ∈ lw_all) (hni : (yM Y2).name ≠ "<init>") (dd : decode (yC Y) pc = .ok (.invokespecial idx, 3)) (hs : st = As.reverse ++ .ref b :: rest) (hn : As.length = n) (hct : CT g Y2 d2 (.ref b :: As) h (aRet P2)) (hd : d2 + 1 ≤ d) (hr : (rest.map fun v => v.category).sum ≤ 8) (kk : ∀ (v : Option Value) (h' : AH), h.2.1 ≤ h'.2.1 → P2 v h' → AW g Y d Q h' loc (pc + 3) (v.toList ++ rest)) : AW g Y d Q h loc pc st :=
  aw_callSUX hk ha hc h19 hl hsm hsu hi hni dd hs hn hct hd hr kk (fun _ _ _ z => z.elim)
theorem aw_callUX {Y2 : YC} {idx n d2 : Nat} {As st : List Value} {Q2 : AR → AH → Prop} {b ci : Nat} {fs : List Value} {r : vw_C} {x : MethodName} (hk : aMk Y2 n) (ha : h.1 b = some (.inr (ci, fs))) (hc : aCl[ci]? = some r) (hy : yM Y2 = ⟨yO Y2, x.name, x.desc⟩) (hl : Cond.methodLink (yO Y) idx x ∈ lw_all) (hsm : Cond.sameMethod x.cls (yO Y2) x.name x.desc ∈ lw_all) (hi : Cond.instanceMethod (yM Y2) ∈ lw_all) (hv : Cond.selects r.1 x (yM Y2) ∈ lw_all) (dd : decode (yC Y) pc = .ok (.invokevirtual idx, 3)) (hs : st = As.reverse ++ .ref b :: rest) (hn : As.length = n) (hct : CT g Y2 d2 (.ref b :: As) h Q2) (hd : d2 + 1 ≤ d) (hr : (rest.map fun v => v.category).sum ≤ 8) (kk : ∀ (v : Option Value) (h' : AH), h.2.1 ≤ h'.2.1 → Q2 (.inl v) h' → AW g Y d Q h' loc (pc + 3) (v.toList ++ rest)) (kx : ∀ (E : String) (h' : AH), h.2.1 ≤ h'.2.1 → Q2 (.inr E) h' → AX g Y d Q h' loc pc E) : AW g Y d Q h loc pc st := by
  intro p e R s m args below meth c H locs cells slots mc ms ls A hR hM hL
  subst hs
  have hts := A.2.2.2.2.2.2.1
  have hK : aK g s := A.2.2.2.2.2.2.2.1
  obtain ⟨k1, k2, k3, k4, k5⟩ := hk
  refine aw_ofRun A hR hM hL (vx_runU (C := r.1) (owner := yO Y2) (x := x) (n := n) A.fix (hct.met k1) (va_cwU n hts (lw_app (fun w z => (by simp only [List.mem_cons, List.not_mem_nil, or_false] at z; rcases z with rfl | rfl | rfl | rfl | rfl <;> assumption)) (lw_meth k2)) rfl rfl rfl hy ⟨k4.1, k4.2.1, by rw [← show (yM Y2).desc = x.desc by rw [hy]]; exact k4.2.2⟩ (hM.call hd k5)) (aPreV A hR ha hc) rfl hn hL.1 rfl (lv_room hr) dd hM.pay) kk kx
theorem aw_callU {Y2 : YC} {idx n d2 : Nat} {As st : List Value} {P2 : Option Value → AH → Prop} {b ci : Nat} {fs : List Value} {r : vw_C} {x : MethodName} (hk : aMk Y2 n) (ha : h.1 b = some (.inr (ci, fs))) (hc : aCl[ci]? = some r) (hy : yM Y2 = ⟨yO Y2, x.name, x.desc⟩) (hl : Cond.methodLink (yO Y) idx x ∈ lw_all) (hsm : Cond.sameMethod x.cls (yO Y2) x.name x.desc ∈ lw_all) (hi : Cond.instanceMethod (yM Y2) ∈ lw_all) (hv : Cond.selects r.1 x (yM Y2) ∈ lw_all) (dd : decode (yC Y) pc = .ok (.invokevirtual idx, 3)) (hs : st = As.reverse ++ .ref b :: rest) (hn : As.length = n) (hct : CT g Y2 d2 (.ref b :: As) h (aRet P2)) (hd : d2 + 1 ≤ d) (hr : (rest.map fun v => v.category).sum ≤ 8) (kk : ∀ (v : Option Value) (h' : AH), h.2.1 ≤ h'.2.1 → P2 v h' → AW g Y d Q h' loc (pc + 3) (v.toList ++ rest)) : AW g Y d Q h loc pc st :=
  aw_callUX hk ha hc hy hl hsm hi hv dd hs hn hct hd hr kk (fun _ _ _ z => z.elim)
theorem aw_callFX {Y2 : YC} {idx n d2 : Nat} {As st : List Value} {Q2 : AR → AH → Prop} {b ci : Nat} {fs : List Value} {r : vw_C} {x : MethodName} {cnt : Nat} (hk : aMk Y2 n) (ha : h.1 b = some (.inr (ci, fs))) (hc : aCl[ci]? = some r) (h19 : ci < 19) (hf : (r.1, x, yM Y2) ∈ aFw) (hx : x.cls ≠ "java/lang/invoke/MethodHandle" ∧ x.cls ≠ "java/lang/invoke/VarHandle" ∧ (parseMethodDescriptor x.desc).map (fun d => d.parameters.length) = some n) (hl : Cond.methodLink (yO Y) idx x ∈ lw_all) (hi : Cond.instanceMethod (yM Y2) ∈ lw_all) (hv : Cond.selects r.1 x (yM Y2) ∈ lw_all) (dd : decode (yC Y) pc = .ok (.invokeinterface idx cnt, 5)) (hs : st = As.reverse ++ .ref b :: rest) (hn : As.length = n) (hct : CT g Y2 d2 (.ref b :: As) h Q2) (hd : d2 + 1 ≤ d) (hr : (rest.map fun v => v.category).sum ≤ 8) (kk : ∀ (v : Option Value) (h' : AH), h.2.1 ≤ h'.2.1 → Q2 (.inl v) h' → AW g Y d Q h' loc (pc + 5) (v.toList ++ rest)) (kx : ∀ (E : String) (h' : AH), h.2.1 ≤ h'.2.1 → Q2 (.inr E) h' → AX g Y d Q h' loc pc E) : AW g Y d Q h loc pc st := by
  intro p e R s m args below meth c H locs cells slots mc ms ls A hR hM hL
  subst hs
  have hts := A.2.2.2.2.2.2.1
  have hK : aK g s := A.2.2.2.2.2.2.2.1
  obtain ⟨k1, k2, k3, k4, k5⟩ := hk
  refine aw_ofRun5 A hR hM hL (vx_runF (C := r.1) (x := x) (n := n) (count := cnt) (hK.kn h19 hc).2 A.fix (hct.met k1) (va_cwF n hts (lw_app (fun w z => (by simp only [List.mem_cons, List.not_mem_nil, or_false] at z; rcases z with rfl | rfl | rfl | rfl <;> assumption)) (lw_meth k2)) rfl rfl rfl (hK.fw hf) hx (hM.call hd k5)) (aPreV A hR ha hc) rfl hn hL.1 rfl (lv_room hr) dd hM.pay) kk kx
theorem aw_callF {Y2 : YC} {idx n d2 : Nat} {As st : List Value} {P2 : Option Value → AH → Prop} {b ci : Nat} {fs : List Value} {r : vw_C} {x : MethodName} {cnt : Nat} (hk : aMk Y2 n) (ha : h.1 b = some (.inr (ci, fs))) (hc : aCl[ci]? = some r) (h19 : ci < 19) (hf : (r.1, x, yM Y2) ∈ aFw) (hx : x.cls ≠ "java/lang/invoke/MethodHandle" ∧ x.cls ≠ "java/lang/invoke/VarHandle" ∧ (parseMethodDescriptor x.desc).map (fun d => d.parameters.length) = some n) (hl : Cond.methodLink (yO Y) idx x ∈ lw_all) (hi : Cond.instanceMethod (yM Y2) ∈ lw_all) (hv : Cond.selects r.1 x (yM Y2) ∈ lw_all) (dd : decode (yC Y) pc = .ok (.invokeinterface idx cnt, 5)) (hs : st = As.reverse ++ .ref b :: rest) (hn : As.length = n) (hct : CT g Y2 d2 (.ref b :: As) h (aRet P2)) (hd : d2 + 1 ≤ d) (hr : (rest.map fun v => v.category).sum ≤ 8) (kk : ∀ (v : Option Value) (h' : AH), h.2.1 ≤ h'.2.1 → P2 v h' → AW g Y d Q h' loc (pc + 5) (v.toList ++ rest)) : AW g Y d Q h loc pc st :=
  aw_callFX hk ha hc h19 hf hx hl hi hv dd hs hn hct hd hr kk (fun _ _ _ z => z.elim)
theorem aSelP {C : String} {y : MethodName} {s : State} {args : Array Value} {n : Nat} (hy : y.cls ≠ "java/lang/invoke/MethodHandle" ∧ y.cls ≠ "java/lang/invoke/VarHandle") (hins : (Cond.instantiable C n).before args s = true) (hpriv : (Cond.privateMethod y).before args s = true) (hinst : (Cond.instanceMethod y).before args s = true) {C0 : String} {x0 y0 : MethodName} (hv0 : (Cond.selects C0 x0 y0).before args s = true) (hy0 : y0.cls = y.cls) :
    (Cond.selects C y y).before args s = true := by
  obtain ⟨c, k, hc, hk, -, hniab, -, -⟩ := Cond.instantiable_spec hins
  have hni : k.isInterface = false := (Bool.or_eq_false_iff.mp hniab).1
  obtain ⟨mk, methM, hnamed, hmethM, -, -⟩ := Cond.instanceMethod_spec hinst
  have hfound : s.methodFound? y.cls y.name y.desc = some mk := State.methodFound?_of_named hnamed hy
  have hsel : selectMethod {} s.vm c mk = .method mk := selectMethod_private hmethM (Cond.privateMethod_at hpriv mk methM hnamed hmethM)
  obtain ⟨c2, r2, m2, -, -, w3, -, mk2, w5, w6⟩ := Cond.selects_spec hv0
  have hcls : m2.cls = mk.cls := by
    have w7 := findClass_of_methodNamed w3
    rw [hy0, findClass_of_methodNamed hnamed] at w7
    exact (Option.some.inj w7).symm
  rw [hcls] at w5
  simp only [Cond.before, Cond.holds, Cond.value, hc, hfound, hnamed, hsel, w5]
  simp
  exact w6
theorem aw_callOX {Y2 : YC} {idx n d2 : Nat} {As st : List Value} {Q2 : AR → AH → Prop} {b ci : Nat} {fs : List Value} {r : vw_C} {x : MethodName} {o : String} (hk : aMk Y2 n) (ha : h.1 b = some (.inr (ci, fs))) (hc : aCl[ci]? = some r) (hy : o ≠ "java/lang/invoke/MethodHandle" ∧ o ≠ "java/lang/invoke/VarHandle" ∧ (parseMethodDescriptor x.desc).map (fun d => d.parameters.length) = some n) (hl : Cond.methodLink (yO Y) idx x ∈ lw_all) (hsm : Cond.sameMethod x.cls o x.name x.desc ∈ lw_all) (hz : Cond.declares ⟨o, x.name, x.desc⟩ ∈ lw_tbl) (hi : Cond.instanceMethod (yM Y2) ∈ lw_all) (hv : Cond.selects r.1 x (yM Y2) ∈ lw_all) (dd : decode (yC Y) pc = .ok (.invokevirtual idx, 3)) (hs : st = As.reverse ++ .ref b :: rest) (hn : As.length = n) (hct : CT g Y2 d2 (.ref b :: As) h Q2) (hd : d2 + 1 ≤ d) (hr : (rest.map fun v => v.category).sum ≤ 8) (kk : ∀ (v : Option Value) (h' : AH), h.2.1 ≤ h'.2.1 → Q2 (.inl v) h' → AW g Y d Q h' loc (pc + 3) (v.toList ++ rest)) (kx : ∀ (E : String) (h' : AH), h.2.1 ≤ h'.2.1 → Q2 (.inr E) h' → AX g Y d Q h' loc pc E) : AW g Y d Q h loc pc st := by
  intro p e R s m args below meth c H locs cells slots mc ms ls A hR hM hL
  subst hs
  have hts := A.2.2.2.2.2.2.1
  have hK : aK g s := A.2.2.2.2.2.2.2.1
  obtain ⟨k1, k2, k3, k4, k5⟩ := hk
  refine aw_ofRun A hR hM hL (vx_runU (C := r.1) (owner := o) (x := x) (n := n) A.fix (hct.met k1) (va_cwA n hts (lw_app (fun w z => (by simp only [List.mem_cons, List.not_mem_nil, or_false] at z; rcases z with rfl | rfl | rfl | rfl | rfl <;> assumption)) (lw_meth k2)) rfl rfl rfl (hK.nw hz rfl) hy (hM.call hd k5)) (aPreV A hR ha hc) rfl hn hL.1 rfl (lv_room hr) dd hM.pay) kk kx
theorem aw_callO {Y2 : YC} {idx n d2 : Nat} {As st : List Value} {P2 : Option Value → AH → Prop} {b ci : Nat} {fs : List Value} {r : vw_C} {x : MethodName} {o : String} (hk : aMk Y2 n) (ha : h.1 b = some (.inr (ci, fs))) (hc : aCl[ci]? = some r) (hy : o ≠ "java/lang/invoke/MethodHandle" ∧ o ≠ "java/lang/invoke/VarHandle" ∧ (parseMethodDescriptor x.desc).map (fun d => d.parameters.length) = some n) (hl : Cond.methodLink (yO Y) idx x ∈ lw_all) (hsm : Cond.sameMethod x.cls o x.name x.desc ∈ lw_all) (hz : Cond.declares ⟨o, x.name, x.desc⟩ ∈ lw_tbl) (hi : Cond.instanceMethod (yM Y2) ∈ lw_all) (hv : Cond.selects r.1 x (yM Y2) ∈ lw_all) (dd : decode (yC Y) pc = .ok (.invokevirtual idx, 3)) (hs : st = As.reverse ++ .ref b :: rest) (hn : As.length = n) (hct : CT g Y2 d2 (.ref b :: As) h (aRet P2)) (hd : d2 + 1 ≤ d) (hr : (rest.map fun v => v.category).sum ≤ 8) (kk : ∀ (v : Option Value) (h' : AH), h.2.1 ≤ h'.2.1 → P2 v h' → AW g Y d Q h' loc (pc + 3) (v.toList ++ rest)) : AW g Y d Q h loc pc st :=
  aw_callOX hk ha hc hy hl hsm hz hi hv dd hs hn hct hd hr kk (fun _ _ _ z => z.elim)
theorem aw_callOcX {Y2 : YC} {idx n d2 : Nat} {As st : List Value} {Q2 : AR → AH → Prop} {b ci : Nat} {fs : List Value} {r : vw_C} {x : MethodName} {o : String} {b0 : ByteArray} {m0 : Nat} {r0 : Option FieldType} (hk : aMk Y2 n) (ha : h.1 b = some (.inr (ci, fs))) (hc : aCl[ci]? = some r) (hy : o ≠ "java/lang/invoke/MethodHandle" ∧ o ≠ "java/lang/invoke/VarHandle" ∧ (parseMethodDescriptor x.desc).map (fun d => d.parameters.length) = some n) (hl : Cond.methodLink (yO Y) idx x ∈ lw_all) (hsm : Cond.sameMethod x.cls o x.name x.desc ∈ lw_all) (h0 : Cond.code ⟨o, x.name, x.desc⟩ b0 m0 r0 ∈ lw_all) (hi0 : Cond.instanceMethod ⟨o, x.name, x.desc⟩ ∈ lw_all) (hi : Cond.instanceMethod (yM Y2) ∈ lw_all) (hv : Cond.selects r.1 x (yM Y2) ∈ lw_all) (dd : decode (yC Y) pc = .ok (.invokevirtual idx, 3)) (hs : st = As.reverse ++ .ref b :: rest) (hn : As.length = n) (hct : CT g Y2 d2 (.ref b :: As) h Q2) (hd : d2 + 1 ≤ d) (hr : (rest.map fun v => v.category).sum ≤ 8) (kk : ∀ (v : Option Value) (h' : AH), h.2.1 ≤ h'.2.1 → Q2 (.inl v) h' → AW g Y d Q h' loc (pc + 3) (v.toList ++ rest)) (kx : ∀ (E : String) (h' : AH), h.2.1 ≤ h'.2.1 → Q2 (.inr E) h' → AX g Y d Q h' loc pc E) : AW g Y d Q h loc pc st := by
  intro p e R s m args below meth c H locs cells slots mc ms ls A hR hM hL
  subst hs
  have hts := A.2.2.2.2.2.2.1
  have hK : aK g s := A.2.2.2.2.2.2.2.1
  obtain ⟨k1, k2, k3, k4, k5⟩ := hk
  refine aw_ofRun A hR hM hL (vx_runU (C := r.1) (owner := o) (x := x) (n := n) A.fix (hct.met k1) (va_cwO n hts (lw_app (fun w z => (by simp only [List.mem_cons, List.not_mem_nil, or_false] at z; rcases z with rfl | rfl | rfl | rfl | rfl | rfl <;> assumption)) (lw_meth k2)) rfl rfl rfl h0 hy (hM.call hd k5)) (aPreV A hR ha hc) rfl hn hL.1 rfl (lv_room hr) dd hM.pay) kk kx
theorem aw_callOc {Y2 : YC} {idx n d2 : Nat} {As st : List Value} {P2 : Option Value → AH → Prop} {b ci : Nat} {fs : List Value} {r : vw_C} {x : MethodName} {o : String} {b0 : ByteArray} {m0 : Nat} {r0 : Option FieldType} (hk : aMk Y2 n) (ha : h.1 b = some (.inr (ci, fs))) (hc : aCl[ci]? = some r) (hy : o ≠ "java/lang/invoke/MethodHandle" ∧ o ≠ "java/lang/invoke/VarHandle" ∧ (parseMethodDescriptor x.desc).map (fun d => d.parameters.length) = some n) (hl : Cond.methodLink (yO Y) idx x ∈ lw_all) (hsm : Cond.sameMethod x.cls o x.name x.desc ∈ lw_all) (h0 : Cond.code ⟨o, x.name, x.desc⟩ b0 m0 r0 ∈ lw_all) (hi0 : Cond.instanceMethod ⟨o, x.name, x.desc⟩ ∈ lw_all) (hi : Cond.instanceMethod (yM Y2) ∈ lw_all) (hv : Cond.selects r.1 x (yM Y2) ∈ lw_all) (dd : decode (yC Y) pc = .ok (.invokevirtual idx, 3)) (hs : st = As.reverse ++ .ref b :: rest) (hn : As.length = n) (hct : CT g Y2 d2 (.ref b :: As) h (aRet P2)) (hd : d2 + 1 ≤ d) (hr : (rest.map fun v => v.category).sum ≤ 8) (kk : ∀ (v : Option Value) (h' : AH), h.2.1 ≤ h'.2.1 → P2 v h' → AW g Y d Q h' loc (pc + 3) (v.toList ++ rest)) : AW g Y d Q h loc pc st :=
  aw_callOcX hk ha hc hy hl hsm h0 hi0 hi hv dd hs hn hct hd hr kk (fun _ _ _ z => z.elim)
theorem aw_callPX {Y2 : YC} {idx n d2 : Nat} {As st : List Value} {Q2 : AR → AH → Prop} {b ci : Nat} {fs : List Value} {r : vw_C} {nI : Nat} {C0 : String} {x0 y0 : MethodName} (hk : aMk Y2 n) (ha : h.1 b = some (.inr (ci, fs))) (hc : aCl[ci]? = some r) (hl : Cond.methodLink (yO Y) idx (yM Y2) ∈ lw_all) (hsm : Cond.sameMethod (yO Y2) (yO Y2) (yM Y2).name (yM Y2).desc ∈ lw_all) (hi : Cond.instanceMethod (yM Y2) ∈ lw_all) (hin : Cond.instantiable r.1 nI ∈ lw_all) (hp : Cond.privateMethod (yM Y2) ∈ lw_tbl) (hv0 : Cond.selects C0 x0 y0 ∈ lw_all) (hy0 : y0.cls = (yM Y2).cls) (dd : decode (yC Y) pc = .ok (.invokevirtual idx, 3)) (hs : st = As.reverse ++ .ref b :: rest) (hn : As.length = n) (hct : CT g Y2 d2 (.ref b :: As) h Q2) (hd : d2 + 1 ≤ d) (hr : (rest.map fun v => v.category).sum ≤ 8) (kk : ∀ (v : Option Value) (h' : AH), h.2.1 ≤ h'.2.1 → Q2 (.inl v) h' → AW g Y d Q h' loc (pc + 3) (v.toList ++ rest)) (kx : ∀ (E : String) (h' : AH), h.2.1 ≤ h'.2.1 → Q2 (.inr E) h' → AX g Y d Q h' loc pc E) : AW g Y d Q h loc pc st := by
  intro p e R s m args below meth c H locs cells slots mc ms ls A hR hM hL
  subst hs
  have hts := A.2.2.2.2.2.2.1
  have hK : aK g s := A.2.2.2.2.2.2.2.1
  obtain ⟨k1, k2, k3, k4, k5⟩ := hk
  refine aw_ofRun A hR hM hL (vx_runU (C := r.1) (owner := yO Y2) (x := yM Y2) (n := n) A.fix (hct.met k1) ⟨⟨rfl, rfl, (hM.call hd k5).1, (hM.call hd k5).2, pay_in hts (lw_meth k2), List.mem_cons_self⟩, hts _ k2, hts _ k3, ⟨k4.1, k4.2.1⟩, fun sig z => (by have z2 := k4.2.2; rw [z] at z2; exact (Option.some.inj z2).symm), hts _ hl, hts _ hsm, va_Decl.of (hts _ hi) (hts _ k2), aSelP ⟨k4.1, k4.2.1⟩ (hts _ hin) (hK.pv hp _) (hts _ hi) (hts _ hv0) hy0, hts _ hi⟩ (aPreV A hR ha hc) rfl hn hL.1 rfl (lv_room hr) dd hM.pay) kk kx
theorem aw_callP {Y2 : YC} {idx n d2 : Nat} {As st : List Value} {P2 : Option Value → AH → Prop} {b ci : Nat} {fs : List Value} {r : vw_C} {nI : Nat} {C0 : String} {x0 y0 : MethodName} (hk : aMk Y2 n) (ha : h.1 b = some (.inr (ci, fs))) (hc : aCl[ci]? = some r) (hl : Cond.methodLink (yO Y) idx (yM Y2) ∈ lw_all) (hsm : Cond.sameMethod (yO Y2) (yO Y2) (yM Y2).name (yM Y2).desc ∈ lw_all) (hi : Cond.instanceMethod (yM Y2) ∈ lw_all) (hin : Cond.instantiable r.1 nI ∈ lw_all) (hp : Cond.privateMethod (yM Y2) ∈ lw_tbl) (hv0 : Cond.selects C0 x0 y0 ∈ lw_all) (hy0 : y0.cls = (yM Y2).cls) (dd : decode (yC Y) pc = .ok (.invokevirtual idx, 3)) (hs : st = As.reverse ++ .ref b :: rest) (hn : As.length = n) (hct : CT g Y2 d2 (.ref b :: As) h (aRet P2)) (hd : d2 + 1 ≤ d) (hr : (rest.map fun v => v.category).sum ≤ 8) (kk : ∀ (v : Option Value) (h' : AH), h.2.1 ≤ h'.2.1 → P2 v h' → AW g Y d Q h' loc (pc + 3) (v.toList ++ rest)) : AW g Y d Q h loc pc st :=
  aw_callPX hk ha hc hl hsm hi hin hp hv0 hy0 dd hs hn hct hd hr kk (fun _ _ _ z => z.elim)
end AWC
