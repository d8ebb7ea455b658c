/-! THE ABSTRACT MACHINE, 2: what is known in every state; the judgements; rows that touch no heap -/
set_option maxRecDepth 100000
/-- statics that are read -/
abbrev aSt : List (String × String × String) := [("ProbeConsole$Kind", "NUMBER", "LProbeConsole$Kind;"), ("ProbeConsole$Kind", "VARIABLE", "LProbeConsole$Kind;"), ("ProbeConsole$Kind", "INVOKE", "LProbeConsole$Kind;"), ("ProbeConsole$Kind", "LESS_BY", "LProbeConsole$Kind;"), ("ProbeConsole$Kind", "THROW", "LProbeConsole$Kind;"), ("ProbeConsole$Kind", "CHOOSE", "LProbeConsole$Kind;"), ("ProbeConsole$Kind", "CATCH", "LProbeConsole$Kind;"), ("ProbeConsole$Kind", "ADD", "LProbeConsole$Kind;"), ("ProbeConsole$Kind", "SUB", "LProbeConsole$Kind;"), ("ProbeConsole$Kind", "MUL", "LProbeConsole$Kind;"), ("ProbeConsole$Kind", "DIV", "LProbeConsole$Kind;"), ("ProbeConsole$Kind", "REM", "LProbeConsole$Kind;"), ("ProbeConsole$Kind", "LESS", "LProbeConsole$Kind;"), ("ProbeConsole$Kind", "SAME", "LProbeConsole$Kind;"), ("ProbeConsole$Kind", "MORE", "LProbeConsole$Kind;"), ("ProbeConsole$Kind", "$VALUES", "[LProbeConsole$Kind;"), ("java/lang/String", "COMPACT_STRINGS", "Z"), ("java/util/ArrayList", "DEFAULTCAPACITY_EMPTY_ELEMENTDATA", "[Ljava/lang/Object;"), ("java/util/ArrayList", "EMPTY_ELEMENTDATA", "[Ljava/lang/Object;"), ("java/lang/Integer$IntegerCache", "high", "I"), ("java/lang/Integer$IntegerCache", "cache", "[Ljava/lang/Integer;"), ("java/util/HashMap$TreeNode", "$assertionsDisabled", "Z"), ("jdk/internal/util/ArraysSupport", "U", "Ljdk/internal/misc/Unsafe;"), ("jdk/internal/util/ArraysSupport", "BIG_ENDIAN", "Z"), ("jdk/internal/util/ArraysSupport", "LOG2_ARRAY_LONG_INDEX_SCALE", "I"), ("jdk/internal/util/ArraysSupport", "LOG2_BYTE_BIT_SIZE", "I"), ("jdk/internal/util/ArraysSupport", "LOG2_ARRAY_INT_INDEX_SCALE", "I"), ("jdk/internal/util/ArraysSupport", "LOG2_ARRAY_BYTE_INDEX_SCALE", "I"), ("jdk/internal/misc/Unsafe", "ARRAY_BYTE_BASE_OFFSET", "I"), ("jdk/internal/misc/UnsafeConstants", "BIG_ENDIAN", "Z"), ("jdk/internal/util/Preconditions", "SIOOBE_FORMATTER", "Ljava/util/function/BiFunction;")]
/-- String constants that are read -/
abbrev aSr : List (String × Nat × String) := [("ProbeConsole$Parser", 15, ""), ("ProbeConsole$Parser", 30, "the text is at fault"), ("ProbeConsole$Parser", 99, "abcrxnk"), ("java/lang/StringLatin1", 151, ""), ("ProbeConsole$Parser", 192, "*/%"), ("ProbeConsole$Parser", 204, "+-"), ("ProbeConsole$Parser", 212, "<=>"), ("ProbeConsole", 132, "watch"), ("ProbeConsole", 134, "monitor"), ("ProbeConsole", 136, "keep"), ("ProbeConsole", 138, "kill"), ("ProbeConsole", 140, "reset"), ("ProbeConsole$Parser", 269, "enter"), ("ProbeConsole$Parser", 271, "return"), ("ProbeConsole$Parser", 273, "throw"), ("ProbeConsole", 31, "out of its range"), ("ProbeConsole", 38, "there is none such")]
/-- classes whose Class object is asked for -/
abbrev aMi : List String := ["java/lang/String", "[Ljava/lang/Object;", "ProbeConsole$Method"]
/-- interface calls: receiver's class, the interface's method, the method -/
abbrev aFw : List (String × MethodName × MethodName) := [("java/util/ArrayList", ⟨"java/util/List", "add", "(Ljava/lang/Object;)Z"⟩, yJ4_add), ("java/util/ArrayList", ⟨"java/util/List", "get", "(I)Ljava/lang/Object;"⟩, yJ4_get), ("java/util/ArrayList", ⟨"java/util/List", "size", "()I"⟩, yJ4_size), ("java/util/ArrayList", ⟨"java/util/List", "clear", "()V"⟩, yJ4_clear), ("java/util/HashMap", ⟨"java/util/Map", "containsKey", "(Ljava/lang/Object;)Z"⟩, yJ1_containsKey), ("java/util/HashMap", ⟨"java/util/Map", "put", "(Ljava/lang/Object;Ljava/lang/Object;)Ljava/lang/Object;"⟩, yJ1_put), ("java/lang/Integer", ⟨"java/lang/Comparable", "compareTo", "(Ljava/lang/Object;)I"⟩, yJ21_compareTo), ("java/lang/String", ⟨"java/lang/Comparable", "compareTo", "(Ljava/lang/Object;)I"⟩, yJ13_compareTo)]
/-- pairs of classes of which the first isn't of the second -/
abbrev aNc : List (String × String) := [("java/util/HashMap$Node", "java/util/HashMap$TreeNode"), ("java/lang/IllegalArgumentException", "java/lang/IndexOutOfBoundsException")]
abbrev aOut (g : AG) : Nat → Prop := fun x => gB g ≤ x
/-- what is known of the tables, and of what nobody writes, in every state of the run -/
def aK (g : AG) (s : State) : Prop :=
  (∀ (ci : Nat) (r : vw_C), aCl[ci]? = some r → s.vm.findClass r.1 = some ((gD g).1 ci) ∧ ∀ k, k < r.2.2 → ∃ (cf : ClassId) (kf : Class) (fi : Nat) (f : Field), s.fieldFound? (r.2.1 k).1 (r.2.1 k).2.1 (r.2.1 k).2.2.1 = some (cf, kf, fi, f) ∧ f.isStatic = false ∧ f.slot = (gD g).2 ci k) ∧
  (∀ (ci : Nat) (r : vw_C), ci < 19 → aCl[ci]? = some r → u_Kn s r.1 r.2.1 r.2.2 ((gD g).1 ci) ((gD g).2 ci)) ∧
  (∀ (t : Nat) (ty : FieldType), aTy[t]? = some ty → ArrOfT s (gA g t) ty) ∧
  (∀ (t : Nat) (ty : FieldType), t < 9 → aTy[t]? = some ty → va_RA s (gA g t) ty) ∧
  (∀ w ∈ lw_tbl, aNw w = true → va_Nw w s) ∧
  (∀ C : String, Cond.arrayOver (.object C) ∈ lw_tbl → va_AO C s) ∧
  (∀ q ∈ aFw, va_Fw q.1 q.2.1 q.2.2 s) ∧
  (∀ q ∈ aNc, va_Nc q.1 q.2 s) ∧
  (∀ (i : Nat) (q : String × String × String), aSt[i]? = some q → va_Z q.1 q.2.1 q.2.2 (gV g i) (aOut g) s (gH g)) ∧
  (∀ (i : Nat) (q : String × Nat × String), aSr[i]? = some q → vk_R q.1 q.2.1 q.2.2 (gS g i) s) ∧
  (∀ (i : Nat) (q : String), aMi[i]? = some q → va_Mi q (gM g i) s) ∧
  vx_Zq Bundle.tN "UNASSIGNED_STACK" Bundle.steD (aOut g) s (gH g) ∧ vx_Zq Bundle.tN "SUPPRESSED_SENTINEL" Bundle.listD (aOut g) s (gH g) ∧
  (∀ (A : Array Value) (y : MethodName), Cond.privateMethod y ∈ lw_tbl → (Cond.privateMethod y).before A s = true)
theorem aK.moved {g : AG} {s U : State} (hW : s.WarmedH U.vm) (h : aK g s) : aK g U := by
  have hvm : s.vm.Alike U.vm := hW.alike
  obtain ⟨h1, h2, h3, h4, h5, h6, h7, h8, h9, h10, h11, h12, h13, h14⟩ := h
  refine ⟨fun ci r hr => ⟨by rw [hvm.findClass]; exact (h1 ci r hr).1, fun k hk => ?_⟩, fun ci r hc hr => u_Kn_moved hvm (h2 ci r hc hr), fun t ty ht => arrOfT_moved hvm (h3 t ty ht), fun t ty h9 ht => (h4 t ty h9 ht).moved hvm, fun w hw hn => aNw.warm hn hW (h5 w hw hn), fun C hC => (h6 C hC).moved hvm, fun q hq => ?_, fun q hq => (h8 q hq).moved hvm, fun i q hq => (h9 i q hq).moved hvm, fun i q hq => (h10 i q hq).warm hW, fun i q hq => (h11 i q hq).moved hvm, h12.moved hvm, h13.moved hvm, fun A y hy => by
    have h15 : (Cond.privateMethod y).before A (s.setVm U.vm) = true := by rw [Cond.privateMethod_setVm hvm]; exact h14 A y hy
    rw [← h15]
    exact Cond.onTables_vm (U := U) (U' := s) U.vm (Cond.privateMethod y) rfl⟩
  · obtain ⟨cf, kf, fi, f, e1, e2, e3⟩ := (h1 ci r hr).2 k hk
    obtain ⟨kf', e4, -⟩ := State.fieldFound?_setVm hvm e1
    exact ⟨cf, kf', fi, f, e4, e2, e3⟩
  · refine (h7 q hq).moved ?_ hvm
    simp only [aFw, List.mem_cons, List.not_mem_nil, or_false] at hq
    rcases hq with rfl | rfl | rfl | rfl | rfl | rfl | rfl | rfl <;> exact ⟨by decide +kernel, by decide +kernel⟩
theorem aK.cls {g : AG} {s : State} (h : aK g s) {ci : Nat} {r : vw_C} (hc : aCl[ci]? = some r) : s.vm.findClass r.1 = some ((gD g).1 ci) := (h.1 ci r hc).1
theorem aK.fld {g : AG} {s : State} (h : aK g s) {ci k : Nat} {r : vw_C} (hc : aCl[ci]? = some r) (hk : k < r.2.2) : ∃ (cf : ClassId) (kf : Class) (fi : Nat) (f : Field), s.fieldFound? (r.2.1 k).1 (r.2.1 k).2.1 (r.2.1 k).2.2.1 = some (cf, kf, fi, f) ∧ f.isStatic = false ∧ f.slot = (gD g).2 ci k := (h.1 ci r hc).2 k hk
theorem aK.kn {g : AG} {s : State} (h : aK g s) {ci : Nat} {r : vw_C} (h9 : ci < 19) (hc : aCl[ci]? = some r) : u_Kn s r.1 r.2.1 r.2.2 ((gD g).1 ci) ((gD g).2 ci) := h.2.1 ci r h9 hc
theorem aK.arr {g : AG} {s : State} (h : aK g s) {t : Nat} {ty : FieldType} (ht : aTy[t]? = some ty) : ArrOfT s (gA g t) ty := h.2.2.1 t ty ht
theorem aK.ra {g : AG} {s : State} (h : aK g s) {t : Nat} {ty : FieldType} (h9 : t < 9) (ht : aTy[t]? = some ty) : va_RA s (gA g t) ty := h.2.2.2.1 t ty h9 ht
theorem aK.nw {g : AG} {s : State} (h : aK g s) {w : Cond} (hw : w ∈ lw_tbl) (hn : aNw w = true) : va_Nw w s := h.2.2.2.2.1 w hw hn
theorem aK.ao {g : AG} {s : State} (h : aK g s) {C : String} (hC : Cond.arrayOver (.object C) ∈ lw_tbl) : va_AO C s := h.2.2.2.2.2.1 C hC
theorem aK.fw {g : AG} {s : State} (h : aK g s) {q : String × MethodName × MethodName} (hq : q ∈ aFw) : va_Fw q.1 q.2.1 q.2.2 s := h.2.2.2.2.2.2.1 q hq
theorem aK.nc {g : AG} {s : State} (h : aK g s) {q : String × String} (hq : q ∈ aNc) : va_Nc q.1 q.2 s := h.2.2.2.2.2.2.2.1 q hq
theorem aK.st {g : AG} {s : State} (h : aK g s) {i : Nat} {q : String × String × String} (hq : aSt[i]? = some q) : va_Z q.1 q.2.1 q.2.2 (gV g i) (aOut g) s (gH g) := h.2.2.2.2.2.2.2.2.1 i q hq
theorem aK.sr {g : AG} {s : State} (h : aK g s) {i : Nat} {q : String × Nat × String} (hq : aSr[i]? = some q) : vk_R q.1 q.2.1 q.2.2 (gS g i) s := h.2.2.2.2.2.2.2.2.2.1 i q hq
theorem aK.mi {g : AG} {s : State} (h : aK g s) {i : Nat} {q : String} (hq : aMi[i]? = some q) : va_Mi q (gM g i) s := h.2.2.2.2.2.2.2.2.2.2.1 i q hq
theorem aK.ex {g : AG} {s : State} (h : aK g s) : vx_Zq Bundle.tN "UNASSIGNED_STACK" Bundle.steD (aOut g) s (gH g) ∧ vx_Zq Bundle.tN "SUPPRESSED_SENTINEL" Bundle.listD (aOut g) s (gH g) := ⟨h.2.2.2.2.2.2.2.2.2.2.2.1, h.2.2.2.2.2.2.2.2.2.2.2.2.1⟩
theorem aK.pv {g : AG} {s : State} (h : aK g s) {y : MethodName} (hy : Cond.privateMethod y ∈ lw_tbl) (A : Array Value) : (Cond.privateMethod y).before A s = true := h.2.2.2.2.2.2.2.2.2.2.2.2.2 A y hy
/-- a method's activation: its code, and what is known at its entry state s -/
def aAct (g : AG) (Y : YC) (p : Program) (s : State) (m : MethodId) (args : Array Value) (meth : Method) (c : Code) : Prop :=
  p.tables.exec = Jvm.exec ∧ c.code = yC Y ∧ c.maxLocals = yN Y ∧ meth.sig.returnType = yR Y ∧ meth.locks = false ∧ s.vm.findClass (yO Y) = some m.cls ∧ (∀ w ∈ lw_all, w.before args s = true) ∧ aK g s ∧ c.exceptionTable.toList = tableOf (yH Y) ∧ meth.name = (yM Y).name ∧ (∀ q : Nat, q < gB g → s.heap[q]? = (gH g)[q]?) ∧ gB g ≤ s.heap.size
/-- a heap has grown -/
abbrev aGr (A B : Heap) : Prop := A.size ≤ B.size ∧ hsl A ≤ hsl B
/-- room for d frames more, bc cells, bs slots -/
def aRoom (g : AG) (d bc bs : Nat) (R : Room) (s : State) (H : Heap) (locs : List Loc) (cells slots mc ms : Nat) : Prop :=
  (∀ q ∈ locs, gB g ≤ q.base) ∧ aGr s.heap H ∧ d ≤ R.frames ∧ 40 * d ≤ R.locals ∧ cells + bc ≤ R.cells ∧ slots + bs ≤ R.slots ∧ cells + bc ≤ mc ∧ slots + bs ≤ ms
def aQ (g : AG) (Q : AR → AH → Prop) : Array Value → State → Outcome → State → Prop := fun _ s o t => ∃ (v : Option Value) (h' : AH), o = .returned v ∧ aRel g h' t.heap ∧ aGr s.heap t.heap ∧ Q (.inl v) h'
def aX (g : AG) (Q : AR → AH → Prop) : String → State → State → Prop := fun E s t => ∃ h' : AH, aRel g h' t.heap ∧ aGr s.heap t.heap ∧ Q (.inr E) h'
abbrev aFree (g : AG) : Addr → Prop := fun q => gB g ≤ q
/-- from this pc, these locals and this stack over the heap h, with room for d frames, and cells and slots up to the limits, the method Y comes to an end that Q allows -/
def AW (g : AG) (Y : YC) (d : Nat) (Q : AR → AH → Prop) (h : AH) (loc : List (Option Value)) (pc : Nat) (st : List Value) : Prop :=
  ∀ (p : Program) (e : Env) (R : Room) (s : State) (m : MethodId) (args : Array Value) (below : List Frame) (meth : Method) (c : Code) (H : Heap) (locs : List Loc) (cells slots mc ms : Nat) (ls : Array Slot),
    aAct g Y p s m args meth c → aRel g h H → aRoom g d (gLc g - h.2.1) (gLs g - h.2.2) R s H locs cells slots mc ms → aHas ls (yN Y) loc →
    W p (gL g) e R s m args below meth c H locs cells slots (vx_MQ below (aQ g Q) (aX g Q) args s mc ms (aFree g)) (F0 m pc ls st)
/-- the same, while an exception of the class E goes through -/
def AX (g : AG) (Y : YC) (d : Nat) (Q : AR → AH → Prop) (h : AH) (loc : List (Option Value)) (pc : Nat) (E : String) : Prop :=
  ∀ (p : Program) (e : Env) (R : Room) (s : State) (m : MethodId) (args : Array Value) (below : List Frame) (meth : Method) (c : Code) (H : Heap) (locs : List Loc) (cells slots mc ms : Nat) (ls : Array Slot) (rest : List Value) (q : Addr) (ce : Cell),
    aAct g Y p s m args meth c → aRel g h H → aRoom g d (gLc g - h.2.1) (gLs g - h.2.2) R s H locs cells slots mc ms → aHas ls (yN Y) loc → H[q]? = some ce → ce.vm = .none → s.vm.findClass E = some ce.cls →
    vx_W p (gL g) e R s m args below meth c H locs cells slots (vx_MQ below (aQ g Q) (aX g Q) args s mc ms (aFree g)) (F0 m pc ls rest) q
abbrev aRm (d bc bs : Nat) : Room := { frames := d, cells := bc, slots := bs, locals := 40 * d }
abbrev aWs (Y : YC) : List Cond := (match yH Y with | [] => Cond.code (yM Y) (yC Y) (yN Y) (yR Y) | hh => Cond.codeWith (yM Y) (yC Y) (yN Y) (yR Y) hh) :: lw_all
abbrev aPc (g : AG) (args : List Value) (h : AH) : Array Value → State → Prop := fun a U => a = args.toArray ∧ aRel g h U.heap ∧ aK g U
/-- the contract: Y called with args over the heap h ends as Q allows; d frames, and cells and slots up to the limits are enough -/
def CT (g : AG) (Y : YC) (d : Nat) (args : List Value) (h : AH) (Q : AR → AH → Prop) : Prop :=
  vx_Met (gL g) (yM Y) (aWs Y) (aRm d (gLc g - h.2.1) (gLs g - h.2.2)) (aPc g args h) (aQ g Q) (aX g Q) (gLc g - h.2.1) (gLs g - h.2.2) (aFree g)
theorem aPc.blind {g : AG} {args : List Value} {h : AH} : FrameBlind (aPc g args h) := by
  intro a U fg mk q
  obtain ⟨q0, q1, q2⟩ := q
  exact ⟨q0, q1, q2.moved (State.WarmedH.refl U)⟩
theorem CT.weaken {g : AG} {Y : YC} {d : Nat} {args : List Value} {h : AH} {Q Q' : AR → AH → Prop} (hc : CT g Y d args h Q) (hQ : ∀ r h', Q r h' → Q' r h') : CT g Y d args h Q' := by
  have k1 : ∀ a s o t, aQ g Q a s o t → aQ g Q' a s o t := fun a s o t z => by
    obtain ⟨v, h', z1, z2, z3, z4⟩ := z
    exact ⟨v, h', z1, z2, z3, hQ _ _ z4⟩
  have k2 : ∀ E s t, aX g Q E s t → aX g Q' E s t := fun E s t z => by
    obtain ⟨h', z1, z2, z3⟩ := z
    exact ⟨h', z1, z2, hQ _ _ z3⟩
  refine MetFree.mono hc (fun _ _ z => z) (fun _ _ _ _ _ _ => trivial) fun a s o t _ z => ?_
  have z : vx_Q (aQ g Q) (aX g Q) (gLc g - h.2.1) (gLs g - h.2.2) (aFree g) a s o t := z
  show vx_Q (aQ g Q') (aX g Q') (gLc g - h.2.1) (gLs g - h.2.2) (aFree g) a s o t
  rcases z with ⟨z, zl⟩ | ⟨q, z0, E, ce, L, z1, z2⟩
  · exact Or.inl ⟨k1 _ _ _ _ z, zl⟩
  · exact Or.inr ⟨q, z0, E, ce, L, k2 _ _ _ z1, z2⟩
theorem AW.weaken {g : AG} {Y : YC} {d d' : Nat} {Q : AR → AH → Prop} {h : AH} {loc loc' : List (Option Value)} {pc : Nat} {st : List Value} (k : AW g Y d' Q h loc' pc st) (hl : ∀ (j : Nat) (w : Value), loc'[j]? = some (some w) → loc[j]? = some (some w)) (hd : d' ≤ d := by omega) : AW g Y d Q h loc pc st := by
  intro p e R s m args below meth c H locs cells slots mc ms ls A hR hM hL
  obtain ⟨m1, m2, m3, m4, m5, m6, m7, m8⟩ := hM
  exact k p e R s m args below meth c H locs cells slots mc ms ls A hR ⟨m1, m2, by omega, by omega, by omega, by omega, by omega, by omega⟩ (hL.sub hl)
/-- a contract out of a walk of the body -/
theorem CT.of {g : AG} {Y : YC} {d : Nat} {args : List Value} {h : AH} {Q : AR → AH → Prop} (hh : yH Y = []) (hp : plainName (yM Y).cls = true) {loc : List (Option Value)} (hn : (lg_sl args).length ≤ yN Y) (hl : loc = aent args ++ List.replicate (yN Y - (aent args).length) none) (k : AW g Y d Q h loc 0 []) : CT g Y d args h Q := by
  unfold CT
  have hw : aWs Y = Cond.code (yM Y) (yC Y) (yN Y) (yR Y) :: lw_all := by unfold aWs; rw [hh]
  refine vx_ofW (cc := yC Y) (maxL := yN Y) (ret := yR Y) hp hw ?_
  intro p e s m a below meth c s₁ B hml ht hv
  obtain ⟨rfl, hR, hK⟩ := hv
  have hts := atoms_spec (ws := aWs Y) B.pre
  have hts : ∀ w ∈ lw_all, w.before _ s = true := fun w z => hts w (List.mem_cons_of_mem _ z)
  have hown : s.vm.findClass (yO Y) = some m.cls := findClass_of_methodNamed B.named
  have hin : meth.name = (yM Y).name := (name_of_methodNamed B.named B.method).1
  have htab : c.exceptionTable.toList = tableOf (yH Y) := by
    rw [hh]
    cases hq : c.exceptionTable.toList with
    | nil => rfl
    | cons x r => exact absurd (by rw [hq]; exact List.mem_cons_self) (fun z => ht x z)
  rw [lg_entry_eq]
  exact k p e _ s m args.toArray below meth c s.heap [] 0 0 _ _ _ ⟨B.exec, B.bytes, hml, B.returns, B.notSynchronized, hown, hts, hK, htab, hin, hR.2.2.2.1, by rw [← hR.1]; exact hR.2.1⟩ hR ⟨fun q z => (by cases z), ⟨Nat.le_refl _, Nat.le_refl _⟩, Nat.le_refl _, Nat.le_refl _, by simp [headSpec], by simp [headSpec], by rw [Nat.zero_add]; exact Nat.le_refl _, by rw [Nat.zero_add]; exact Nat.le_refl _⟩ (aHas.entry hn hl)
/-- a contract of a method with handlers -/
theorem CT.ofW {g : AG} {Y : YC} {d : Nat} {args : List Value} {h : AH} {Q : AR → AH → Prop} (hh : aWs Y = Cond.codeWith (yM Y) (yC Y) (yN Y) (yR Y) (yH Y) :: lw_all) (hp : plainName (yM Y).cls = true) {loc : List (Option Value)} (hn : (lg_sl args).length ≤ yN Y) (hl : loc = aent args ++ List.replicate (yN Y - (aent args).length) none) (k : AW g Y d Q h loc 0 []) : CT g Y d args h Q := by
  unfold CT
  refine vx_ofWH (cc := yC Y) (maxL := yN Y) (ret := yR Y) (hh := yH Y) hp hh ?_
  intro p e s m a below meth c s₁ B hml hv
  obtain ⟨rfl, hR, hK⟩ := hv
  have hts := atoms_spec (ws := aWs Y) B.pre
  have htab : c.exceptionTable.toList = tableOf (yH Y) := vx_table (x := yM Y) B (hts _ (by rw [hh]; exact List.mem_cons_self))
  have hts : ∀ w ∈ lw_all, w.before _ s = true := fun w z => hts w (List.mem_cons_of_mem _ z)
  have hown : s.vm.findClass (yO Y) = some m.cls := findClass_of_methodNamed B.named
  have hin : meth.name = (yM Y).name := (name_of_methodNamed B.named B.method).1
  rw [lg_entry_eq]
  exact k p e _ s m args.toArray below meth c s.heap [] 0 0 _ _ _ ⟨B.exec, B.bytes, hml, B.returns, B.notSynchronized, hown, hts, hK, htab, hin, hR.2.2.2.1, by rw [← hR.1]; exact hR.2.1⟩ hR ⟨fun q z => (by cases z), ⟨Nat.le_refl _, Nat.le_refl _⟩, Nat.le_refl _, Nat.le_refl _, by simp [headSpec], by simp [headSpec], by rw [Nat.zero_add]; exact Nat.le_refl _, by rw [Nat.zero_add]; exact Nat.le_refl _⟩ (aHas.entry hn hl)
/-- null or an object -/
def aIsR : Value → Prop
  | .null => True
  | .ref _ => True
  | _ => False
theorem aIsR.or {v : Value} (h : aIsR v) : v = .null ∨ ∃ a, v = .ref a := by
  cases v with
  | null => exact Or.inl rfl
  | ref a => exact Or.inr ⟨a, rfl⟩
  | _ => exact absurd h (by intro z; exact z)
theorem aIsR.cat {v : Value} (h : aIsR v) : v.category = 1 := by
  rcases h.or with rfl | ⟨a, rfl⟩ <;> rfl

section AWR
variable {g : AG} {Y : YC} {d : Nat} {Q : AR → AH → Prop} {h : AH} {loc loc' : List (Option Value)} {pc : Nat} {rest : List Value}
theorem aw_iconst {n : Int} {v : Int32} (dd : decode (yC Y) pc = .ok (.iconst n, 1)) (hv : Int32.ofInt n = v) (k : AW g Y d Q h loc (pc + 1) (.int v :: rest)) : AW g Y d Q h loc pc rest :=
  fun p e R s m args below meth c H locs cells slots mc ms ls A hR hM hL => lv_iconst A.1 A.2.1 dd hv (k p e R s m args below meth c H locs cells slots mc ms ls A hR hM hL)
theorem aw_bipush {n : Int} {v : Int32} (dd : decode (yC Y) pc = .ok (.bipush n, 2)) (hv : (Int8.ofInt n).toInt32 = v) (k : AW g Y d Q h loc (pc + 2) (.int v :: rest)) : AW g Y d Q h loc pc rest :=
  fun p e R s m args below meth c H locs cells slots mc ms ls A hR hM hL => lv_bipush A.1 A.2.1 dd hv (k p e R s m args below meth c H locs cells slots mc ms ls A hR hM hL)
theorem aw_sipush {n : Int} {v : Int32} (dd : decode (yC Y) pc = .ok (.sipush n, 3)) (hv : (Int16.ofInt n).toInt32 = v) (k : AW g Y d Q h loc (pc + 3) (.int v :: rest)) : AW g Y d Q h loc pc rest :=
  fun p e R s m args below meth c H locs cells slots mc ms ls A hR hM hL => lv_sipush A.1 A.2.1 dd hv (k p e R s m args below meth c H locs cells slots mc ms ls A hR hM hL)
theorem aw_lconst {n : Fin 2} {v : Int64} (dd : decode (yC Y) pc = .ok (.lconst n, 1)) (hv : Int64.ofNat (n : Nat) = v) (k : AW g Y d Q h loc (pc + 1) (.long v :: rest)) : AW g Y d Q h loc pc rest :=
  fun p e R s m args below meth c H locs cells slots mc ms ls A hR hM hL => lv_lconst A.1 A.2.1 dd hv (k p e R s m args below meth c H locs cells slots mc ms ls A hR hM hL)
theorem aw_null (dd : decode (yC Y) pc = .ok (.aconst_null, 1)) (k : AW g Y d Q h loc (pc + 1) (.null :: rest)) : AW g Y d Q h loc pc rest :=
  fun p e R s m args below meth c H locs cells slots mc ms ls A hR hM hL => lv_null A.1 A.2.1 dd (k p e R s m args below meth c H locs cells slots mc ms ls A hR hM hL)
theorem aw_ldc {i : Nat} {v : Int32} (dd : decode (yC Y) pc = .ok (.ldc i, 2)) (hc : Cond.constant (yO Y) i v ∈ lw_all) (k : AW g Y d Q h loc (pc + 2) (.int v :: rest)) : AW g Y d Q h loc pc rest :=
  fun p e R s m args below meth c H locs cells slots mc ms ls A hR hM hL => lv_ldc A.1 A.2.1 A.2.2.2.2.2.1 (A.2.2.2.2.2.2.1 _ hc) dd (k p e R s m args below meth c H locs cells slots mc ms ls A hR hM hL)
theorem aw_ldcw {i : Nat} {v : Int32} (dd : decode (yC Y) pc = .ok (.ldc_w i, 3)) (hc : Cond.constant (yO Y) i v ∈ lw_all) (k : AW g Y d Q h loc (pc + 3) (.int v :: rest)) : AW g Y d Q h loc pc rest :=
  fun p e R s m args below meth c H locs cells slots mc ms ls A hR hM hL => lv_ldcw A.1 A.2.1 A.2.2.2.2.2.1 (A.2.2.2.2.2.2.1 _ hc) dd (k p e R s m args below meth c H locs cells slots mc ms ls A hR hM hL)
theorem aw_ldc2 {i : Nat} {v : Int64} (dd : decode (yC Y) pc = .ok (.ldc2_w i, 3)) (hc : Cond.constantLong (yO Y) i v ∈ lw_all) (k : AW g Y d Q h loc (pc + 3) (.long v :: rest)) : AW g Y d Q h loc pc rest :=
  fun p e R s m args below meth c H locs cells slots mc ms ls A hR hM hL => lv_ldc2 A.1 A.2.1 A.2.2.2.2.2.1 (A.2.2.2.2.2.2.1 _ hc) dd (k p e R s m args below meth c H locs cells slots mc ms ls A hR hM hL)
theorem aw_ldcf {i : Nat} {v : UInt32} (dd : decode (yC Y) pc = .ok (.ldc i, 2)) (hc : Cond.constantFloat (yO Y) i v ∈ lw_all) (k : AW g Y d Q h loc (pc + 2) (.float v :: rest)) : AW g Y d Q h loc pc rest :=
  fun p e R s m args below meth c H locs cells slots mc ms ls A hR hM hL => lv_ldcf A.1 A.2.1 A.2.2.2.2.2.1 (A.2.2.2.2.2.2.1 _ hc) dd (k p e R s m args below meth c H locs cells slots mc ms ls A hR hM hL)
theorem aw_iload_n {k0 : Fin 4} {i : Nat} {x : Int32} (dd : decode (yC Y) pc = .ok (.iload_n k0, 1)) (hi : (k0 : Nat) = i) (hl : loc[i]? = some (some (.int x))) (k : AW g Y d Q h loc (pc + 1) (.int x :: rest)) : AW g Y d Q h loc pc rest :=
  fun p e R s m args below meth c H locs cells slots mc ms ls A hR hM hL => lv_iload_n A.1 A.2.1 dd hi (hL.at hl) (k p e R s m args below meth c H locs cells slots mc ms ls A hR hM hL)
theorem aw_iload {i : Nat} {x : Int32} (dd : decode (yC Y) pc = .ok (.iload i, 2)) (hl : loc[i]? = some (some (.int x))) (k : AW g Y d Q h loc (pc + 2) (.int x :: rest)) : AW g Y d Q h loc pc rest :=
  fun p e R s m args below meth c H locs cells slots mc ms ls A hR hM hL => lv_iload A.1 A.2.1 dd (hL.at hl) (k p e R s m args below meth c H locs cells slots mc ms ls A hR hM hL)
theorem aw_lload_n {k0 : Fin 4} {i : Nat} {x : Int64} (dd : decode (yC Y) pc = .ok (.lload_n k0, 1)) (hi : (k0 : Nat) = i) (hl : loc[i]? = some (some (.long x))) (k : AW g Y d Q h loc (pc + 1) (.long x :: rest)) : AW g Y d Q h loc pc rest :=
  fun p e R s m args below meth c H locs cells slots mc ms ls A hR hM hL => lv_lload_n A.1 A.2.1 dd hi (hL.at hl) (k p e R s m args below meth c H locs cells slots mc ms ls A hR hM hL)
theorem aw_lload {i : Nat} {x : Int64} (dd : decode (yC Y) pc = .ok (.lload i, 2)) (hl : loc[i]? = some (some (.long x))) (k : AW g Y d Q h loc (pc + 2) (.long x :: rest)) : AW g Y d Q h loc pc rest :=
  fun p e R s m args below meth c H locs cells slots mc ms ls A hR hM hL => lv_lload A.1 A.2.1 dd (hL.at hl) (k p e R s m args below meth c H locs cells slots mc ms ls A hR hM hL)
theorem aw_fload_n {k0 : Fin 4} {i : Nat} {x : UInt32} (dd : decode (yC Y) pc = .ok (.fload_n k0, 1)) (hi : (k0 : Nat) = i) (hl : loc[i]? = some (some (.float x))) (k : AW g Y d Q h loc (pc + 1) (.float x :: rest)) : AW g Y d Q h loc pc rest :=
  fun p e R s m args below meth c H locs cells slots mc ms ls A hR hM hL => lv_fload_n A.1 A.2.1 dd hi (hL.at hl) (k p e R s m args below meth c H locs cells slots mc ms ls A hR hM hL)
theorem aw_fload {i : Nat} {x : UInt32} (dd : decode (yC Y) pc = .ok (.fload i, 2)) (hl : loc[i]? = some (some (.float x))) (k : AW g Y d Q h loc (pc + 2) (.float x :: rest)) : AW g Y d Q h loc pc rest :=
  fun p e R s m args below meth c H locs cells slots mc ms ls A hR hM hL => lv_fload A.1 A.2.1 dd (hL.at hl) (k p e R s m args below meth c H locs cells slots mc ms ls A hR hM hL)
theorem aw_aload_n {k0 : Fin 4} {i : Nat} {v : Value} (dd : decode (yC Y) pc = .ok (.aload_n k0, 1)) (hi : (k0 : Nat) = i) (hl : loc[i]? = some (some v)) (hv : aIsR v) (k : AW g Y d Q h loc (pc + 1) (v :: rest)) : AW g Y d Q h loc pc rest := by
  rcases hv.or with rfl | ⟨a, rfl⟩
  · exact fun p e R s m args below meth c H locs cells slots mc ms ls A hR hM hL => lv_aload_nN A.1 A.2.1 dd hi (hL.at hl) (k p e R s m args below meth c H locs cells slots mc ms ls A hR hM hL)
  · exact fun p e R s m args below meth c H locs cells slots mc ms ls A hR hM hL => lv_aload_n A.1 A.2.1 dd hi (hL.at hl) (k p e R s m args below meth c H locs cells slots mc ms ls A hR hM hL)
theorem aw_aload {i : Nat} {v : Value} (dd : decode (yC Y) pc = .ok (.aload i, 2)) (hl : loc[i]? = some (some v)) (hv : aIsR v) (k : AW g Y d Q h loc (pc + 2) (v :: rest)) : AW g Y d Q h loc pc rest := by
  rcases hv.or with rfl | ⟨a, rfl⟩
  · exact fun p e R s m args below meth c H locs cells slots mc ms ls A hR hM hL => lv_aloadN A.1 A.2.1 dd (hL.at hl) (k p e R s m args below meth c H locs cells slots mc ms ls A hR hM hL)
  · exact fun p e R s m args below meth c H locs cells slots mc ms ls A hR hM hL => lv_aload A.1 A.2.1 dd (hL.at hl) (k p e R s m args below meth c H locs cells slots mc ms ls A hR hM hL)
theorem aw_istore_n {k0 : Fin 4} {i : Nat} {x : Int32} (dd : decode (yC Y) pc = .ok (.istore_n k0, 1)) (hi : (k0 : Nat) = i) (hn : i < yN Y) (hs : aset1 i (.int x) loc = loc') (k : AW g Y d Q h loc' (pc + 1) rest) : AW g Y d Q h loc pc (.int x :: rest) :=
  fun p e R s m args below meth c H locs cells slots mc ms ls A hR hM hL => lv_istore_n A.1 A.2.1 dd hi hL hn rfl (fun ls' hl' => k p e R s m args below meth c H locs cells slots mc ms ls' A hR hM (hs ▸ aHas.set1 hl'))
theorem aw_istore {i : Nat} {x : Int32} (dd : decode (yC Y) pc = .ok (.istore i, 2)) (hn : i < yN Y) (hs : aset1 i (.int x) loc = loc') (k : AW g Y d Q h loc' (pc + 2) rest) : AW g Y d Q h loc pc (.int x :: rest) :=
  fun p e R s m args below meth c H locs cells slots mc ms ls A hR hM hL => lv_istore A.1 A.2.1 dd hL hn rfl (fun ls' hl' => k p e R s m args below meth c H locs cells slots mc ms ls' A hR hM (hs ▸ aHas.set1 hl'))
theorem aw_lstore_n {k0 : Fin 4} {i : Nat} {x : Int64} (dd : decode (yC Y) pc = .ok (.lstore_n k0, 1)) (hi : (k0 : Nat) = i) (hn : i + 1 < yN Y) (hs : aset2 i (.long x) loc = loc') (k : AW g Y d Q h loc' (pc + 1) rest) : AW g Y d Q h loc pc (.long x :: rest) :=
  fun p e R s m args below meth c H locs cells slots mc ms ls A hR hM hL => lv_lstore_n A.1 A.2.1 dd hi hL hn rfl (fun ls' hl' => k p e R s m args below meth c H locs cells slots mc ms ls' A hR hM (hs ▸ aHas.set2 hl'))
theorem aw_lstore {i : Nat} {x : Int64} (dd : decode (yC Y) pc = .ok (.lstore i, 2)) (hn : i + 1 < yN Y) (hs : aset2 i (.long x) loc = loc') (k : AW g Y d Q h loc' (pc + 2) rest) : AW g Y d Q h loc pc (.long x :: rest) :=
  fun p e R s m args below meth c H locs cells slots mc ms ls A hR hM hL => lv_lstore A.1 A.2.1 dd hL hn rfl (fun ls' hl' => k p e R s m args below meth c H locs cells slots mc ms ls' A hR hM (hs ▸ aHas.set2 hl'))
theorem aw_astore_n {k0 : Fin 4} {i : Nat} {v : Value} (dd : decode (yC Y) pc = .ok (.astore_n k0, 1)) (hi : (k0 : Nat) = i) (hn : i < yN Y) (hv : aIsR v) (hs : aset1 i v loc = loc') (k : AW g Y d Q h loc' (pc + 1) rest) : AW g Y d Q h loc pc (v :: rest) := by
  rcases hv.or with rfl | ⟨a, rfl⟩
  · exact fun p e R s m args below meth c H locs cells slots mc ms ls A hR hM hL => lv_astore_nN A.1 A.2.1 dd hi hL hn rfl (fun ls' hl' => k p e R s m args below meth c H locs cells slots mc ms ls' A hR hM (hs ▸ aHas.set1 hl'))
  · exact fun p e R s m args below meth c H locs cells slots mc ms ls A hR hM hL => lv_astore_n A.1 A.2.1 dd hi hL hn rfl (fun ls' hl' => k p e R s m args below meth c H locs cells slots mc ms ls' A hR hM (hs ▸ aHas.set1 hl'))
theorem aw_astore {i : Nat} {v : Value} (dd : decode (yC Y) pc = .ok (.astore i, 2)) (hn : i < yN Y) (hv : aIsR v) (hs : aset1 i v loc = loc') (k : AW g Y d Q h loc' (pc + 2) rest) : AW g Y d Q h loc pc (v :: rest) := by
  rcases hv.or with rfl | ⟨a, rfl⟩
  · exact fun p e R s m args below meth c H locs cells slots mc ms ls A hR hM hL => lv_astoreN A.1 A.2.1 dd hL hn rfl (fun ls' hl' => k p e R s m args below meth c H locs cells slots mc ms ls' A hR hM (hs ▸ aHas.set1 hl'))
  · exact fun p e R s m args below meth c H locs cells slots mc ms ls A hR hM hL => lv_astore A.1 A.2.1 dd hL hn rfl (fun ls' hl' => k p e R s m args below meth c H locs cells slots mc ms ls' A hR hM (hs ▸ aHas.set1 hl'))
theorem aw_iinc {i : Nat} {n : Int} {x v : Int32} (dd : decode (yC Y) pc = .ok (.iinc i n, 3)) (hl : loc[i]? = some (some (.int x))) (hv : x + Int32.ofInt n = v) (hn : i < yN Y) (hs : aset1 i (.int v) loc = loc') (k : AW g Y d Q h loc' (pc + 3) rest) : AW g Y d Q h loc pc rest := by
  intro p e R s m args below meth c H locs cells slots mc ms ls A hR hM hL
  have h1 := aprs_mem loc 0 i (.int x) hl
  rw [Nat.zero_add] at h1
  obtain ⟨j, hj⟩ := List.getElem?_of_mem h1
  exact lv_iinc A.1 A.2.1 dd hL hj hv hn rfl (fun ls' hl' => k p e R s m args below meth c H locs cells slots mc ms ls' A hR hM (hs ▸ aHas.set1 hl'))
theorem aw_iadd {x y : Int32} (dd : decode (yC Y) pc = .ok (.iadd, 1)) (k : AW g Y d Q h loc (pc + 1) (.int (x + y) :: rest)) : AW g Y d Q h loc pc (.int y :: .int x :: rest) :=
  fun p e R s m args below meth c H locs cells slots mc ms ls A hR hM hL => lv_iadd A.1 A.2.1 dd (k p e R s m args below meth c H locs cells slots mc ms ls A hR hM hL)
theorem aw_isub {x y : Int32} (dd : decode (yC Y) pc = .ok (.isub, 1)) (k : AW g Y d Q h loc (pc + 1) (.int (x - y) :: rest)) : AW g Y d Q h loc pc (.int y :: .int x :: rest) :=
  fun p e R s m args below meth c H locs cells slots mc ms ls A hR hM hL => lv_isub A.1 A.2.1 dd (k p e R s m args below meth c H locs cells slots mc ms ls A hR hM hL)
theorem aw_imul {x y : Int32} (dd : decode (yC Y) pc = .ok (.imul, 1)) (k : AW g Y d Q h loc (pc + 1) (.int (x * y) :: rest)) : AW g Y d Q h loc pc (.int y :: .int x :: rest) :=
  fun p e R s m args below meth c H locs cells slots mc ms ls A hR hM hL => lv_imul A.1 A.2.1 dd (k p e R s m args below meth c H locs cells slots mc ms ls A hR hM hL)
theorem aw_iand {x y : Int32} (dd : decode (yC Y) pc = .ok (.iand, 1)) (k : AW g Y d Q h loc (pc + 1) (.int (x &&& y) :: rest)) : AW g Y d Q h loc pc (.int y :: .int x :: rest) :=
  fun p e R s m args below meth c H locs cells slots mc ms ls A hR hM hL => lv_iand A.1 A.2.1 dd (k p e R s m args below meth c H locs cells slots mc ms ls A hR hM hL)
theorem aw_ior {x y : Int32} (dd : decode (yC Y) pc = .ok (.ior, 1)) (k : AW g Y d Q h loc (pc + 1) (.int (x ||| y) :: rest)) : AW g Y d Q h loc pc (.int y :: .int x :: rest) :=
  fun p e R s m args below meth c H locs cells slots mc ms ls A hR hM hL => lv_ior A.1 A.2.1 dd (k p e R s m args below meth c H locs cells slots mc ms ls A hR hM hL)
theorem aw_ixor {x y : Int32} (dd : decode (yC Y) pc = .ok (.ixor, 1)) (k : AW g Y d Q h loc (pc + 1) (.int (x ^^^ y) :: rest)) : AW g Y d Q h loc pc (.int y :: .int x :: rest) :=
  fun p e R s m args below meth c H locs cells slots mc ms ls A hR hM hL => lv_ixor A.1 A.2.1 dd (k p e R s m args below meth c H locs cells slots mc ms ls A hR hM hL)
theorem aw_ishl {x y : Int32} (dd : decode (yC Y) pc = .ok (.ishl, 1)) (k : AW g Y d Q h loc (pc + 1) (.int (x <<< (y &&& 31)) :: rest)) : AW g Y d Q h loc pc (.int y :: .int x :: rest) :=
  fun p e R s m args below meth c H locs cells slots mc ms ls A hR hM hL => lv_ishl A.1 A.2.1 dd (k p e R s m args below meth c H locs cells slots mc ms ls A hR hM hL)
theorem aw_ishr {x y : Int32} (dd : decode (yC Y) pc = .ok (.ishr, 1)) (k : AW g Y d Q h loc (pc + 1) (.int (x >>> (y &&& 31)) :: rest)) : AW g Y d Q h loc pc (.int y :: .int x :: rest) :=
  fun p e R s m args below meth c H locs cells slots mc ms ls A hR hM hL => lv_ishr A.1 A.2.1 dd (k p e R s m args below meth c H locs cells slots mc ms ls A hR hM hL)
theorem aw_idiv {x y : Int32} (dd : decode (yC Y) pc = .ok (.idiv, 1)) (hne : ¬ y = 0) (k : AW g Y d Q h loc (pc + 1) (.int (x / y) :: rest)) : AW g Y d Q h loc pc (.int y :: .int x :: rest) :=
  fun p e R s m args below meth c H locs cells slots mc ms ls A hR hM hL => lv_idiv A.1 A.2.1 dd hne (k p e R s m args below meth c H locs cells slots mc ms ls A hR hM hL)
theorem aw_irem {x y : Int32} (dd : decode (yC Y) pc = .ok (.irem, 1)) (hne : ¬ y = 0) (k : AW g Y d Q h loc (pc + 1) (.int (x - x / y * y) :: rest)) : AW g Y d Q h loc pc (.int y :: .int x :: rest) :=
  fun p e R s m args below meth c H locs cells slots mc ms ls A hR hM hL => lv_irem A.1 A.2.1 dd hne (k p e R s m args below meth c H locs cells slots mc ms ls A hR hM hL)
theorem aw_ineg {x : Int32} (dd : decode (yC Y) pc = .ok (.ineg, 1)) (k : AW g Y d Q h loc (pc + 1) (.int (-x) :: rest)) : AW g Y d Q h loc pc (.int x :: rest) :=
  fun p e R s m args below meth c H locs cells slots mc ms ls A hR hM hL => lv_ineg A.1 A.2.1 dd (k p e R s m args below meth c H locs cells slots mc ms ls A hR hM hL)
theorem aw_ladd {x y : Int64} (dd : decode (yC Y) pc = .ok (.ladd, 1)) (k : AW g Y d Q h loc (pc + 1) (.long (x + y) :: rest)) : AW g Y d Q h loc pc (.long y :: .long x :: rest) :=
  fun p e R s m args below meth c H locs cells slots mc ms ls A hR hM hL => lv_ladd A.1 A.2.1 dd (k p e R s m args below meth c H locs cells slots mc ms ls A hR hM hL)
theorem aw_lsub {x y : Int64} (dd : decode (yC Y) pc = .ok (.lsub, 1)) (k : AW g Y d Q h loc (pc + 1) (.long (x - y) :: rest)) : AW g Y d Q h loc pc (.long y :: .long x :: rest) :=
  fun p e R s m args below meth c H locs cells slots mc ms ls A hR hM hL => lv_lsub A.1 A.2.1 dd (k p e R s m args below meth c H locs cells slots mc ms ls A hR hM hL)
theorem aw_lmul {x y : Int64} (dd : decode (yC Y) pc = .ok (.lmul, 1)) (k : AW g Y d Q h loc (pc + 1) (.long (x * y) :: rest)) : AW g Y d Q h loc pc (.long y :: .long x :: rest) :=
  fun p e R s m args below meth c H locs cells slots mc ms ls A hR hM hL => lv_lmul A.1 A.2.1 dd (k p e R s m args below meth c H locs cells slots mc ms ls A hR hM hL)
theorem aw_land {x y : Int64} (dd : decode (yC Y) pc = .ok (.land, 1)) (k : AW g Y d Q h loc (pc + 1) (.long (x &&& y) :: rest)) : AW g Y d Q h loc pc (.long y :: .long x :: rest) :=
  fun p e R s m args below meth c H locs cells slots mc ms ls A hR hM hL => lv_land A.1 A.2.1 dd (k p e R s m args below meth c H locs cells slots mc ms ls A hR hM hL)
theorem aw_lor {x y : Int64} (dd : decode (yC Y) pc = .ok (.lor, 1)) (k : AW g Y d Q h loc (pc + 1) (.long (x ||| y) :: rest)) : AW g Y d Q h loc pc (.long y :: .long x :: rest) :=
  fun p e R s m args below meth c H locs cells slots mc ms ls A hR hM hL => lv_lor A.1 A.2.1 dd (k p e R s m args below meth c H locs cells slots mc ms ls A hR hM hL)
theorem aw_lxor {x y : Int64} (dd : decode (yC Y) pc = .ok (.lxor, 1)) (k : AW g Y d Q h loc (pc + 1) (.long (x ^^^ y) :: rest)) : AW g Y d Q h loc pc (.long y :: .long x :: rest) :=
  fun p e R s m args below meth c H locs cells slots mc ms ls A hR hM hL => lv_lxor A.1 A.2.1 dd (k p e R s m args below meth c H locs cells slots mc ms ls A hR hM hL)
theorem aw_iushr {x y : Int32} (dd : decode (yC Y) pc = .ok (.iushr, 1)) (k : AW g Y d Q h loc (pc + 1) (.int ((x.toUInt32 >>> (y.toUInt32 &&& Int32.toUInt32 31)).toInt32) :: rest)) : AW g Y d Q h loc pc (.int y :: .int x :: rest) :=
  fun p e R s m args below meth c H locs cells slots mc ms ls A hR hM hL => lv_iushr A.1 A.2.1 dd rfl (k p e R s m args below meth c H locs cells slots mc ms ls A hR hM hL)
theorem aw_lushr {x : Int64} {y : Int32} (dd : decode (yC Y) pc = .ok (.lushr, 1)) (k : AW g Y d Q h loc (pc + 1) (.long ((x.toUInt64 >>> (y.toInt64.toUInt64 &&& Int64.toUInt64 63)).toInt64) :: rest)) : AW g Y d Q h loc pc (.int y :: .long x :: rest) :=
  fun p e R s m args below meth c H locs cells slots mc ms ls A hR hM hL => lv_lushr A.1 A.2.1 dd rfl (k p e R s m args below meth c H locs cells slots mc ms ls A hR hM hL)
theorem aw_lshl {x : Int64} {y : Int32} (dd : decode (yC Y) pc = .ok (.lshl, 1)) (k : AW g Y d Q h loc (pc + 1) (.long (x <<< (y.toInt64 &&& 63)) :: rest)) : AW g Y d Q h loc pc (.int y :: .long x :: rest) :=
  fun p e R s m args below meth c H locs cells slots mc ms ls A hR hM hL => lv_lshl A.1 A.2.1 dd rfl (k p e R s m args below meth c H locs cells slots mc ms ls A hR hM hL)
theorem aw_lshr {x : Int64} {y : Int32} (dd : decode (yC Y) pc = .ok (.lshr, 1)) (k : AW g Y d Q h loc (pc + 1) (.long (x >>> (y.toInt64 &&& 63)) :: rest)) : AW g Y d Q h loc pc (.int y :: .long x :: rest) :=
  fun p e R s m args below meth c H locs cells slots mc ms ls A hR hM hL => lv_lshr A.1 A.2.1 dd rfl (k p e R s m args below meth c H locs cells slots mc ms ls A hR hM hL)
theorem aw_i2l {x : Int32} (dd : decode (yC Y) pc = .ok (.i2l, 1)) (k : AW g Y d Q h loc (pc + 1) (.long x.toInt64 :: rest)) : AW g Y d Q h loc pc (.int x :: rest) :=
  fun p e R s m args below meth c H locs cells slots mc ms ls A hR hM hL => lv_i2l A.1 A.2.1 dd rfl (k p e R s m args below meth c H locs cells slots mc ms ls A hR hM hL)
theorem aw_l2i {x : Int64} (dd : decode (yC Y) pc = .ok (.l2i, 1)) (k : AW g Y d Q h loc (pc + 1) (.int x.toInt32 :: rest)) : AW g Y d Q h loc pc (.long x :: rest) :=
  fun p e R s m args below meth c H locs cells slots mc ms ls A hR hM hL => lv_l2i A.1 A.2.1 dd rfl (k p e R s m args below meth c H locs cells slots mc ms ls A hR hM hL)
theorem aw_i2b {x : Int32} (dd : decode (yC Y) pc = .ok (.i2b, 1)) (k : AW g Y d Q h loc (pc + 1) (.int x.toInt8.toInt32 :: rest)) : AW g Y d Q h loc pc (.int x :: rest) :=
  fun p e R s m args below meth c H locs cells slots mc ms ls A hR hM hL => lv_i2b A.1 A.2.1 dd rfl (k p e R s m args below meth c H locs cells slots mc ms ls A hR hM hL)
theorem aw_i2c {x : Int32} (dd : decode (yC Y) pc = .ok (.i2c, 1)) (k : AW g Y d Q h loc (pc + 1) (.int (x.toUInt32 % 65536).toInt32 :: rest)) : AW g Y d Q h loc pc (.int x :: rest) :=
  fun p e R s m args below meth c H locs cells slots mc ms ls A hR hM hL => lv_i2c A.1 A.2.1 dd rfl (k p e R s m args below meth c H locs cells slots mc ms ls A hR hM hL)
theorem aw_lcmp {x y : Int64} (dd : decode (yC Y) pc = .ok (.lcmp, 1)) (k : AW g Y d Q h loc (pc + 1) (.int (lg_cmp x y) :: rest)) : AW g Y d Q h loc pc (.long y :: .long x :: rest) :=
  fun p e R s m args below meth c H locs cells slots mc ms ls A hR hM hL => W.lcmp A.1 A.2.1 dd (k p e R s m args below meth c H locs cells slots mc ms ls A hR hM hL)
theorem aw_dup {va : Value} (dd : decode (yC Y) pc = .ok (.dup, 1)) (ha : va.category = 1) (k : AW g Y d Q h loc (pc + 1) (va :: va :: rest)) : AW g Y d Q h loc pc (va :: rest) :=
  fun p e R s m args below meth c H locs cells slots mc ms ls A hR hM hL => lv_dup A.1 A.2.1 dd ha (k p e R s m args below meth c H locs cells slots mc ms ls A hR hM hL)
theorem aw_pop {va : Value} (dd : decode (yC Y) pc = .ok (.pop, 1)) (ha : va.category = 1) (k : AW g Y d Q h loc (pc + 1) rest) : AW g Y d Q h loc pc (va :: rest) :=
  fun p e R s m args below meth c H locs cells slots mc ms ls A hR hM hL => lv_pop A.1 A.2.1 dd ha (k p e R s m args below meth c H locs cells slots mc ms ls A hR hM hL)
theorem aw_dup_x1 {va vb : Value} (dd : decode (yC Y) pc = .ok (.dup_x1, 1)) (ha : va.category = 1) (hb : vb.category = 1) (k : AW g Y d Q h loc (pc + 1) (va :: vb :: va :: rest)) : AW g Y d Q h loc pc (va :: vb :: rest) :=
  fun p e R s m args below meth c H locs cells slots mc ms ls A hR hM hL => lv_dup_x1 A.1 A.2.1 dd ha hb (k p e R s m args below meth c H locs cells slots mc ms ls A hR hM hL)
theorem aw_dup_x2 {va vb vd : Value} (dd : decode (yC Y) pc = .ok (.dup_x2, 1)) (ha : va.category = 1) (hb : vb.category = 1) (hd : vd.category = 1) (k : AW g Y d Q h loc (pc + 1) (va :: vb :: vd :: va :: rest)) : AW g Y d Q h loc pc (va :: vb :: vd :: rest) :=
  fun p e R s m args below meth c H locs cells slots mc ms ls A hR hM hL => lv_dup_x2 A.1 A.2.1 dd ha hb hd (k p e R s m args below meth c H locs cells slots mc ms ls A hR hM hL)
theorem aw_dup2 {va vb : Value} (dd : decode (yC Y) pc = .ok (.dup2, 1)) (ha : va.category = 1) (hb : vb.category = 1) (k : AW g Y d Q h loc (pc + 1) (va :: vb :: va :: vb :: rest)) : AW g Y d Q h loc pc (va :: vb :: rest) :=
  fun p e R s m args below meth c H locs cells slots mc ms ls A hR hM hL => lv_dup2_11 A.1 A.2.1 dd ha hb (k p e R s m args below meth c H locs cells slots mc ms ls A hR hM hL)
theorem aw_if_eq {x : Int32} {off : Int} {tgt : Nat} (dd : decode (yC Y) pc = .ok (.ifCond .eq off, 3)) (ht : (pc : Int) + off = (tgt : Int)) (kt : x = 0 → AW g Y d Q h loc tgt rest) (kf : ¬ x = 0 → AW g Y d Q h loc (pc + 3) rest) : AW g Y d Q h loc pc (.int x :: rest) :=
  fun p e R s m args below meth c H locs cells slots mc ms ls A hR hM hL => lv_if_eq A.1 A.2.1 dd ht (fun z => kt z p e R s m args below meth c H locs cells slots mc ms ls A hR hM hL) (fun z => kf z p e R s m args below meth c H locs cells slots mc ms ls A hR hM hL)
theorem aw_icmp_eq {x y : Int32} {off : Int} {tgt : Nat} (dd : decode (yC Y) pc = .ok (.if_icmp .eq off, 3)) (ht : (pc : Int) + off = (tgt : Int)) (kt : x = y → AW g Y d Q h loc tgt rest) (kf : ¬ x = y → AW g Y d Q h loc (pc + 3) rest) : AW g Y d Q h loc pc (.int y :: .int x :: rest) :=
  fun p e R s m args below meth c H locs cells slots mc ms ls A hR hM hL => lv_icmp_eq A.1 A.2.1 dd ht (fun z => kt z p e R s m args below meth c H locs cells slots mc ms ls A hR hM hL) (fun z => kf z p e R s m args below meth c H locs cells slots mc ms ls A hR hM hL)
theorem aw_if_ne {x : Int32} {off : Int} {tgt : Nat} (dd : decode (yC Y) pc = .ok (.ifCond .ne off, 3)) (ht : (pc : Int) + off = (tgt : Int)) (kt : ¬ x = 0 → AW g Y d Q h loc tgt rest) (kf : x = 0 → AW g Y d Q h loc (pc + 3) rest) : AW g Y d Q h loc pc (.int x :: rest) :=
  fun p e R s m args below meth c H locs cells slots mc ms ls A hR hM hL => lv_if_ne A.1 A.2.1 dd ht (fun z => kt z p e R s m args below meth c H locs cells slots mc ms ls A hR hM hL) (fun z => kf z p e R s m args below meth c H locs cells slots mc ms ls A hR hM hL)
theorem aw_icmp_ne {x y : Int32} {off : Int} {tgt : Nat} (dd : decode (yC Y) pc = .ok (.if_icmp .ne off, 3)) (ht : (pc : Int) + off = (tgt : Int)) (kt : ¬ x = y → AW g Y d Q h loc tgt rest) (kf : x = y → AW g Y d Q h loc (pc + 3) rest) : AW g Y d Q h loc pc (.int y :: .int x :: rest) :=
  fun p e R s m args below meth c H locs cells slots mc ms ls A hR hM hL => lv_icmp_ne A.1 A.2.1 dd ht (fun z => kt z p e R s m args below meth c H locs cells slots mc ms ls A hR hM hL) (fun z => kf z p e R s m args below meth c H locs cells slots mc ms ls A hR hM hL)
theorem aw_if_lt {x : Int32} {off : Int} {tgt : Nat} (dd : decode (yC Y) pc = .ok (.ifCond .lt off, 3)) (ht : (pc : Int) + off = (tgt : Int)) (kt : x < 0 → AW g Y d Q h loc tgt rest) (kf : ¬ x < 0 → AW g Y d Q h loc (pc + 3) rest) : AW g Y d Q h loc pc (.int x :: rest) :=
  fun p e R s m args below meth c H locs cells slots mc ms ls A hR hM hL => lv_if_lt A.1 A.2.1 dd ht (fun z => kt z p e R s m args below meth c H locs cells slots mc ms ls A hR hM hL) (fun z => kf z p e R s m args below meth c H locs cells slots mc ms ls A hR hM hL)
theorem aw_icmp_lt {x y : Int32} {off : Int} {tgt : Nat} (dd : decode (yC Y) pc = .ok (.if_icmp .lt off, 3)) (ht : (pc : Int) + off = (tgt : Int)) (kt : x < y → AW g Y d Q h loc tgt rest) (kf : ¬ x < y → AW g Y d Q h loc (pc + 3) rest) : AW g Y d Q h loc pc (.int y :: .int x :: rest) :=
  fun p e R s m args below meth c H locs cells slots mc ms ls A hR hM hL => lv_icmp_lt A.1 A.2.1 dd ht (fun z => kt z p e R s m args below meth c H locs cells slots mc ms ls A hR hM hL) (fun z => kf z p e R s m args below meth c H locs cells slots mc ms ls A hR hM hL)
theorem aw_if_ge {x : Int32} {off : Int} {tgt : Nat} (dd : decode (yC Y) pc = .ok (.ifCond .ge off, 3)) (ht : (pc : Int) + off = (tgt : Int)) (kt : 0 ≤ x → AW g Y d Q h loc tgt rest) (kf : ¬ 0 ≤ x → AW g Y d Q h loc (pc + 3) rest) : AW g Y d Q h loc pc (.int x :: rest) :=
  fun p e R s m args below meth c H locs cells slots mc ms ls A hR hM hL => lv_if_ge A.1 A.2.1 dd ht (fun z => kt z p e R s m args below meth c H locs cells slots mc ms ls A hR hM hL) (fun z => kf z p e R s m args below meth c H locs cells slots mc ms ls A hR hM hL)
theorem aw_icmp_ge {x y : Int32} {off : Int} {tgt : Nat} (dd : decode (yC Y) pc = .ok (.if_icmp .ge off, 3)) (ht : (pc : Int) + off = (tgt : Int)) (kt : y ≤ x → AW g Y d Q h loc tgt rest) (kf : ¬ y ≤ x → AW g Y d Q h loc (pc + 3) rest) : AW g Y d Q h loc pc (.int y :: .int x :: rest) :=
  fun p e R s m args below meth c H locs cells slots mc ms ls A hR hM hL => lv_icmp_ge A.1 A.2.1 dd ht (fun z => kt z p e R s m args below meth c H locs cells slots mc ms ls A hR hM hL) (fun z => kf z p e R s m args below meth c H locs cells slots mc ms ls A hR hM hL)
theorem aw_if_gt {x : Int32} {off : Int} {tgt : Nat} (dd : decode (yC Y) pc = .ok (.ifCond .gt off, 3)) (ht : (pc : Int) + off = (tgt : Int)) (kt : 0 < x → AW g Y d Q h loc tgt rest) (kf : ¬ 0 < x → AW g Y d Q h loc (pc + 3) rest) : AW g Y d Q h loc pc (.int x :: rest) :=
  fun p e R s m args below meth c H locs cells slots mc ms ls A hR hM hL => lv_if_gt A.1 A.2.1 dd ht (fun z => kt z p e R s m args below meth c H locs cells slots mc ms ls A hR hM hL) (fun z => kf z p e R s m args below meth c H locs cells slots mc ms ls A hR hM hL)
theorem aw_icmp_gt {x y : Int32} {off : Int} {tgt : Nat} (dd : decode (yC Y) pc = .ok (.if_icmp .gt off, 3)) (ht : (pc : Int) + off = (tgt : Int)) (kt : y < x → AW g Y d Q h loc tgt rest) (kf : ¬ y < x → AW g Y d Q h loc (pc + 3) rest) : AW g Y d Q h loc pc (.int y :: .int x :: rest) :=
  fun p e R s m args below meth c H locs cells slots mc ms ls A hR hM hL => lv_icmp_gt A.1 A.2.1 dd ht (fun z => kt z p e R s m args below meth c H locs cells slots mc ms ls A hR hM hL) (fun z => kf z p e R s m args below meth c H locs cells slots mc ms ls A hR hM hL)
theorem aw_if_le {x : Int32} {off : Int} {tgt : Nat} (dd : decode (yC Y) pc = .ok (.ifCond .le off, 3)) (ht : (pc : Int) + off = (tgt : Int)) (kt : x ≤ 0 → AW g Y d Q h loc tgt rest) (kf : ¬ x ≤ 0 → AW g Y d Q h loc (pc + 3) rest) : AW g Y d Q h loc pc (.int x :: rest) :=
  fun p e R s m args below meth c H locs cells slots mc ms ls A hR hM hL => lv_if_le A.1 A.2.1 dd ht (fun z => kt z p e R s m args below meth c H locs cells slots mc ms ls A hR hM hL) (fun z => kf z p e R s m args below meth c H locs cells slots mc ms ls A hR hM hL)
theorem aw_icmp_le {x y : Int32} {off : Int} {tgt : Nat} (dd : decode (yC Y) pc = .ok (.if_icmp .le off, 3)) (ht : (pc : Int) + off = (tgt : Int)) (kt : x ≤ y → AW g Y d Q h loc tgt rest) (kf : ¬ x ≤ y → AW g Y d Q h loc (pc + 3) rest) : AW g Y d Q h loc pc (.int y :: .int x :: rest) :=
  fun p e R s m args below meth c H locs cells slots mc ms ls A hR hM hL => lv_icmp_le A.1 A.2.1 dd ht (fun z => kt z p e R s m args below meth c H locs cells slots mc ms ls A hR hM hL) (fun z => kf z p e R s m args below meth c H locs cells slots mc ms ls A hR hM hL)
theorem aw_goto {off : Int} {tgt : Nat} (dd : decode (yC Y) pc = .ok (.goto off, 3)) (ht : (pc : Int) + off = (tgt : Int)) (k : AW g Y d Q h loc tgt rest) : AW g Y d Q h loc pc rest :=
  fun p e R s m args below meth c H locs cells slots mc ms ls A hR hM hL => lv_goto A.1 A.2.1 dd ht (k p e R s m args below meth c H locs cells slots mc ms ls A hR hM hL)
theorem aw_ifnull {v : Value} {off : Int} {tgt : Nat} (dd : decode (yC Y) pc = .ok (.ifnull off, 3)) (ht : (pc : Int) + off = (tgt : Int)) (hv : aIsR v) (kt : v = .null → AW g Y d Q h loc tgt rest) (kf : ∀ a : Nat, v = .ref a → AW g Y d Q h loc (pc + 3) rest) : AW g Y d Q h loc pc (v :: rest) := by
  rcases hv.or with rfl | ⟨a, rfl⟩
  · exact fun p e R s m args below meth c H locs cells slots mc ms ls A hR hM hL => lv_ifnullN A.1 A.2.1 dd ht (kt rfl p e R s m args below meth c H locs cells slots mc ms ls A hR hM hL)
  · exact fun p e R s m args below meth c H locs cells slots mc ms ls A hR hM hL => lv_ifnull A.1 A.2.1 dd (kf a rfl p e R s m args below meth c H locs cells slots mc ms ls A hR hM hL)
theorem aw_ifnonnull {v : Value} {off : Int} {tgt : Nat} (dd : decode (yC Y) pc = .ok (.ifnonnull off, 3)) (ht : (pc : Int) + off = (tgt : Int)) (hv : aIsR v) (kt : ∀ a : Nat, v = .ref a → AW g Y d Q h loc tgt rest) (kf : v = .null → AW g Y d Q h loc (pc + 3) rest) : AW g Y d Q h loc pc (v :: rest) := by
  rcases hv.or with rfl | ⟨a, rfl⟩
  · exact fun p e R s m args below meth c H locs cells slots mc ms ls A hR hM hL => lv_ifnonnullN A.1 A.2.1 dd (kf rfl p e R s m args below meth c H locs cells slots mc ms ls A hR hM hL)
  · exact fun p e R s m args below meth c H locs cells slots mc ms ls A hR hM hL => lv_ifnonnull A.1 A.2.1 dd ht (kt a rfl p e R s m args below meth c H locs cells slots mc ms ls A hR hM hL)
theorem aIsR.rf {v : Value} (h : aIsR v) : ∃ r : Option Nat, v = va_rf r := by
  rcases h.or with rfl | ⟨a, rfl⟩
  · exact ⟨none, rfl⟩
  · exact ⟨some a, rfl⟩
theorem va_rf_inj {a b : Option Nat} (h : va_rf a = va_rf b) : a = b := by
  cases a <;> cases b <;> simp_all [va_rf]
theorem aw_acmp_eq {v w : Value} {off : Int} {tgt : Nat} (dd : decode (yC Y) pc = .ok (.if_acmp .eq off, 3)) (ht : (pc : Int) + off = (tgt : Int)) (hv : aIsR v) (hw : aIsR w) (kt : v = w → AW g Y d Q h loc tgt rest) (kf : ¬ v = w → AW g Y d Q h loc (pc + 3) rest) : AW g Y d Q h loc pc (w :: v :: rest) := by
  obtain ⟨a, rfl⟩ := hv.rf
  obtain ⟨b, rfl⟩ := hw.rf
  exact fun p e R s m args below meth c H locs cells slots mc ms ls A hR hM hL => lv_acmp_eq A.1 A.2.1 dd ht (fun z => kt (by rw [z]) p e R s m args below meth c H locs cells slots mc ms ls A hR hM hL) (fun z => kf (fun y => z (va_rf_inj y)) p e R s m args below meth c H locs cells slots mc ms ls A hR hM hL)
theorem aw_acmp_ne {v w : Value} {off : Int} {tgt : Nat} (dd : decode (yC Y) pc = .ok (.if_acmp .ne off, 3)) (ht : (pc : Int) + off = (tgt : Int)) (hv : aIsR v) (hw : aIsR w) (kt : ¬ v = w → AW g Y d Q h loc tgt rest) (kf : v = w → AW g Y d Q h loc (pc + 3) rest) : AW g Y d Q h loc pc (w :: v :: rest) := by
  obtain ⟨a, rfl⟩ := hv.rf
  obtain ⟨b, rfl⟩ := hw.rf
  exact fun p e R s m args below meth c H locs cells slots mc ms ls A hR hM hL => lv_acmp_ne A.1 A.2.1 dd ht (fun z => kt (fun y => z (va_rf_inj y)) p e R s m args below meth c H locs cells slots mc ms ls A hR hM hL) (fun z => kf (by rw [z]) p e R s m args below meth c H locs cells slots mc ms ls A hR hM hL)
theorem aw_lookup {dflt : Int} {ps : Array (Int × Int)} {len : Nat} {x : Int32} {off : Int} {tgt : Nat} (dd : decode (yC Y) pc = .ok (.lookupswitch dflt ps, len)) (hp : (ps.toList.zip (ps.toList.drop 1)).all (fun (a, next) => a.1 < next.1) = true) (ho : Op.lookupswitch.offset ps.toList dflt x.toInt = off) (ht : (pc : Int) + off = (tgt : Int)) (k : AW g Y d Q h loc tgt rest) : AW g Y d Q h loc pc (.int x :: rest) :=
  fun p e R s m args below meth c H locs cells slots mc ms ls A hR hM hL => lv_lookup A.1 A.2.1 dd hp ho ht (k p e R s m args below meth c H locs cells slots mc ms ls A hR hM hL)
theorem aw_tableOut {dflt lo hi : Int} {offs : Array Int} {len : Nat} {x : Int32} {tgt : Nat} (dd : decode (yC Y) pc = .ok (.tableswitch dflt lo hi offs, len)) (z : x.toInt < lo ∨ hi < x.toInt) (ht : (pc : Int) + dflt = (tgt : Int)) (k : AW g Y d Q h loc tgt rest) : AW g Y d Q h loc pc (.int x :: rest) :=
  fun p e R s m args below meth c H locs cells slots mc ms ls A hR hM hL => lv_tableOut A.1 A.2.1 dd z ht (k p e R s m args below meth c H locs cells slots mc ms ls A hR hM hL)
theorem aw_tableIn {dflt lo hi : Int} {offs : Array Int} {len : Nat} {x : Int32} {off : Int} {tgt : Nat} (dd : decode (yC Y) pc = .ok (.tableswitch dflt lo hi offs, len)) (h1 : ¬ x.toInt < lo) (h2 : ¬ hi < x.toInt) (ho : offs[(x.toInt - lo).toNat]? = some off) (ht : (pc : Int) + off = (tgt : Int)) (k : AW g Y d Q h loc tgt rest) : AW g Y d Q h loc pc (.int x :: rest) :=
  fun p e R s m args below meth c H locs cells slots mc ms ls A hR hM hL => lv_tableIn A.1 A.2.1 dd h1 h2 ho ht (k p e R s m args below meth c H locs cells slots mc ms ls A hR hM hL)
theorem aw_ireturn {v : Int32} {ty : FieldType} (dd : decode (yC Y) pc = .ok (.ireturn, 1)) (hr : yR Y = some ty) (hn : narrow ty (.int v) = .int v) (q : Q (.inl (some (.int v))) h) : AW g Y d Q h loc pc [.int v] := by
  intro p e R s m args below meth c H locs cells slots mc ms ls A hR hM hL
  obtain ⟨m1, m2, m3, m4, m5, m6, m7, m8⟩ := hM
  refine W.widen (k := mc) (n := ms) (by omega) (by omega) (vx_ret ?_)
  exact W.zret A.1 A.2.1 (A.2.2.2.1.trans hr) hn (fun t ht hW => ⟨_, h, rfl, by rw [ht]; exact hR, by rw [ht]; exact m2, q⟩) m1 dd A.2.2.2.2.1
theorem aw_lreturn {v : Int64} (dd : decode (yC Y) pc = .ok (.lreturn, 1)) (hr : yR Y = some .long) (q : Q (.inl (some (.long v))) h) : AW g Y d Q h loc pc [.long v] := by
  intro p e R s m args below meth c H locs cells slots mc ms ls A hR hM hL
  obtain ⟨m1, m2, m3, m4, m5, m6, m7, m8⟩ := hM
  refine W.widen (k := mc) (n := ms) (by omega) (by omega) (vx_ret ?_)
  exact W.lret A.1 A.2.1 (A.2.2.2.1.trans hr) (fun t ht hW => ⟨_, h, rfl, by rw [ht]; exact hR, by rw [ht]; exact m2, q⟩) m1 dd A.2.2.2.2.1
theorem aw_vret (dd : decode (yC Y) pc = .ok (.return_, 1)) (hr : yR Y = none) (q : Q (.inl none) h) : AW g Y d Q h loc pc [] := by
  intro p e R s m args below meth c H locs cells slots mc ms ls A hR hM hL
  obtain ⟨m1, m2, m3, m4, m5, m6, m7, m8⟩ := hM
  refine W.widen (k := mc) (n := ms) (by omega) (by omega) (vx_ret ?_)
  exact W.vret A.1 A.2.1 (A.2.2.2.1.trans hr) (fun t ht hW => ⟨_, h, rfl, by rw [ht]; exact hR, by rw [ht]; exact m2, q⟩) m1 dd A.2.2.2.2.1
theorem aw_areturn {v : Value} {ty : FieldType} (dd : decode (yC Y) pc = .ok (.areturn, 1)) (hr : yR Y = some ty) (ho : (∃ n, ty = .object n) ∨ ∃ t, ty = .array t) (hv : aIsR v) (q : Q (.inl (some v)) h) : AW g Y d Q h loc pc [v] := by
  intro p e R s m args below meth c H locs cells slots mc ms ls A hR hM hL
  obtain ⟨m1, m2, m3, m4, m5, m6, m7, m8⟩ := hM
  refine W.widen (k := mc) (n := ms) (by omega) (by omega) (vx_ret ?_)
  exact W.aret A.1 A.2.1 (A.2.2.2.1.trans hr) ho hv.or (fun t ht hW => ⟨_, h, rfl, by rw [ht]; exact hR, by rw [ht]; exact m2, q⟩) m1 dd A.2.2.2.2.1
end AWR
