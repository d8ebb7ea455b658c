/-! THE ABSTRACT MACHINE: a method's run over a heap of numbered cells (objects by the number of their class in aCl, arrays by the number of their element type in aTy) -/
set_option maxRecDepth 100000
def TX7 : u_T := fun _ => ("java/lang/Enum", "ordinal", "I", true)
abbrev aCl : List vw_C := [(RX1, TX1, 5), (RX2, TX2, 9), (RX3, TX3, 10), (RX4, TX4, 1), (RX5, TX5, 60), (RX6, TX6, 4), (RX8, TX8, 4), (RX9, TX9, 8), (RX10, TX10, 7), (RX11, TX11, 5), (RJ1, TJ1, 8), (RJ27, TJ27, 4), (RJ29, TJ29, 11), (RJ4, TJ4, 3), (RJ5, TJ5, 9), (RJ30, TJ30, 6), (RJ12, TJ12, 4), (RJ13, TJ13, 4), (RJ21, TJ21, 1), (RX7, TX7, 1)]
/-- element types of arrays; the last one's arrays are only read -/
abbrev aTy : List FieldType := [.int, .long, .boolean, .byte, .object "java/lang/Object", .object "java/lang/String", .object "java/util/HashMap$Node", .object "ProbeConsole$Frame", .object "ProbeConsole$Kind", .object "java/lang/Integer"]
/-- a cell: an array (element type, length, contents), or an object (class, fields) -/
abbrev AE : Type := (Nat × Nat × (Nat → Value)) ⊕ (Nat × List Value)
/-- a heap: its known cells, its size, its slots -/
abbrev AH : Type := (Nat → Option AE) × Nat × Nat
/-- what a method comes to: it returns, or throws an object of a class -/
abbrev AR : Type := Option Value ⊕ String
/-- launch, first address that may be written, the heap at the start, layouts, array classes, values of statics, String constants, Class objects, most cells, most slots -/
abbrev AG : Type := Launch × Nat × Heap × va_G × (Nat → ClassId) × (Nat → Value) × (Nat → Nat) × (Nat → Nat) × Nat × Nat
abbrev gL (g : AG) : Launch := g.1
abbrev gB (g : AG) : Nat := g.2.1
abbrev gH (g : AG) : Heap := g.2.2.1
abbrev gD (g : AG) : va_G := g.2.2.2.1
abbrev gA (g : AG) : Nat → ClassId := g.2.2.2.2.1
abbrev gV (g : AG) : Nat → Value := g.2.2.2.2.2.1
abbrev gS (g : AG) : Nat → Nat := g.2.2.2.2.2.2.1
abbrev gM (g : AG) : Nat → Nat := g.2.2.2.2.2.2.2.1
abbrev gLc (g : AG) : Nat := g.2.2.2.2.2.2.2.2.1
abbrev gLs (g : AG) : Nat := g.2.2.2.2.2.2.2.2.2
/-- all slots of a heap -/
def hsl (H : Heap) : Nat := (H.toList.map (·.slots.size)).sum
theorem hsl_fold (H : Heap) : H.foldl (fun n c => n + c.slots.size) 0 = hsl H := by
  rw [← Array.foldl_toList]
  have : ∀ (l : List Cell) (n : Nat), l.foldl (fun n c => n + c.slots.size) n = n + (l.map (·.slots.size)).sum := by
    intro l
    induction l with
    | nil => intro n; rfl
    | cons x r ih => intro n; rw [List.foldl_cons, ih, List.map_cons, List.sum_cons]; omega
  rw [this, Nat.zero_add]
  rfl
theorem hsl_same {H H1 : Heap} {a : Nat} {c c1 : Cell} (z : H1.size = H.size) (o : ∀ q, q ≠ a → H1[q]? = H[q]?) (h : H[a]? = some c) (h1 : H1[a]? = some c1) (e : c1.slots.size = c.slots.size) : hsl H1 = hsl H := by
  unfold hsl
  congr 1
  apply List.ext_getElem?
  intro i
  rw [List.getElem?_map, List.getElem?_map, Array.getElem?_toList, Array.getElem?_toList]
  by_cases q : i = a
  · subst q
    rw [h, h1]
    exact congrArg some e
  · rw [o i q]
theorem hsl_push {H H1 : Heap} {c : Cell} (z : H1.size = H.size + 1) (o : ∀ q, q < H.size → H1[q]? = H[q]?) (h : H1[H.size]? = some c) : hsl H1 = hsl H + c.slots.size := by
  have e : H1 = H.push c := by
    apply Array.ext_getElem?
    intro i
    rw [Array.getElem?_push]
    by_cases q : i = H.size
    · rw [if_pos q, q, h]
    · rw [if_neg q]
      by_cases q2 : i < H.size
      · exact o i q2
      · rw [Array.getElem?_eq_none (by omega), Array.getElem?_eq_none (by omega)]
  rw [e]
  unfold hsl
  rw [Array.toList_push, List.map_append, List.sum_append]
  simp
/-- a method: name, code, locals, answer, handlers -/
abbrev YC : Type := MethodName × ByteArray × Nat × Option FieldType × List (Nat × Nat × Nat × Nat)
abbrev yM (Y : YC) : MethodName := Y.1
abbrev yO (Y : YC) : String := Y.1.cls
abbrev yC (Y : YC) : ByteArray := Y.2.1
abbrev yN (Y : YC) : Nat := Y.2.2.1
abbrev yR (Y : YC) : Option FieldType := Y.2.2.2.1
abbrev yH (Y : YC) : List (Nat × Nat × Nat × Nat) := Y.2.2.2.2
def aE_at (g : AG) (q : Nat) (e : AE) (H : Heap) : Prop := match e with
  | .inl x => ∃ cell : Cell, H[q]? = some cell ∧ cell.cls = gA g x.1 ∧ cell.vm ≠ .unknown ∧ cell.vm.isStatics = false ∧ cell.slots.size = x.2.1 ∧ cell.slots.size.toInt32 = Int32.ofNat x.2.1 ∧ (∀ j, j < x.2.1 → cell.slots[j]? = some (x.2.2 j)) ∧ (gB g ≤ q → cell = arrV (gA g x.1) x.2.1 x.2.2)
  | .inr o => ∃ (r : vw_C) (cell : Cell), aCl[o.1]? = some r ∧ H[q]? = some cell ∧ cell.cls = (gD g).1 o.1 ∧ cell.vm ≠ .unknown ∧ cell.vm.isStatics = false ∧ (∀ k, k < r.2.2 → cell.slots[(gD g).2 o.1 k]? = some (vp_V o.2 k)) ∧ (gB g ≤ q → cell.vm = .none)
def aRel (g : AG) (h : AH) (H : Heap) : Prop := h.2.1 = H.size ∧ gB g ≤ h.2.1 ∧ (∀ (q : Nat) (e : AE), h.1 q = some e → aE_at g q e H) ∧ (∀ q : Nat, q < gB g → H[q]? = (gH g)[q]?) ∧ h.2.2 = hsl H ∧ h.2.1 ≤ gLc g ∧ h.2.2 ≤ gLs g
def hset (h : AH) (a : Nat) (e : AE) : AH := (fun q => if q = a then some e else h.1 q, h.2)
def hnew (h : AH) (n : Nat) (e : AE) : AH := (fun q => if q = h.2.1 then some e else h.1 q, h.2.1 + 1, h.2.2 + n)
/-- a cell of n slots of which nothing is known -/
def hopq (h : AH) (n : Nat) : AH := (fun q => if q = h.2.1 then none else h.1 q, h.2.1 + 1, h.2.2 + n)
theorem hset_self {h : AH} {a : Nat} {e : AE} : (hset h a e).1 a = some e := if_pos rfl
theorem hset_ne {h : AH} {a b : Nat} {e : AE} (n : b ≠ a) : (hset h a e).1 b = h.1 b := if_neg n
theorem hnew_self {h : AH} {n : Nat} {e : AE} : (hnew h n e).1 h.2.1 = some e := if_pos rfl
theorem hnew_ne {h : AH} {n : Nat} {b : Nat} {e : AE} (z : b ≠ h.2.1) : (hnew h n e).1 b = h.1 b := if_neg z
theorem aE_at.kept {g : AG} {q : Nat} {e : AE} {H H1 : Heap} (h : aE_at g q e H) (hq : H1[q]? = H[q]?) : aE_at g q e H1 := by
  obtain x | o := e
  · obtain ⟨cell, h1, h2⟩ := h
    exact ⟨cell, by rw [hq]; exact h1, h2⟩
  · obtain ⟨r, cell, h0, h1, h2⟩ := h
    exact ⟨r, cell, h0, by rw [hq]; exact h1, h2⟩
theorem aE_at.lt {g : AG} {q : Nat} {e : AE} {H : Heap} (h : aE_at g q e H) : q < H.size := by
  obtain x | o := e
  · obtain ⟨cell, h1, -⟩ := h
    exact (Array.getElem?_eq_some_iff.mp h1).1
  · obtain ⟨r, cell, -, h1, -⟩ := h
    exact (Array.getElem?_eq_some_iff.mp h1).1
theorem aRel.lt {g : AG} {h : AH} {H : Heap} (hR : aRel g h H) {q : Nat} {e : AE} (hq : h.1 q = some e) : q < h.2.1 := by
  rw [hR.1]; exact (hR.2.2.1 q e hq).lt
theorem aRel.set {g : AG} {h : AH} {H H1 : Heap} {a : Nat} {e : AE} {c c1 : Cell} (hR : aRel g h H) (ha : gB g ≤ a) (z : H1.size = H.size) (o : ∀ q, q ≠ a → H1[q]? = H[q]?) (hc : H[a]? = some c) (hc1 : H1[a]? = some c1) (hz : c1.slots.size = c.slots.size) (he : aE_at g a e H1) : aRel g (hset h a e) H1 := by
  have h6 := hsl_same z o hc hc1 hz
  obtain ⟨h1, h2, h3, h4, h5, h7⟩ := hR
  refine ⟨by rw [z]; exact h1, h2, fun q e' hq => ?_, fun q hq => ?_, by rw [h6]; exact h5, h7⟩
  · by_cases hqa : q = a
    · subst hqa
      rw [hset_self] at hq
      cases hq
      exact he
    · rw [hset_ne hqa] at hq
      exact (h3 q e' hq).kept (o q hqa)
  · rw [o q (by omega)]
    exact h4 q hq
theorem aRel.new {g : AG} {h : AH} {H H1 : Heap} {n : Nat} {e : AE} {c : Cell} (hR : aRel g h H) (z : H1.size = H.size + 1) (o : ∀ q, q < H.size → H1[q]? = H[q]?) (hc : H1[H.size]? = some c) (hn : c.slots.size = n) (l1 : h.2.1 + 1 ≤ gLc g) (l2 : h.2.2 + n ≤ gLs g) (he : aE_at g H.size e H1) : aRel g (hnew h n e) H1 := by
  have h6 := hsl_push z o hc
  obtain ⟨h1, h2, h3, h4, h5, -⟩ := hR
  refine ⟨by rw [z, ← h1]; rfl, by show gB g ≤ h.2.1 + 1; omega, fun q e' hq => ?_, fun q hq => ?_, by show h.2.2 + n = _; omega, l1, l2⟩
  · by_cases hqa : q = h.2.1
    · subst hqa
      rw [hnew_self] at hq
      cases hq
      rw [h1]
      exact he
    · rw [hnew_ne hqa] at hq
      have h5 := h3 q e' hq
      exact h5.kept (o q h5.lt)
  · rw [o q (by omega)]
    exact h4 q hq
theorem aRel.opq {g : AG} {h : AH} {H H1 : Heap} {n : Nat} {c : Cell} (hR : aRel g h H) (z : H1.size = H.size + 1) (o : ∀ q, q < H.size → H1[q]? = H[q]?) (hc : H1[H.size]? = some c) (hn : c.slots.size = n) (l1 : h.2.1 + 1 ≤ gLc g) (l2 : h.2.2 + n ≤ gLs g) : aRel g (hopq h n) H1 := by
  have h6 := hsl_push z o hc
  obtain ⟨h1, h2, h3, h4, h5, -⟩ := hR
  refine ⟨by rw [z, ← h1]; rfl, by show gB g ≤ h.2.1 + 1; omega, fun q e' hq => ?_, fun q hq => ?_, by show h.2.2 + n = _; omega, l1, l2⟩
  · have hq : (if q = h.2.1 then none else h.1 q) = some e' := hq
    by_cases hqa : q = h.2.1
    · rw [if_pos hqa] at hq
      cases hq
    · rw [if_neg hqa] at hq
      have h5 := h3 q e' hq
      exact h5.kept (o q h5.lt)
  · rw [o q (by omega)]
    exact h4 q hq
/-! locals: what each place holds, as far as it is known -/
def aprs : Nat → List (Option Value) → List (Nat × Value)
  | _, [] => []
  | k, some v :: r => (k, v) :: aprs (k + 1) r
  | k, none :: r => aprs (k + 1) r
theorem aprs_mem : ∀ (l : List (Option Value)) (k j : Nat) (w : Value), l[j]? = some (some w) → (k + j, w) ∈ aprs k l
  | [], _, _, _, h => by simp at h
  | x :: r, k, 0, w, h => by
    have h : x = some w := by simpa using h
    subst h
    exact List.mem_cons_self
  | some v :: r, k, j + 1, w, h => by
    have := aprs_mem r (k + 1) j w (by simpa using h)
    rw [show k + (j + 1) = k + 1 + j by omega]
    exact List.mem_cons_of_mem _ this
  | none :: r, k, j + 1, w, h => by
    have := aprs_mem r (k + 1) j w (by simpa using h)
    rw [show k + (j + 1) = k + 1 + j by omega]
    exact this
theorem aprs_of : ∀ (l : List (Option Value)) (k : Nat) (q : Nat × Value), q ∈ aprs k l → ∃ j, q.1 = k + j ∧ l[j]? = some (some q.2)
  | [], _, _, h => by cases h
  | some v :: r, k, q, h => by
    rcases List.mem_cons.mp h with rfl | h
    · exact ⟨0, rfl, rfl⟩
    · obtain ⟨j, h1, h2⟩ := aprs_of r (k + 1) q h
      exact ⟨j + 1, by omega, by simpa using h2⟩
  | none :: r, k, q, h => by
    obtain ⟨j, h1, h2⟩ := aprs_of r (k + 1) q h
    exact ⟨j + 1, by omega, by simpa using h2⟩
def aHas (ls : Array Slot) (nL : Nat) (loc : List (Option Value)) : Prop := lv_has ls nL (aprs 0 loc)
theorem aHas.at {ls : Array Slot} {nL : Nat} {loc : List (Option Value)} (h : aHas ls nL loc) {i : Nat} {v : Value} (hi : loc[i]? = some (some v)) : ls[i]? = some (.val v) := by
  have h1 := aprs_mem loc 0 i v hi
  rw [Nat.zero_add] at h1
  exact h.2.2 _ h1
theorem aHas.to {ls : Array Slot} {nL : Nat} {l : List (Nat × Value)} {loc : List (Option Value)} (h : lv_has ls nL l) (hm : ∀ (j : Nat) (w : Value), loc[j]? = some (some w) → (j, w) ∈ l) : aHas ls nL loc := by
  refine ⟨h.1, h.2.1, fun q hq => ?_⟩
  obtain ⟨j, h1, h2⟩ := aprs_of loc 0 q hq
  rw [Nat.zero_add] at h1
  rw [h1]
  exact h.2.2 _ (hm j _ h2)
/-- fewer are known -/
theorem aHas.sub {ls : Array Slot} {nL : Nat} {loc loc' : List (Option Value)} (h : aHas ls nL loc) (hs : ∀ (j : Nat) (w : Value), loc'[j]? = some (some w) → loc[j]? = some (some w)) : aHas ls nL loc' :=
  aHas.to h fun j w hj => by
    have h1 := aprs_mem loc 0 j w (hs j w hj)
    rwa [Nat.zero_add] at h1
def akill : Nat → List (Option Value) → List (Option Value)
  | 0, l => l
  | i + 1, l => match l[i]? with
    | some (some (.long _)) => l.set i none
    | some (some (.double _)) => l.set i none
    | _ => l
def aset1 (i : Nat) (v : Value) (l : List (Option Value)) : List (Option Value) := (akill i l).set i (some v)
def aset2 (i : Nat) (v : Value) (l : List (Option Value)) : List (Option Value) := (aset1 i v l).set (i + 1) none
theorem akill_of {i j : Nat} {w : Value} {l : List (Option Value)} (h : (akill i l)[j]? = some (some w)) : l[j]? = some (some w) ∧ ¬ (j + 1 = i ∧ w.category = 2) := by
  cases i with
  | zero => exact ⟨h, fun q => by omega⟩
  | succ i =>
    simp only [akill] at h
    have key : ∀ z, (l.set i none)[j]? = some (some z) → l[j]? = some (some z) ∧ j ≠ i := by
      intro z hz
      rw [List.getElem?_set] at hz
      by_cases e : i = j
      · rw [if_pos e] at hz
        by_cases e2 : i < l.length
        · rw [if_pos e2] at hz; cases hz
        · rw [if_neg e2] at hz; cases hz
      · rw [if_neg e] at hz
        exact ⟨hz, fun q => e q.symm⟩
    split at h
    · exact ⟨(key _ h).1, fun q => (key _ h).2 (by omega)⟩
    · exact ⟨(key _ h).1, fun q => (key _ h).2 (by omega)⟩
    · rename_i x n1 n2
      refine ⟨h, fun q => ?_⟩
      have e : j = i := by omega
      subst e
      cases w with
      | long z => exact n1 z h
      | double z => exact n2 z h
      | _ => cases q.2
theorem aset_of {i j : Nat} {v w : Value} {l : List (Option Value)} (h : (aset1 i v l)[j]? = some (some w)) : (j = i ∧ w = v) ∨ (j ≠ i ∧ l[j]? = some (some w) ∧ ¬ (j + 1 = i ∧ w.category = 2)) := by
  unfold aset1 at h
  rw [List.getElem?_set] at h
  by_cases e : i = j
  · rw [if_pos e] at h
    by_cases e2 : i < (akill i l).length
    · rw [if_pos e2] at h
      cases h
      exact Or.inl ⟨e.symm, rfl⟩
    · rw [if_neg e2] at h; cases h
  · rw [if_neg e] at h
    exact Or.inr ⟨fun q => e q.symm, akill_of h⟩
theorem aHas.set1 {ls : Array Slot} {nL i : Nat} {v : Value} {loc : List (Option Value)} (h : lv_has ls nL ((i, v) :: (aprs 0 loc).filter (fun q => !(q.1 == i) && !(q.1 + 1 == i && q.2.category == 2)))) : aHas ls nL (aset1 i v loc) := by
  refine aHas.to h fun j w hj => ?_
  rcases aset_of hj with ⟨rfl, rfl⟩ | ⟨n, h1, h2⟩
  · exact List.mem_cons_self
  · refine List.mem_cons_of_mem _ (List.mem_filter.mpr ⟨?_, ?_⟩)
    · have := aprs_mem loc 0 j w h1
      rwa [Nat.zero_add] at this
    · have e1 : (j == i) = false := by simpa using n
      have e2 : (j + 1 == i && w.category == 2) = false := by
        by_cases z : j + 1 = i
        · have : ¬ w.category = 2 := fun q => h2 ⟨z, q⟩
          simp [this]
        · simp [z]
      simp [e1, e2]
theorem aHas.set2 {ls : Array Slot} {nL i : Nat} {v : Value} {loc : List (Option Value)} (h : lv_has ls nL ((i, v) :: (aprs 0 loc).filter (fun q => !(q.1 == i) && (!(q.1 == i + 1) && !(q.1 + 1 == i && q.2.category == 2))))) : aHas ls nL (aset2 i v loc) := by
  refine aHas.to h fun j w hj => ?_
  unfold aset2 at hj
  rw [List.getElem?_set] at hj
  by_cases e : i + 1 = j
  · rw [if_pos e] at hj
    by_cases e2 : i + 1 < (aset1 i v loc).length
    · rw [if_pos e2] at hj; cases hj
    · rw [if_neg e2] at hj; cases hj
  · rw [if_neg e] at hj
    rcases aset_of hj with ⟨rfl, rfl⟩ | ⟨n, h1, h2⟩
    · exact List.mem_cons_self
    · refine List.mem_cons_of_mem _ (List.mem_filter.mpr ⟨?_, ?_⟩)
      · have := aprs_mem loc 0 j w h1
        rwa [Nat.zero_add] at this
      · have e0 : (j == i + 1) = false := by
          have : j ≠ i + 1 := fun q => e q.symm
          simpa using this
        have e1 : (j == i) = false := by simpa using n
        have e2 : (j + 1 == i && w.category == 2) = false := by
          by_cases z : j + 1 = i
          · have : ¬ w.category = 2 := fun q => h2 ⟨z, q⟩
            simp [this]
          · simp [z]
        rw [e0, e1, e2]; rfl
/-- a method's locals at its entry -/
def aent : List Value → List (Option Value)
  | [] => []
  | .long x :: r => some (.long x) :: none :: aent r
  | .double x :: r => some (.double x) :: none :: aent r
  | v :: r => some v :: aent r
theorem aent_in : ∀ (vs : List Value) (k j : Nat) (w : Value), (aent vs)[j]? = some (some w) → (k + j, w) ∈ lv_args k vs
  | [], _, _, _, h => by simp [aent] at h
  | v :: r, k, j, w, h => by
    have one : v.category = 1 → aent (v :: r) = some v :: aent r → (k + j, w) ∈ lv_args k (v :: r) := by
      intro hc he
      rw [he] at h
      cases j with
      | zero =>
        have h : v = w := by simpa using h
        subst h
        simp [lv_args]
      | succ j =>
        have h1 := aent_in r (k + 1) j w (by simpa using h)
        rw [lv_args, if_neg (by omega)]
        rw [show k + (j + 1) = k + 1 + j by omega]
        exact List.mem_cons_of_mem _ h1
    have two : v.category = 2 → aent (v :: r) = some v :: none :: aent r → (k + j, w) ∈ lv_args k (v :: r) := by
      intro hc he
      rw [he] at h
      match j, h with
      | 0, h =>
        have h : v = w := by simpa using h
        subst h
        simp [lv_args]
      | 1, h => simp at h
      | j + 2, h =>
        have h1 := aent_in r (k + 2) j w (by simpa using h)
        rw [lv_args, if_pos hc]
        rw [show k + (j + 2) = k + 2 + j by omega]
        exact List.mem_cons_of_mem _ h1
    cases v with
    | long x => exact two rfl rfl
    | double x => exact two rfl rfl
    | _ => exact one rfl rfl
theorem aHas.entry {vs : List Value} {n : Nat} {loc : List (Option Value)} (h : (lg_sl vs).length ≤ n) (hl : loc = aent vs ++ List.replicate (n - (aent vs).length) none) : aHas ((lg_sl vs ++ List.replicate (n - (lg_sl vs).length) Slot.unset).toArray) n loc := by
  refine aHas.to (lv_entry vs h) fun j w hj => ?_
  subst hl
  rw [List.getElem?_append] at hj
  by_cases e : j < (aent vs).length
  · rw [if_pos e] at hj
    have := aent_in vs 0 j w hj
    rwa [Nat.zero_add] at this
  · rw [if_neg e, List.getElem?_replicate] at hj
    by_cases e2 : j - (aent vs).length < n - (aent vs).length
    · rw [if_pos e2] at hj; cases hj
    · rw [if_neg e2] at hj; cases hj
/-! what is known of the tables in every state of the run -/
def aNw : Cond → Bool
  | .fieldLinkNest .. => true
  | .methodLinkNest .. => true
  | .castable .. => true
  | .declares .. => true
  | _ => false
theorem aNw.warm {w : Cond} (hw : aNw w = true) {s U : State} (hW : s.WarmedH U.vm) (h : va_Nw w s) : va_Nw w U := by
  cases w <;> first | exact va_Nw.warmF hW h | exact va_Nw.warmM hW h | exact va_Nw.warmC hW h | exact va_Nw.warmD hW h | (simp [aNw] at hw)

