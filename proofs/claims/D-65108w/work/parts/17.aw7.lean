/-! THE ABSTRACT MACHINE, 7: posts, natives -/
set_option maxRecDepth 100000
theorem aw_st {g : AG} {Y : YC} {d : Nat} {Q : AR → AH → Prop} {h : AH} {loc : List (Option Value)} {pc : Nat} {st st' : List Value} (e : st = st') (k : AW g Y d Q h loc pc st') : AW g Y d Q h loc pc st := e ▸ k
def asubL : List (Option Value) → List (Option Value) → Prop
  | [], _ => True
  | a :: r, b :: s => (a = none ∨ a = b) ∧ asubL r s
  | _ :: _, [] => False
theorem asubL.ok : ∀ {l l' : List (Option Value)}, asubL l' l → ∀ (j : Nat) (w : Value), l'[j]? = some (some w) → l[j]? = some (some w)
  | _, [], _, j, w, z => by simp at z
  | b :: s, a :: r, h, 0, w, z => by
    obtain ⟨h1, h2⟩ := h
    have z : a = some w := by simpa using z
    rcases h1 with h1 | h1
    · rw [h1] at z
      cases z
    · rw [← h1, z]
      rfl
  | b :: s, a :: r, h, j + 1, w, z => by
    have := asubL.ok h.2 j w (by simpa using z)
    simpa using this
  | [], a :: r, h, _, _, _ => h.elim
theorem aw_subl {g : AG} {Y : YC} {d : Nat} {Q : AR → AH → Prop} {h : AH} {loc loc' : List (Option Value)} {pc : Nat} {st : List Value} (e : asubL loc' loc) (k : AW g Y d Q h loc' pc st) : AW g Y d Q h loc pc st := k.weaken e.ok
abbrev xI (q : Int32 × AH) : AR → AH → Prop := aRet fun v h' => v = some (.int q.1) ∧ h' = q.2
abbrev xJ (q : Int64 × AH) : AR → AH → Prop := aRet fun v h' => v = some (.long q.1) ∧ h' = q.2
abbrev xR (q : Option Nat × AH) : AR → AH → Prop := aRet fun v h' => v = some (va_rf q.1) ∧ h' = q.2
abbrev xV (q : AH) : AR → AH → Prop := aRet fun v h' => v = none ∧ h' = q
def tP {α : Type} (f : α → Option Value) (q : (String ⊕ α) × AH) : AR → AH → Prop := fun r h' => h' = q.2 ∧ r = match q.1 with
  | .inl E => .inr E
  | .inr x => .inl (f x)
abbrev tI (q : (String ⊕ Int32) × AH) : AR → AH → Prop := tP (fun x => some (.int x)) q
abbrev tR (q : (String ⊕ Option Nat) × AH) : AR → AH → Prop := tP (fun x => some (va_rf x)) q
abbrev tV (q : (String ⊕ Unit) × AH) : AR → AH → Prop := tP (fun _ => none) q
theorem tP_exc {α : Type} {f : α → Option Value} {q : (String ⊕ α) × AH} {E : String} {h' : AH} (z : tP f q (.inr E) h') : q.1 = .inl E ∧ h' = q.2 := by
  obtain ⟨q1, q2⟩ := q
  obtain ⟨z1, z2⟩ := z
  rcases q1 with E' | x
  · cases z2
    exact ⟨rfl, z1⟩
  · cases z2
theorem tP_ret {α : Type} {f : α → Option Value} {q : (String ⊕ α) × AH} {v : Option Value} {h' : AH} (z : tP f q (.inl v) h') : ∃ x, q.1 = .inr x ∧ v = f x ∧ h' = q.2 := by
  obtain ⟨q1, q2⟩ := q
  obtain ⟨z1, z2⟩ := z
  rcases q1 with E' | x
  · cases z2
  · cases z2
    exact ⟨x, rfl, rfl, z1⟩
theorem tI_exc {q : (String ⊕ Int32) × AH} {E : String} {h' : AH} (z : tI q (.inr E) h') : q.1 = .inl E ∧ h' = q.2 := tP_exc z
theorem tR_exc {q : (String ⊕ Option Nat) × AH} {E : String} {h' : AH} (z : tR q (.inr E) h') : q.1 = .inl E ∧ h' = q.2 := tP_exc z
theorem tV_exc {q : (String ⊕ Unit) × AH} {E : String} {h' : AH} (z : tV q (.inr E) h') : q.1 = .inl E ∧ h' = q.2 := tP_exc z
theorem tI_ret {q : (String ⊕ Int32) × AH} {v : Option Value} {h' : AH} (z : tI q (.inl v) h') : ∃ x, q.1 = .inr x ∧ v = some (.int x) ∧ h' = q.2 := tP_ret z
theorem tR_ret {q : (String ⊕ Option Nat) × AH} {v : Option Value} {h' : AH} (z : tR q (.inl v) h') : ∃ x, q.1 = .inr x ∧ v = some (va_rf x) ∧ h' = q.2 := tP_ret z
theorem tV_ret {q : (String ⊕ Unit) × AH} {v : Option Value} {h' : AH} (z : tV q (.inl v) h') : ∃ x, q.1 = .inr x ∧ v = none ∧ h' = q.2 := tP_ret z
theorem clB1 {h : AH} {a c : Nat} (z : clB h a [c] = true) : ∃ fs : List Value, h.1 a = some (.inr (c, fs)) := by
  obtain ⟨c', fs, h1, h2⟩ := clB_eq z
  cases List.mem_singleton.mp h2
  exact ⟨fs, h1⟩
theorem aset1_rf {i : Nat} {v : Value} {l : List (Option Value)} {r : Option Nat} (h : l[i]? = some (some (va_rf r))) : aset1 (i + 1) v l = l.set (i + 1) (some v) := by
  have e : akill (i + 1) l = l := by
    rw [akill, h]
    cases r <;> rfl
  unfold aset1
  rw [e]
theorem aset2_rf {i : Nat} {v : Value} {l : List (Option Value)} {r : Option Nat} (h : l[i]? = some (some (va_rf r))) : aset2 (i + 1) v l = (l.set (i + 1) (some v)).set (i + 1 + 1) none := by
  unfold aset2
  rw [aset1_rf h]
theorem lgl_nil : (lg_sl []).length = 0 := rfl
theorem lgl_i (x : Int32) (t : List Value) : (lg_sl (.int x :: t)).length = 1 + (lg_sl t).length := by
  show (lg_sl ([.int x] ++ t)).length = _
  simp [lg_sl, Value.category]; omega
theorem lgl_j (x : Int64) (t : List Value) : (lg_sl (.long x :: t)).length = 2 + (lg_sl t).length := by
  show (lg_sl ([.long x] ++ t)).length = _
  simp [lg_sl, Value.category]; omega
theorem lgl_ref (x : Nat) (t : List Value) : (lg_sl (.ref x :: t)).length = 1 + (lg_sl t).length := by
  show (lg_sl ([.ref x] ++ t)).length = _
  simp [lg_sl, Value.category]; omega
theorem lgl_rf (r : Option Nat) (t : List Value) : (lg_sl (va_rf r :: t)).length = 1 + (lg_sl t).length := by
  show (lg_sl ([va_rf r] ++ t)).length = _
  simp [lg_sl, cat_rf]; omega
theorem aent_rf (r : Option Nat) (t : List Value) : aent (va_rf r :: t) = some (va_rf r) :: aent t := by cases r <;> rfl
theorem aent_i (x : Int32) (t : List Value) : aent (.int x :: t) = some (.int x) :: aent t := rfl
theorem aent_ref (x : Nat) (t : List Value) : aent (.ref x :: t) = some (.ref x) :: aent t := rfl
theorem aent_j (x : Int64) (t : List Value) : aent (.long x :: t) = some (.long x) :: none :: aent t := rfl
theorem aent_nil : aent [] = [] := rfl
def isc (v : Int32) : Bool := decide ((v.toUInt32 % 65536).toInt32 = v)

theorem qSBsel : Cond.selects "java/lang/StringBuilder" ⟨"java/lang/AbstractStringBuilder", "isLatin1", "()Z"⟩ ⟨"java/lang/AbstractStringBuilder", "isLatin1", "()Z"⟩ ∈ lw_all := q565
theorem qObjI : Cond.instanceMethod Lib.objectInit ∈ lw_all := q171
theorem qObjC : Cond.code Lib.objectInit ⟨#[0xb1]⟩ 1 none ∈ lw_all := q172
section AWN
variable {g : AG} {Y : YC} {d : Nat} {Q : AR → AH → Prop} {h : AH} {loc loc' : List (Option Value)} {pc : Nat} {rest : List Value}
variable {idx a : Nat} {h1 : AH}
def cpA (g : AG) (h : AH) (a0 : Nat) (sp : Int32) (a1 : Nat) (dp n : Int32) : Option AH := none
def clA (g : AG) (h : AH) (a t : Nat) : Option AH := none
def gcA (g : AG) (h : AH) (a : Nat) : Option Nat := none
def getLongU (g : AG) (h : AH) (a : Nat) (off : Int64) : Option Int64 := none
def getIntU (g : AG) (h : AH) (a : Nat) (off : Int64) : Option Int32 := none
theorem xw_copy {a0 a1 : Nat} {sp dp n : Int32} (e : cpA g h a0 sp a1 dp n = some h1) (hl : Cond.methodLink (yO Y) idx arraycopyName ∈ lw_all) (hd : 2 ≤ d) (hr : (rest.map fun v => v.category).sum ≤ 8) (dd : decode (yC Y) pc = .ok (.invokestatic idx, 3)) (k : AW g Y d Q h1 loc (pc + 3) rest) : AW g Y d Q h loc pc (.int n :: .int dp :: .ref a1 :: .int sp :: .ref a0 :: rest) := by cases e
theorem xw_clone3 (e : clA g h a 3 = some h1) (hl : Cond.methodLink (yO Y) idx ⟨"[B", "clone", "()Ljava/lang/Object;"⟩ ∈ lw_all) (hd : 2 ≤ d) (hr : (rest.map fun v => v.category).sum ≤ 8) (dd : decode (yC Y) pc = .ok (.invokevirtual idx, 3)) (k : AW g Y d Q h1 loc (pc + 3) (.ref h.2.1 :: rest)) : AW g Y d Q h loc pc (.ref a :: rest) := by cases e
theorem xw_clone8 (e : clA g h a 8 = some h1) (hl : Cond.methodLink (yO Y) idx ⟨"[LProbeConsole$Kind;", "clone", "()Ljava/lang/Object;"⟩ ∈ lw_all) (hd : 2 ≤ d) (hr : (rest.map fun v => v.category).sum ≤ 8) (dd : decode (yC Y) pc = .ok (.invokevirtual idx, 3)) (k : AW g Y d Q h1 loc (pc + 3) (.ref h.2.1 :: rest)) : AW g Y d Q h loc pc (.ref a :: rest) := by cases e
theorem xw_getC {b : Nat} (e : gcA g h a = some b) (hl : Cond.methodLink (yO Y) idx ⟨"java/lang/Object", "getClass", "()Ljava/lang/Class;"⟩ ∈ lw_all) (hd : 2 ≤ d) (hr : (rest.map fun v => v.category).sum ≤ 8) (dd : decode (yC Y) pc = .ok (.invokevirtual idx, 3)) (k : AW g Y d Q h loc (pc + 3) (.ref b :: rest)) : AW g Y d Q h loc pc (.ref a :: rest) := by cases e
theorem xw_getLongU {u : Nat} {off x : Int64} (e : getLongU g h a off = some x) (dd : decode (yC Y) pc = .ok (.invokevirtual idx, 3)) (k : AW g Y d Q h loc (pc + 3) (.long x :: rest)) : AW g Y d Q h loc pc (.long off :: .ref a :: .ref u :: rest) := by cases e
theorem xw_getIntU {u : Nat} {off : Int64} {x : Int32} (e : getIntU g h a off = some x) (dd : decode (yC Y) pc = .ok (.invokevirtual idx, 3)) (k : AW g Y d Q h loc (pc + 3) (.int x :: rest)) : AW g Y d Q h loc pc (.long off :: .ref a :: .ref u :: rest) := by cases e
theorem aw_ldcwS {i : Nat} {tx : String} (hi : aSr[i]? = some (yO Y, idx, tx)) (dd : decode (yC Y) pc = .ok (.ldc_w idx, 3)) (k : AW g Y d Q h loc (pc + 3) (.ref (gS g i) :: rest)) : AW g Y d Q h loc pc rest := by
  intro p e R s m args below meth c H locs cells slots mc ms ls A hR hM hL
  have hK : aK g s := A.2.2.2.2.2.2.2.1
  have hZ := hK.sr hi
  intro T hT X
  obtain ⟨t, a1, b1⟩ := k p e R s m args below meth c H locs cells slots mc ms ls A hR hM hL T hT X
  exact ⟨t, X.ldcStringW A.1 (own := yO Y) (text := tx) (index := idx) (a := gS g i) A.2.2.2.2.2.1 hZ.1 hZ.2 (g := F0 m pc ls rest) rfl (by rw [A.2.1]; exact dd) _ a1, b1⟩
theorem aw_mmax {x y : Int32} (hl : Cond.methodLink (yO Y) idx Lib.Math.max.name ∈ lw_all) (hd : 1 ≤ d) (hr : (rest.map fun v => v.category).sum ≤ 8) (dd : decode (yC Y) pc = .ok (.invokestatic idx, 3)) (k : AW g Y d Q h loc (pc + 3) (.int (if x < y then y else x) :: rest)) : AW g Y d Q h loc pc (.int y :: .int x :: rest) := by
  intro p e R s m args below meth c H locs cells slots mc ms ls A hR hM hL
  have hts := A.2.2.2.2.2.2.1
  obtain ⟨m1, m2, m3, m4, m5, m6, m7, m8⟩ := id hM
  exact va_mmax A.1 A.2.1 (A.2.2.1.trans hL.1.symm) A.2.2.2.2.2.1 (hts _ hl) (hts _ q539) (hts _ q137) (hts _ q540) (by omega) (by omega) (by omega) (by omega) dd (k p e R s m args below meth c H locs cells slots mc ms ls A hR hM hL)
theorem aw_mmin {x y : Int32} (hl : Cond.methodLink (yO Y) idx Lib.Math.min.name ∈ lw_all) (hd : 1 ≤ d) (hr : (rest.map fun v => v.category).sum ≤ 8) (dd : decode (yC Y) pc = .ok (.invokestatic idx, 3)) (k : AW g Y d Q h loc (pc + 3) (.int (if y < x then y else x) :: rest)) : AW g Y d Q h loc pc (.int y :: .int x :: rest) := by
  intro p e R s m args below meth c H locs cells slots mc ms ls A hR hM hL
  have hts := A.2.2.2.2.2.2.1
  obtain ⟨m1, m2, m3, m4, m5, m6, m7, m8⟩ := id hM
  exact va_mmin A.1 A.2.1 (A.2.2.1.trans hL.1.symm) A.2.2.2.2.2.1 (hts _ hl) (hts _ q557) (hts _ q137) (hts _ q558) (by omega) (by omega) (by omega) (by omega) dd (k p e R s m args below meth c H locs cells slots mc ms ls A hR hM hL)
theorem aw_mmin_long {x y : Int64} (hl : Cond.methodLink (yO Y) idx Lib.MathLoose.min_long.x ∈ lw_all) (hd : 1 ≤ d) (hr : (rest.map fun v => v.category).sum ≤ 8) (dd : decode (yC Y) pc = .ok (.invokestatic idx, 3)) (k : AW g Y d Q h loc (pc + 3) (.long (if y < x then y else x) :: rest)) : AW g Y d Q h loc pc (.long y :: .long x :: rest) := by
  intro p e R s m args below meth c H locs cells slots mc ms ls A hR hM hL
  have hts := A.2.2.2.2.2.2.1
  obtain ⟨m1, m2, m3, m4, m5, m6, m7, m8⟩ := id hM
  exact va_mmin_long A.1 A.2.1 (A.2.2.1.trans hL.1.symm) A.2.2.2.2.2.1 (hts _ hl) (hts _ q871) (hts _ q137) (hts _ q872) (by omega) (by omega) (by omega) (by omega) dd (k p e R s m args below meth c H locs cells slots mc ms ls A hR hM hL)
end AWN
theorem obind9 {α β : Type} {o : Option α} {f : α → Option β} {q : β} (h : o.bind f = some q) : ∃ r, o = some r ∧ f r = some q := obind h
theorem isc_ok {v : Int32} (h : isc v = true) : narrow .char (.int v) = .int v ∧ True := ⟨by
  have h := of_decide_eq_true h
  exact congrArg Value.int h, trivial⟩
