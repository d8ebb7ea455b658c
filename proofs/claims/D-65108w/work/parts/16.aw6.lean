/-! THE ABSTRACT MACHINE, 6: reads and writes of the heap as functions, and the rows for them -/
set_option maxRecDepth 100000
theorem aIsR_rf (r : Option Nat) : aIsR (va_rf r) := by cases r <;> trivial
theorem cat_rf (r : Option Nat) : (va_rf r).category = 1 := by cases r <;> rfl
def ocase {α : Type} (r : Option Nat) (A : α) (B : Nat → α) : α := match r with
  | none => A
  | some a => B a
theorem ocase_n {α : Type} {A : Option α} {B : Nat → Option α} {q : α} (h : ocase none A B = some q) : A = some q := h
theorem ocase_s {α : Type} {A : Option α} {B : Nat → Option α} {a : Nat} {q : α} (h : ocase (some a) A B = some q) : B a = some q := h
def tcase {α β : Type} (r : String ⊕ α) (A : String → β) (B : α → β) : β := match r with
  | .inl E => A E
  | .inr x => B x
theorem tcase_l {α β : Type} {r : String ⊕ α} {A : String → Option β} {B : α → Option β} {E : String} {q : β} (e : r = .inl E) (h : tcase r A B = some q) : A E = some q := by subst e; exact h
theorem tcase_r {α β : Type} {r : String ⊕ α} {A : String → Option β} {B : α → Option β} {x : α} {q : β} (e : r = .inr x) (h : tcase r A B = some q) : B x = some q := by subst e; exact h
def vI : Value → Option Int32
  | .int x => some x
  | _ => none
def vJ : Value → Option Int64
  | .long x => some x
  | _ => none
def vR : Value → Option (Option Nat)
  | .null => some none
  | .ref a => some (some a)
  | _ => none
theorem vI_eq {v : Value} {x : Int32} (h : vI v = some x) : v = .int x := by
  cases v with
  | int y => exact congrArg Value.int (Option.some.inj h)
  | _ => cases h
theorem vJ_eq {v : Value} {x : Int64} (h : vJ v = some x) : v = .long x := by
  cases v with
  | long y => exact congrArg Value.long (Option.some.inj h)
  | _ => cases h
theorem vR_eq {v : Value} {r : Option Nat} (h : vR v = some r) : v = va_rf r := by
  cases v with
  | null => cases h; rfl
  | ref y => cases h; rfl
  | _ => cases h
/-- an object's fields, its class, the field's number in it: by the classes that it may have -/
def rdO (h : AH) (a : Nat) (L : List (Nat × Nat)) : Option (List Value × Nat × Nat) := match h.1 a with
  | some (.inr (c, fs)) => (L.lookup c).map fun k => (fs, c, k)
  | _ => none
def rdV (h : AH) (a : Nat) (L : List (Nat × Nat)) : Option Value := (rdO h a L).bind fun q => q.1[q.2.2]?
def rdI (h : AH) (a : Nat) (L : List (Nat × Nat)) : Option Int32 := (rdV h a L).bind vI
def rdJ (h : AH) (a : Nat) (L : List (Nat × Nat)) : Option Int64 := (rdV h a L).bind vJ
def rdR (h : AH) (a : Nat) (L : List (Nat × Nat)) : Option (Option Nat) := (rdV h a L).bind vR
def wrV (g : AG) (h : AH) (a : Nat) (L : List (Nat × Nat)) (v : Value) : Option AH := (rdO h a L).bind fun q => bif Nat.ble (gB g) a && Nat.blt q.2.2 q.1.length then some (hset h a (.inr (q.2.1, q.1.set q.2.2 v))) else none
theorem lookup_mem {L : List (Nat × Nat)} {c k : Nat} (h : L.lookup c = some k) : (c, k) ∈ L := by
  induction L with
  | nil => cases h
  | cons x r ih =>
    obtain ⟨a, b⟩ := x
    rw [List.lookup_cons] at h
    by_cases e : c = a
    · subst e
      simp at h
      subst h
      exact List.mem_cons_self
    · have e2 : (c == a) = false := by simpa using e
      rw [e2] at h
      exact List.mem_cons_of_mem _ (ih h)
theorem rdO_eq {h : AH} {a : Nat} {L : List (Nat × Nat)} {fs : List Value} {c k : Nat} (e : rdO h a L = some (fs, c, k)) : h.1 a = some (.inr (c, fs)) ∧ (c, k) ∈ L := by
  unfold rdO at e
  split at e
  · rename_i c' fs' hh
    cases hl : L.lookup c' with
    | none => rw [hl] at e; cases e
    | some k' =>
      rw [hl] at e
      cases e
      exact ⟨hh, lookup_mem hl⟩
  · cases e
theorem rdV_eq {h : AH} {a : Nat} {L : List (Nat × Nat)} {v : Value} (e : rdV h a L = some v) : ∃ (fs : List Value) (c k : Nat), h.1 a = some (.inr (c, fs)) ∧ (c, k) ∈ L ∧ fs[k]? = some v := by
  unfold rdV at e
  cases hr : rdO h a L with
  | none => rw [hr] at e; cases e
  | some q =>
    rw [hr] at e
    obtain ⟨fs, c, k⟩ := q
    obtain ⟨h1, h2⟩ := rdO_eq hr
    exact ⟨fs, c, k, h1, h2, e⟩
/-- a cell of an array of the type t -/
def rdA (h : AH) (a t : Nat) (i : Int32) : Option Value := match h.1 a with
  | some (.inl (t', n, f)) => bif Nat.beq t' t && inb i n then some (f i.toNatClampNeg) else none
  | _ => none
/-- a cell of an array of objects -/
def rdQ (h : AH) (a : Nat) (i : Int32) : Option (Option Nat) := match h.1 a with
  | some (.inl (t', n, f)) => bif Nat.ble 4 t' && Nat.blt t' 10 && inb i n then vR (f i.toNatClampNeg) else none
  | _ => none
def rdN (h : AH) (a : Nat) : Option Int32 := match h.1 a with
  | some (.inl (t', n, _)) => bif Nat.blt t' 10 then some (Int32.ofNat n) else none
  | _ => none
def wrA (g : AG) (h : AH) (a t : Nat) (i : Int32) (v : Value) : Option AH := match h.1 a with
  | some (.inl (t', n, f)) => bif Nat.beq t' t && inb i n && Nat.ble (gB g) a then some (hset h a (.inl (t, n, updV f i.toNatClampNeg v))) else none
  | _ => none
/-- classes whose objects may stand in an array of the type -/
def subs : Nat → List Nat
  | 4 => [5, 6, 8, 9]
  | 5 => [17]
  | 6 => [11, 12]
  | 7 => [3]
  | _ => []
/-- the class of an object -/
def rdC (h : AH) (a : Nat) : Option Nat := match h.1 a with
  | some (.inr (c, _)) => some c
  | _ => none
def clB (h : AH) (a : Nat) (L : List Nat) : Bool := match h.1 a with
  | some (.inr (c, _)) => L.contains c
  | _ => false
def wrQ (g : AG) (h : AH) (a : Nat) (i : Int32) (v : Option Nat) : Option AH := match h.1 a with
  | some (.inl (t, n, f)) => bif Nat.ble 4 t && Nat.blt t 9 && inb i n && Nat.ble (gB g) a && (match v with | none => true | some b => clB h b (subs t)) then some (hset h a (.inl (t, n, updV f i.toNatClampNeg (va_rf v)))) else none
  | _ => none
def mkO (g : AG) (h : AH) (n c : Nat) (fs : List Value) : Option AH := bif Nat.ble (h.2.1 + 1) (gLc g) && Nat.ble (h.2.2 + n) (gLs g) then some (hnew h n (.inr (c, fs))) else none
/-- a new array of at most 2^26 cells -/
def mkA (g : AG) (h : AH) (t : Nat) (n : Int32) (v : Value) : Option AH := bif decide (0 ≤ n.toInt) && Nat.ble n.toNatClampNeg 67108864 && Nat.ble (h.2.1 + 1) (gLc g) && Nat.ble (h.2.2 + n.toNatClampNeg) (gLs g) then some (hnew h n.toNatClampNeg (.inl (t, n.toNatClampNeg, fun _ => v))) else none
def mkX (g : AG) (h : AH) : Option AH := bif Nat.ble (h.2.1 + 1) (gLc g) && Nat.ble (h.2.2 + 6) (gLs g) then some (hopq h 6) else none
/-- may be cast to a class: null, or of one of these classes -/
def casB (h : AH) (r : Option Nat) (L : List Nat) : Bool := match r with
  | none => true
  | some a => clB h a L
/-- an array of this type -/
def arB (h : AH) (a t : Nat) : Bool := match h.1 a with
  | some (.inl (t', _, _)) => Nat.beq t' t
  | _ => false
/-- instanceof: by the classes that are, and those that aren't -/
def insI (h : AH) (r : Option Nat) (L M : List Nat) : Option Int32 := match r with
  | none => some 0
  | some a => bif clB h a L then some 1 else bif clB h a M then some 0 else none
def isy (v : Int32) : Bool := decide (v.toInt8.toInt32 = v) && (decide (-128 ≤ v) && decide (v ≤ 127))
theorem clB_eq {h : AH} {a : Nat} {L : List Nat} (e : clB h a L = true) : ∃ (c : Nat) (fs : List Value), h.1 a = some (.inr (c, fs)) ∧ c ∈ L := by
  unfold clB at e
  split at e
  · rename_i c fs hh
    exact ⟨c, fs, hh, by simpa using e⟩
  · cases e
theorem isy_ok {v : Int32} (h : isy v = true) : narrow .byte (.int v) = .int v ∧ fits .byte (.int v) = true := by
  unfold isy at h
  rw [Bool.and_eq_true, Bool.and_eq_true] at h
  exact ⟨congrArg Value.int (of_decide_eq_true h.1), by simp [fits, of_decide_eq_true h.2.1, of_decide_eq_true h.2.2]⟩
theorem fits_rf (C : String) (r : Option Nat) : narrow (.object C) (va_rf r) = va_rf r ∧ fits (.object C) (va_rf r) = true := by cases r <;> exact ⟨rfl, rfl⟩
theorem fits_rfA (ty : FieldType) (r : Option Nat) : narrow (.array ty) (va_rf r) = va_rf r ∧ fits (.array ty) (va_rf r) = true := by cases r <;> exact ⟨rfl, rfl⟩
theorem nB {a b : Nat} (h : Nat.ble a b = true) : a ≤ b := Nat.le_of_ble_eq_true h
theorem nL {a b : Nat} (h : Nat.blt a b = true) : a < b := Nat.le_of_ble_eq_true h
theorem nE {a b : Nat} (h : Nat.beq a b = true) : a = b := Nat.eq_of_beq_eq_true h
theorem aOb : ∀ t, 4 ≤ t → t < 10 → ∃ C : String, aTy[t]? = some (.object C) := by
  intro t h1 h2
  rcases t with _ | _ | _ | _ | _ | _ | _ | _ | _ | _ | t
  all_goals first | omega | exact ⟨_, rfl⟩
theorem aTl : ∀ t, t < 10 → ∃ ty : FieldType, aTy[t]? = some ty := by
  intro t h2
  rcases t with _ | _ | _ | _ | _ | _ | _ | _ | _ | _ | t
  all_goals first | omega | exact ⟨_, rfl⟩
section AWX
variable {g : AG} {Y : YC} {d : Nat} {Q : AR → AH → Prop} {h : AH} {loc loc' : List (Option Value)} {pc : Nat} {rest : List Value}
variable {idx a : Nat} {L : List (Nat × Nat)} {h1 : AH}
theorem xw_getI {x : Int32} (e : rdI h a L = some x) (hf : ∀ q ∈ L, aFl (yO Y) idx q.1 q.2) (dd : decode (yC Y) pc = .ok (.getfield idx, 3)) (k : AW g Y d Q h loc (pc + 3) (.int x :: rest)) : AW g Y d Q h loc pc (.ref a :: rest) := by
  obtain ⟨v, e1, e2⟩ := obind e
  obtain ⟨fs, c, k0, z1, z2, z3⟩ := rdV_eq e1
  cases vI_eq e2
  exact aw_getf (hf _ z2) z1 z3 dd k
theorem xw_getJ {x : Int64} (e : rdJ h a L = some x) (hf : ∀ q ∈ L, aFl (yO Y) idx q.1 q.2) (dd : decode (yC Y) pc = .ok (.getfield idx, 3)) (k : AW g Y d Q h loc (pc + 3) (.long x :: rest)) : AW g Y d Q h loc pc (.ref a :: rest) := by
  obtain ⟨v, e1, e2⟩ := obind e
  obtain ⟨fs, c, k0, z1, z2, z3⟩ := rdV_eq e1
  cases vJ_eq e2
  exact aw_getf (hf _ z2) z1 z3 dd k
theorem xw_getR {r : Option Nat} (e : rdR h a L = some r) (hf : ∀ q ∈ L, aFl (yO Y) idx q.1 q.2) (dd : decode (yC Y) pc = .ok (.getfield idx, 3)) (k : AW g Y d Q h loc (pc + 3) (va_rf r :: rest)) : AW g Y d Q h loc pc (.ref a :: rest) := by
  obtain ⟨v, e1, e2⟩ := obind e
  obtain ⟨fs, c, k0, z1, z2, z3⟩ := rdV_eq e1
  cases vR_eq e2
  exact aw_getf (hf _ z2) z1 z3 dd k
theorem xw_put {v : Value} {ty : FieldType} (e : wrV g h a L v = some h1) (hf : ∀ q ∈ L, aFl (yO Y) idx q.1 q.2) (ht : ∀ q ∈ L, aFt q.1 q.2 false ty) (hv : narrow ty v = v ∧ fits ty v = true) (dd : decode (yC Y) pc = .ok (.putfield idx, 3)) (k : AW g Y d Q h1 loc (pc + 3) rest) : AW g Y d Q h loc pc (v :: .ref a :: rest) := by
  obtain ⟨⟨fs, c, k0⟩, e1, e2⟩ := obind e
  obtain ⟨z1, z2⟩ := rdO_eq e1
  obtain ⟨e3, e2⟩ := cond_t e2
  rw [Bool.and_eq_true] at e3
  cases e2
  exact aw_putf (hf _ z2) (ht _ z2) z1 (nB e3.1) (nL e3.2) hv dd k
theorem xw_putF {v : Value} {ty : FieldType} (e : wrV g h a L v = some h1) (hf : ∀ q ∈ L, aFl (yO Y) idx q.1 q.2) (ht : ∀ q ∈ L, aFt q.1 q.2 true ty) (hi0 : (yM Y).name = "<init>") (hL0 : ∀ q ∈ L, ∃ r0 : vw_C, aCl[q.1]? = some r0 ∧ (r0.2.1 q.2).1 = yO Y ∧ Cond.fieldLink (yO Y) idx (r0.2.1 q.2).1 (r0.2.1 q.2).2.1 (r0.2.1 q.2).2.2.1 ∈ lw_all) (hv : narrow ty v = v ∧ fits ty v = true) (dd : decode (yC Y) pc = .ok (.putfield idx, 3)) (k : AW g Y d Q h1 loc (pc + 3) rest) : AW g Y d Q h loc pc (v :: .ref a :: rest) := by
  obtain ⟨⟨fs, c, k0⟩, e1, e2⟩ := obind e
  obtain ⟨z1, z2⟩ := rdO_eq e1
  obtain ⟨e3, e4⟩ := cond_t e2
  rw [Bool.and_eq_true] at e3
  cases e4
  obtain ⟨r0, y1, y2, y3⟩ := hL0 _ z2
  exact aw_putF (hf _ z2) (ht _ z2) hi0 y1 y2 y3 z1 (nB e3.1) (nL e3.2) hv dd k
theorem xw_iald {x : Int32} {i : Int32} (e : (rdA h a 0 i).bind vI = some x) (dd : decode (yC Y) pc = .ok (.iaload, 1)) (k : AW g Y d Q h loc (pc + 1) (.int x :: rest)) : AW g Y d Q h loc pc (.int i :: .ref a :: rest) := by
  obtain ⟨v, e1, e2⟩ := obind e
  cases vI_eq e2
  unfold rdA at e1
  split at e1
  · rename_i t n f hh
    obtain ⟨e3, e4⟩ := cond_t e1
    rw [Bool.and_eq_true] at e3
    cases nE e3.1
    exact aw_iald hh (inb_in e3.2) (Option.some.inj e4) dd k
  · cases e1
theorem xw_bald {x : Int32} {i : Int32} (e : (rdA h a 3 i).bind vI = some x) (dd : decode (yC Y) pc = .ok (.baload, 1)) (k : AW g Y d Q h loc (pc + 1) (.int x :: rest)) : AW g Y d Q h loc pc (.int i :: .ref a :: rest) := by
  obtain ⟨v, e1, e2⟩ := obind e
  cases vI_eq e2
  unfold rdA at e1
  split at e1
  · rename_i t n f hh
    obtain ⟨e3, e4⟩ := cond_t e1
    rw [Bool.and_eq_true] at e3
    cases nE e3.1
    exact aw_bald hh (inb_in e3.2) (Option.some.inj e4) dd k
  · cases e1
theorem xw_lald {x : Int64} {i : Int32} (e : (rdA h a 1 i).bind vJ = some x) (dd : decode (yC Y) pc = .ok (.laload, 1)) (k : AW g Y d Q h loc (pc + 1) (.long x :: rest)) : AW g Y d Q h loc pc (.int i :: .ref a :: rest) := by
  obtain ⟨v, e1, e2⟩ := obind e
  cases vJ_eq e2
  unfold rdA at e1
  split at e1
  · rename_i t n f hh
    obtain ⟨e3, e4⟩ := cond_t e1
    rw [Bool.and_eq_true] at e3
    cases nE e3.1
    exact aw_lald hh (inb_in e3.2) (Option.some.inj e4) dd k
  · cases e1
theorem xw_aald {r : Option Nat} {i : Int32} (e : rdQ h a i = some r) (dd : decode (yC Y) pc = .ok (.aaload, 1)) (k : AW g Y d Q h loc (pc + 1) (va_rf r :: rest)) : AW g Y d Q h loc pc (.int i :: .ref a :: rest) := by
  unfold rdQ at e
  split at e
  · rename_i t n f hh
    obtain ⟨e3, e1⟩ := cond_t e
    rw [Bool.and_eq_true, Bool.and_eq_true] at e3
    obtain ⟨C, hC⟩ := aOb t (nB e3.1.1) (nL e3.1.2)
    exact aw_aald hh hC rfl (inb_in e3.2) (vR_eq e1) dd k
  · cases e
theorem xw_alen {x : Int32} (e : rdN h a = some x) (dd : decode (yC Y) pc = .ok (.arraylength, 1)) (k : AW g Y d Q h loc (pc + 1) (.int x :: rest)) : AW g Y d Q h loc pc (.ref a :: rest) := by
  unfold rdN at e
  split at e
  · rename_i t n f hh
    obtain ⟨e3, e1⟩ := cond_t e
    obtain ⟨ty, hty⟩ := aTl t (nL e3)
    exact aw_alen hh hty (Option.some.inj e1) dd k
  · cases e

theorem xw_iast {i : Int32} {x : Int32} (e : wrA g h a 0 i (.int x) = some h1) (dd : decode (yC Y) pc = .ok (.iastore, 1)) (k : AW g Y d Q h1 loc (pc + 1) rest) : AW g Y d Q h loc pc (.int x :: .int i :: .ref a :: rest) := by
  unfold wrA at e
  split at e
  · rename_i t n f hh
    obtain ⟨e3, e4⟩ := cond_t e
    rw [Bool.and_eq_true, Bool.and_eq_true] at e3
    cases nE e3.1.1
    cases e4
    exact aw_iast hh (nB e3.2) (inb_in e3.1.2) dd k
  · cases e
theorem xw_last {i : Int32} {x : Int64} (e : wrA g h a 1 i (.long x) = some h1) (dd : decode (yC Y) pc = .ok (.lastore, 1)) (k : AW g Y d Q h1 loc (pc + 1) rest) : AW g Y d Q h loc pc (.long x :: .int i :: .ref a :: rest) := by
  unfold wrA at e
  split at e
  · rename_i t n f hh
    obtain ⟨e3, e4⟩ := cond_t e
    rw [Bool.and_eq_true, Bool.and_eq_true] at e3
    cases nE e3.1.1
    cases e4
    exact aw_last hh (nB e3.2) (inb_in e3.1.2) dd k
  · cases e
theorem xw_bast {i : Int32} {x : Int32} (e : wrA g h a 3 i (.int x.toInt8.toInt32) = some h1) (dd : decode (yC Y) pc = .ok (.bastore, 1)) (k : AW g Y d Q h1 loc (pc + 1) rest) : AW g Y d Q h loc pc (.int x :: .int i :: .ref a :: rest) := by
  unfold wrA at e
  split at e
  · rename_i t n f hh
    obtain ⟨e3, e4⟩ := cond_t e
    rw [Bool.and_eq_true, Bool.and_eq_true] at e3
    cases nE e3.1.1
    cases e4
    exact aw_bast rfl hh (nB e3.2) (inb_in e3.1.2) dd k
  · cases e
theorem aSub_of : ∀ t c, c ∈ subs t → aSub c t := by
  intro t c hc
  match t, hc with
  | 4, hc =>
    simp only [subs, List.mem_cons, List.not_mem_nil, or_false] at hc
    rcases hc with rfl | rfl | rfl | rfl
    · exact ⟨_, _, rfl, by decide, rfl, Or.inr q2802⟩
    · exact ⟨_, _, rfl, by decide, rfl, Or.inr q2803⟩
    · exact ⟨_, _, rfl, by decide, rfl, Or.inr q2812⟩
    · exact ⟨_, _, rfl, by decide, rfl, Or.inr q2813⟩
  | 5, hc =>
    cases List.mem_singleton.mp hc
    exact ⟨_, _, rfl, by decide, rfl, Or.inl rfl⟩
  | 6, hc =>
    simp only [subs, List.mem_cons, List.not_mem_nil, or_false] at hc
    rcases hc with rfl | rfl
    · exact ⟨_, _, rfl, by decide, rfl, Or.inl rfl⟩
    · exact ⟨_, _, rfl, by decide, rfl, Or.inr q2815⟩
  | 7, hc =>
    cases List.mem_singleton.mp hc
    exact ⟨_, _, rfl, by decide, rfl, Or.inl rfl⟩
theorem xw_aast {i : Int32} {v : Option Nat} (e : wrQ g h a i v = some h1) (dd : decode (yC Y) pc = .ok (.aastore, 1)) (k : AW g Y d Q h1 loc (pc + 1) rest) : AW g Y d Q h loc pc (va_rf v :: .int i :: .ref a :: rest) := by
  unfold wrQ at e
  split at e
  · rename_i t n f hh
    obtain ⟨e3, e4⟩ := cond_t e
    rw [Bool.and_eq_true, Bool.and_eq_true, Bool.and_eq_true, Bool.and_eq_true] at e3
    obtain ⟨⟨⟨⟨e5, e6⟩, e7⟩, e8⟩, e9⟩ := e3
    obtain ⟨C, hC⟩ := aOb t (nB e5) (Nat.lt_trans (nL e6) (by decide))
    cases e4
    rcases v with _ | b
    · exact aw_aastN hC hh (nB e8) (inb_in e7) dd k
    · obtain ⟨c, fs, z1, z2⟩ := clB_eq e9
      exact aw_aast (aSub_of t c z2) hh (nB e8) z1 (inb_in e7) dd k
  · cases e
theorem xw_newa {t : Nat} {v0 : Value} {atype : ArrayType} {n : Int32} (e : mkA g h t n v0 = some h1) (harr : Cond.arrayClass (newarray.typeOf atype) ∈ lw_all) (ht : aTy[t]? = some (newarray.typeOf atype)) (h4 : t < 4) (hz : defaultValue (newarray.typeOf atype) = v0) (hw : componentBytes (newarray.typeOf atype) ≤ 8) (dd : decode (yC Y) pc = .ok (.newarray atype, 2)) (k : AW g Y d Q h1 loc (pc + 2) (.ref h.2.1 :: rest)) : AW g Y d Q h loc pc (.int n :: rest) := by
  obtain ⟨e3, e4⟩ := cond_t e
  rw [Bool.and_eq_true, Bool.and_eq_true, Bool.and_eq_true] at e3
  obtain ⟨⟨⟨e5, e6⟩, e7⟩, e8⟩ := e3
  cases e4
  have e5 := of_decide_eq_true e5
  refine aw_newa (ty := .int) harr ht h4 hz (fun z => ?_) rfl ?_ dd k (nB e7) (nB e8)
  · have := Int32.lt_iff_toInt_lt.mp z
    have h0 : (0 : Int32).toInt = 0 := rfl
    omega
  · have := nB e6
    calc n.toNatClampNeg * componentBytes (newarray.typeOf atype) ≤ 67108864 * 8 := Nat.mul_le_mul this hw
      _ = 536870912 := rfl
theorem xw_anew {t : Nat} {C : String} {n : Int32} (e : mkA g h t n .null = some h1) (hlk : Cond.classLink (yO Y) idx C ∈ lw_all) (hov : Cond.arrayOver (.object C) ∈ lw_tbl) (ht : aTy[t]? = some (.object C)) (h9 : t < 9) (dd : decode (yC Y) pc = .ok (.anewarray idx, 3)) (k : AW g Y d Q h1 loc (pc + 3) (.ref h.2.1 :: rest)) : AW g Y d Q h loc pc (.int n :: rest) := by
  obtain ⟨e3, e4⟩ := cond_t e
  rw [Bool.and_eq_true, Bool.and_eq_true, Bool.and_eq_true] at e3
  obtain ⟨⟨⟨e5, e6⟩, e7⟩, e8⟩ := e3
  cases e4
  have e5 := of_decide_eq_true e5
  refine aw_anew hlk hov ht h9 (fun z => ?_) rfl ?_ dd k (nB e7) (nB e8)
  · have := Int32.lt_iff_toInt_lt.mp z
    have h0 : (0 : Int32).toInt = 0 := rfl
    omega
  · have := nB e6
    omega
theorem xw_new {ci N : Nat} {r : vw_C} {ty0 : Nat → FieldType} {fs : List Value} (e : mkO g h N ci fs = some h1) (hlk : Cond.classLink (yO Y) idx r.1 ∈ lw_all) (hin : Cond.instantiable r.1 r.2.2 ∈ lw_all) (hini : Cond.initialized r.1 ∈ lw_all) (h19 : ci < 19) (hc : aCl[ci]? = some r) (hk : aCK r ty0) (hN : r.2.2 = N) (hfs : ∀ j, j < N → defaultValue (ty0 j) = vp_V fs j) (dd : decode (yC Y) pc = .ok (.new idx, 3)) (k : AW g Y d Q h1 loc (pc + 3) (.ref h.2.1 :: rest)) : AW g Y d Q h loc pc rest := by
  obtain ⟨e3, e4⟩ := cond_t e
  rw [Bool.and_eq_true] at e3
  cases e4
  exact aw_new hlk hin hini h19 hc hk hN hfs dd k (nB e3.1) (nB e3.2)
theorem xw_throwS {ik is ic i : Nat} {E tx : String} {names : List String} (e : mkX g h = some h1) (hl : (gL g).stackTraces = false) (ht : aTh (yO Y) ik is ic E names tx i) (hh : yH Y = []) (h10 : 10 ≤ d) (hr : (rest.map fun v => v.category).sum ≤ 8) (d0 : decode (yC Y) pc = .ok (.new ik, 3)) (d3 : decode (yC Y) (pc + 3) = .ok (.dup, 1)) (d4 : decode (yC Y) (pc + 4) = .ok (.ldc is, 2)) (d6 : decode (yC Y) (pc + 6) = .ok (.invokespecial ic, 3)) (d9 : decode (yC Y) (pc + 9) = .ok (.athrow, 1)) (q : Q (.inr E) h1) : AW g Y d Q h loc pc rest := by
  obtain ⟨e3, e4⟩ := cond_t e
  rw [Bool.and_eq_true] at e3
  cases e4
  exact aw_throwS hl ht hh h10 hr d0 d3 d4 d6 d9 q (nB e3.1) (nB e3.2)
theorem xw_cast {r : Option Nat} {M : List Nat} {nm : String} (e : casB h r M = true) (hlk : Cond.classLink (yO Y) idx nm ∈ lw_all) (hn : ∀ c ∈ M, ∃ r : vw_C, aCl[c]? = some r ∧ (r.1 = nm ∨ Cond.castable r.1 nm ∈ lw_tbl)) (dd : decode (yC Y) pc = .ok (.checkcast idx, 3)) (k : AW g Y d Q h loc (pc + 3) (va_rf r :: rest)) : AW g Y d Q h loc pc (va_rf r :: rest) := by
  rcases r with _ | b
  · exact aw_castN dd k
  · obtain ⟨c, fs, z1, z2⟩ := clB_eq e
    obtain ⟨r, z3, z4⟩ := hn c z2
    exact aw_cast z1 z3 hlk z4 dd k
theorem xw_castA {t : Nat} {C nm : String} (e : arB h a t = true) (h9 : t < 9) (ht : aTy[t]? = some (.object C)) (hnm : "[" ++ (FieldType.object C).toString = nm) (hlk : Cond.classLink (yO Y) idx nm ∈ lw_all) (dd : decode (yC Y) pc = .ok (.checkcast idx, 3)) (k : AW g Y d Q h loc (pc + 3) (.ref a :: rest)) : AW g Y d Q h loc pc (.ref a :: rest) := by
  unfold arB at e
  split at e
  · rename_i t' n f hh
    cases nE e
    subst hnm
    exact aw_castA hh h9 ht hlk dd k
  · cases e
theorem xw_castB (e : arB h a 3 = true) (hlk : Cond.classLink (yO Y) idx "[B" ∈ lw_all) (dd : decode (yC Y) pc = .ok (.checkcast idx, 3)) (k : AW g Y d Q h loc (pc + 3) (.ref a :: rest)) : AW g Y d Q h loc pc (.ref a :: rest) := by
  unfold arB at e
  split at e
  · rename_i t' n f hh
    cases nE e
    intro p e R s m args below meth c H locs cells slots mc ms ls A hR hM hL
    have hK : aK g s := A.2.2.2.2.2.2.2.1
    obtain ⟨cell, e1, e2, e3, e4, e5, e6, e7, e8⟩ := hR.2.2.1 a _ hh
    have k4 : s.vm.findClass "[B" = some (gA g 3) := va_nm_byte (hK.ra (t := 3) (by decide) rfl)
    intro T hT X
    obtain ⟨vm', X', st⟩ := X.checkcastYes A.1 A.2.2.2.2.2.1 (A.2.2.2.2.2.2.1 _ hlk) (by rw [hT]; exact e1) e4 k4 (by rw [e2]; exact va_asg _ _) (g := F0 m pc ls (.ref a :: rest)) rfl rfl (by rw [A.2.1]; exact dd)
    obtain ⟨t, a1, b1⟩ := k p e R s m args below meth c H locs cells slots mc ms ls A hR hM hL (T.setVm vm') hT X'
    exact ⟨t, st t a1, b1⟩
  · cases e
theorem xw_inst {r : Option Nat} {x : Int32} {M1 M2 : List Nat} {nm : String} (e : insI h r M1 M2 = some x) (hlk : Cond.classLink (yO Y) idx nm ∈ lw_all) (hn : ∀ c ∈ M1, ∃ r : vw_C, aCl[c]? = some r ∧ (r.1 = nm ∨ Cond.castable r.1 nm ∈ lw_tbl)) (hn2 : ∀ c ∈ M2, ∃ r : vw_C, aCl[c]? = some r ∧ (r.1, nm) ∈ aNc) (dd : decode (yC Y) pc = .ok (.instanceof idx, 3)) (k : AW g Y d Q h loc (pc + 3) (.int x :: rest)) : AW g Y d Q h loc pc (va_rf r :: rest) := by
  rcases r with _ | b
  · cases e
    exact aw_instN dd k
  · unfold insI at e
    cases z : clB h b M1 with
    | true =>
      simp only [z, cond_true] at e
      cases e
      obtain ⟨c, fs, z1, z2⟩ := clB_eq z
      obtain ⟨r, z3, z4⟩ := hn c z2
      exact aw_inst z1 z3 hlk z4 dd k
    | false =>
      simp only [z, cond_false] at e
      obtain ⟨e3, e4⟩ := cond_t e
      cases e4
      obtain ⟨c, fs, z1, z2⟩ := clB_eq e3
      obtain ⟨r, z3, z4⟩ := hn2 c z2
      exact aw_instNo z1 z3 hlk z4 dd k
theorem xw_gets {i : Nat} {q : String × String × String} {v w : Value} (e : gV g i = v) (hi : aSt[i]? = some q) (hlk : Cond.fieldLink (yO Y) idx q.1 q.2.1 q.2.2 ∈ lw_all) (dd : decode (yC Y) pc = .ok (.getstatic idx, 3)) (hw : v = w) (k : AW g Y d Q h loc (pc + 3) (w :: rest)) : AW g Y d Q h loc pc rest :=
  aw_gets hi (e.trans hw) hlk dd k
theorem xw_acmp_eq {v w : Option Nat} {off : Int} {tgt : Nat} (dd : decode (yC Y) pc = .ok (.if_acmp .eq off, 3)) (ht : (pc : Int) + off = (tgt : Int)) (kt : v = w → AW g Y d Q h loc tgt rest) (kf : ¬ v = w → AW g Y d Q h loc (pc + 3) rest) : AW g Y d Q h loc pc (va_rf w :: va_rf v :: rest) :=
  aw_acmp_eq dd ht (aIsR_rf _) (aIsR_rf _) (fun z => kt (va_rf_inj z)) (fun z => kf (fun y => z (by rw [y])))
theorem xw_acmp_ne {v w : Option Nat} {off : Int} {tgt : Nat} (dd : decode (yC Y) pc = .ok (.if_acmp .ne off, 3)) (ht : (pc : Int) + off = (tgt : Int)) (kt : ¬ v = w → AW g Y d Q h loc tgt rest) (kf : v = w → AW g Y d Q h loc (pc + 3) rest) : AW g Y d Q h loc pc (va_rf w :: va_rf v :: rest) :=
  aw_acmp_ne dd ht (aIsR_rf _) (aIsR_rf _) (fun z => kt (fun y => z (by rw [y]))) (fun z => kf (va_rf_inj z))
theorem xw_ifnullN {off : Int} {tgt : Nat} (dd : decode (yC Y) pc = .ok (.ifnull off, 3)) (ht : (pc : Int) + off = (tgt : Int)) (kt : AW g Y d Q h loc tgt rest) : AW g Y d Q h loc pc (.null :: rest) :=
  aw_ifnull dd ht trivial (fun _ => kt) (fun a z => by cases z)
theorem xw_ifnullS {off : Int} {tgt : Nat} (dd : decode (yC Y) pc = .ok (.ifnull off, 3)) (ht : (pc : Int) + off = (tgt : Int)) (kf : AW g Y d Q h loc (pc + 3) rest) : AW g Y d Q h loc pc (.ref a :: rest) :=
  aw_ifnull dd ht trivial (fun z => by cases z) (fun _ _ => kf)
theorem xw_ifnonN {off : Int} {tgt : Nat} (dd : decode (yC Y) pc = .ok (.ifnonnull off, 3)) (ht : (pc : Int) + off = (tgt : Int)) (kf : AW g Y d Q h loc (pc + 3) rest) : AW g Y d Q h loc pc (.null :: rest) :=
  aw_ifnonnull dd ht trivial (fun a z => by cases z) (fun _ => kf)
theorem xw_ifnonS {off : Int} {tgt : Nat} (dd : decode (yC Y) pc = .ok (.ifnonnull off, 3)) (ht : (pc : Int) + off = (tgt : Int)) (kt : AW g Y d Q h loc tgt rest) : AW g Y d Q h loc pc (.ref a :: rest) :=
  aw_ifnonnull dd ht trivial (fun _ _ => kt) (fun z => by cases z)
theorem xw_catch {E nm : String} {pre suf : List ExceptionTableEntry} {x : ExceptionTableEntry} {i n9 pc9 : Nat} {op : Instr} (d9 : decode (yC Y) x.handlerPc = .ok (op, n9)) (hp9 : x.handlerPc + n9 = pc9) (hsp : tableOf (yH Y) = pre ++ x :: suf) (hpre : ∀ z ∈ pre, covers z pc = false ∨ (z.catchType ≠ 0 ∧ ∃ nm : String, Cond.classLink (yO Y) z.catchType nm ∈ lw_all ∧ (E, nm) ∈ aNc)) (hx : covers x pc = true) (h0 : x.catchType ≠ 0) (hlk : Cond.classLink (yO Y) x.catchType nm ∈ lw_all) (hca : Cond.castable E nm ∈ lw_tbl) (hn : i < yN Y) (hs : (loc.set i none) = loc')
    (dd : decode (yC Y) x.handlerPc = .ok (.astore i, 2) ∨ ∃ k0 : Fin 4, (k0 : Nat) = i ∧ decode (yC Y) x.handlerPc = .ok (.astore_n k0, 1)) (hkill : ∀ v : Value, akill i loc = loc) (hln : i < loc.length) (k : AW g Y d Q h loc' pc9 []) : AX g Y d Q h loc pc E :=
  ax_catch hsp hpre hx h0 hlk hca hn hs dd hkill hln (by rw [d9]; show AW g Y d Q h loc' (x.handlerPc + n9) []; rw [hp9]; exact k)
end AWX
