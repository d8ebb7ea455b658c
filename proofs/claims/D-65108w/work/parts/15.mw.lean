/-! THE REFERENCE's STATE: its int fields, int (and boolean) arrays, long arrays, its long field; the object lies at b, its arrays behind it -/
set_option maxRecDepth 100000
abbrev MS : Type := (Nat → Int32) × (Nat → Nat → Int32) × (Nat → Nat → Int64) × Int64
def mpI (σ : MS) (k : Nat) (v : Int32) : MS := (fun j => cond (Nat.beq j k) v (σ.1 j), σ.2)
def mpA (σ : MS) (k i : Nat) (x : Int32) : MS := (σ.1, fun j => cond (Nat.beq j k) (upd (σ.2.1 k) i x) (σ.2.1 j), σ.2.2)
def mpL (σ : MS) (k i : Nat) (x : Int64) : MS := (σ.1, σ.2.1, fun j => cond (Nat.beq j k) (vp_updL (σ.2.2.1 k) i x) (σ.2.2.1 j), σ.2.2.2)
def mpJ (σ : MS) (x : Int64) : MS := (σ.1, σ.2.1, σ.2.2.1, x)
def moffs : List Nat := [0, 1, 0, 0, 0, 0, 2, 3, 4, 0, 5, 6, 0, 0, 0, 0, 7, 8, 9, 10, 0, 11, 0, 0, 0, 12, 13, 14, 15, 16, 17, 18, 19, 0, 20, 0, 21, 0, 22, 0, 0, 0, 0, 23, 24, 25, 26, 0, 27, 28, 29, 0, 0, 0, 30, 31, 32, 33, 0, 0]
def moff (k : Nat) : Nat := moffs.getD k 0
/-- its arrays: field, element type, length -/
def marr : List (Nat × Nat × Nat) := [(1, 0, 200), (6, 0, 2112), (7, 1, 2112), (8, 0, 33), (10, 1, 16), (11, 0, 16), (16, 0, 64), (17, 0, 64), (18, 0, 64), (19, 1, 64), (21, 0, 64), (25, 0, 8), (26, 0, 8), (27, 0, 8), (28, 0, 8), (29, 2, 8), (30, 0, 96), (31, 0, 8), (32, 0, 12), (34, 0, 384), (36, 0, 1500), (38, 0, 280), (43, 0, 11), (44, 0, 33), (45, 0, 11), (46, 0, 512), (48, 0, 256), (49, 0, 256), (50, 0, 256), (54, 0, 7), (55, 0, 64), (56, 0, 32), (57, 0, 32)]
def mval (b : Nat) (σ : MS) (k : Nat) : Value := bif Nat.beq k 24 then .long σ.2.2.2 else match moff k with
  | 0 => .int (σ.1 k)
  | j + 1 => .ref (b + (j + 1))
def mfs (b : Nat) (σ : MS) : List Value := (List.range 60).map (mval b σ)
def melt (σ : MS) (x : Nat × Nat × Nat) : Nat → Value := bif Nat.beq x.2.1 1 then (fun i => .long (σ.2.2.1 x.1 i)) else (fun i => .int (σ.2.1 x.1 i))
def mcell (b : Nat) (σ : MS) : Nat → Option AE
  | 0 => some (.inr (4, mfs b σ))
  | j + 1 => match marr[j]? with
    | some x => some (.inl (x.2.1, x.2.2, melt σ x))
    | none => none
/-- the reference's cells over another heap -/
def mH (b : Nat) (σ : MS) (h0 : AH) : AH := (fun q => if b ≤ q ∧ q < b + 34 then mcell b σ (q - b) else h0.1 q, h0.2)
theorem mH_at {b : Nat} {σ : MS} {h0 : AH} {j : Nat} (h : j < 34) : (mH b σ h0).1 (b + j) = mcell b σ j := by
  show (if b ≤ b + j ∧ b + j < b + 34 then mcell b σ (b + j - b) else h0.1 (b + j)) = _
  rw [if_pos (by omega), Nat.add_sub_cancel_left]
theorem mH_set {b : Nat} {σ σ' : MS} {h0 : AH} {j : Nat} {e : AE} (h : j < 34) (he : mcell b σ' j = some e) (ho : ∀ i, i ≠ j → mcell b σ' i = mcell b σ i) : hset (mH b σ h0) (b + j) e = mH b σ' h0 := by
  refine Prod.ext (funext fun q => ?_) rfl
  show (if q = b + j then some e else if b ≤ q ∧ q < b + 34 then mcell b σ (q - b) else h0.1 q) = (if b ≤ q ∧ q < b + 34 then mcell b σ' (q - b) else h0.1 q)
  by_cases hq : q = b + j
  · subst hq
    rw [if_pos rfl, if_pos (by omega), Nat.add_sub_cancel_left, he]
  · rw [if_neg hq]
    by_cases hr : b ≤ q ∧ q < b + 34
    · rw [if_pos hr, if_pos hr, ho _ (by omega)]
    · rw [if_neg hr, if_neg hr]
theorem mfs_at {b : Nat} {σ : MS} {k : Nat} (h : k < 60) : (mfs b σ)[k]? = some (mval b σ k) := by
  unfold mfs
  rw [List.getElem?_map, List.getElem?_range h]
  rfl
theorem mfs_set {b : Nat} {σ σ' : MS} {k : Nat} (v : Value) (hv : mval b σ' k = v) (ho : ∀ i, i ≠ k → mval b σ' i = mval b σ i) : (mfs b σ).set k v = mfs b σ' := by
  apply List.ext_getElem?
  intro i
  rw [List.getElem?_set]
  have hl : (mfs b σ).length = 60 := by simp [mfs]
  by_cases e : k = i
  · subst e
    rw [if_pos rfl]
    by_cases hk : k < 60
    · rw [if_pos (by omega), mfs_at hk, hv]
    · rw [if_neg (by omega)]
      unfold mfs
      rw [List.getElem?_map, List.getElem?_eq_none (by simp; omega)]
      rfl
  · rw [if_neg e]
    by_cases hk : i < 60
    · rw [mfs_at hk, mfs_at hk, ho i (fun z => e z.symm)]
    · unfold mfs
      rw [List.getElem?_map, List.getElem?_map, List.getElem?_eq_none (by simp; omega)]
      rfl
theorem mbeq_ne {i k : Nat} (h : i ≠ k) : Nat.beq i k = false := by
  cases z : Nat.beq i k with
  | false => rfl
  | true => exact absurd (Nat.eq_of_beq_eq_true z) h
theorem mbeq_self (k : Nat) : Nat.beq k k = true := Nat.beq_refl k
theorem mval_pI {b : Nat} {σ : MS} {k : Nat} {v : Int32} (h0 : moff k = 0) (h24 : Nat.beq k 24 = false) : mval b (mpI σ k v) k = .int v := by
  unfold mval
  rw [h24, h0]
  show Value.int (cond (Nat.beq k k) v (σ.1 k)) = _
  rw [mbeq_self]
  rfl
theorem mval_pIne {b : Nat} {σ : MS} {k i : Nat} {v : Int32} (h : i ≠ k) : mval b (mpI σ k v) i = mval b σ i := by
  unfold mval
  cases hm : moff i with
  | zero =>
    show (bif Nat.beq i 24 then _ else Value.int (cond (Nat.beq i k) v (σ.1 i))) = _
    rw [mbeq_ne h]
    rfl
  | succ j => rfl
theorem mcell_pI {b : Nat} {σ : MS} {k : Nat} {v : Int32} : ∀ i, i ≠ 0 → mcell b (mpI σ k v) i = mcell b σ i := by
  intro i hi
  cases i with
  | zero => exact absurd rfl hi
  | succ i => rfl
theorem mcell_pJ {b : Nat} {σ : MS} {v : Int64} : ∀ i, i ≠ 0 → mcell b (mpJ σ v) i = mcell b σ i := by
  intro i hi
  cases i with
  | zero => exact absurd rfl hi
  | succ i => rfl
theorem mH_pI {b : Nat} {σ : MS} {h0 : AH} {k : Nat} {v : Int32} (h1 : moff k = 0) (h24 : Nat.beq k 24 = false) : hset (mH b σ h0) b (.inr (4, (mfs b σ).set k (.int v))) = mH b (mpI σ k v) h0 :=
  mH_set (j := 0) (by decide) (by show some (Sum.inr (4, mfs b (mpI σ k v))) = _; rw [mfs_set (σ' := mpI σ k v) (.int v) (mval_pI h1 h24) (fun i hi => mval_pIne hi)]) mcell_pI
theorem mH_pJ {b : Nat} {σ : MS} {h0 : AH} {v : Int64} : hset (mH b σ h0) b (.inr (4, (mfs b σ).set 24 (.long v))) = mH b (mpJ σ v) h0 :=
  mH_set (j := 0) (by decide) (by
    show some (Sum.inr (4, mfs b (mpJ σ v))) = _
    rw [mfs_set (σ' := mpJ σ v) (.long v) rfl (fun i hi => by unfold mval; rw [mbeq_ne hi]; rfl)]) mcell_pJ
/-- arrays lie in fields of their own -/
theorem marr_inj : ∀ i, i < 33 → ∀ j, j < 33 → i ≠ j → (marr.getD i (0, 0, 0)).1 ≠ (marr.getD j (0, 0, 0)).1 := by decide +kernel
theorem marr_ne {i j : Nat} {x y : Nat × Nat × Nat} (hi : marr[i]? = some x) (hj : marr[j]? = some y) (n : i ≠ j) : x.1 ≠ y.1 := by
  have h1 : i < 33 := (List.getElem?_eq_some_iff.mp hi).1
  have h2 : j < 33 := (List.getElem?_eq_some_iff.mp hj).1
  have := marr_inj i h1 j h2 n
  rw [List.getD_eq_getElem?_getD, List.getD_eq_getElem?_getD, hi, hj] at this
  exact this
theorem mH_pA {b : Nat} {σ : MS} {h0 : AH} {j k t n i : Nat} {x : Int32} (hj : marr[j]? = some (k, t, n)) (ht : Nat.beq t 1 = false) : hset (mH b σ h0) (b + (j + 1)) (.inl (t, n, updV (melt σ (k, t, n)) i (.int x))) = mH b (mpA σ k i x) h0 := by
  have hlt : j < 33 := (List.getElem?_eq_some_iff.mp hj).1
  refine mH_set (by omega) ?_ fun z hz => ?_
  · show (match marr[j]? with | some x9 => some (Sum.inl (x9.2.1, x9.2.2, melt (mpA σ k i x) x9)) | none => none) = _
    rw [hj]
    refine congrArg some (congrArg Sum.inl (Prod.ext rfl (Prod.ext rfl (funext fun y => ?_))))
    show (bif Nat.beq t 1 then (fun i => Value.long _) else (fun i9 => Value.int ((cond (Nat.beq k k) (upd (σ.2.1 k) i x) (σ.2.1 k)) i9)) : Nat → Value) y = updV (bif Nat.beq t 1 then (fun i => Value.long _) else (fun i9 => Value.int (σ.2.1 k i9)) : Nat → Value) i (.int x) y
    rw [ht, mbeq_self]
    show Value.int (upd (σ.2.1 k) i x y) = updV (fun i9 => Value.int (σ.2.1 k i9)) i (.int x) y
    unfold upd updV
    by_cases e : y = i
    · rw [if_pos e, if_pos e]
    · rw [if_neg e, if_neg e]
  · cases z with
    | zero =>
      show some (Sum.inr (4, mfs b (mpA σ k i x))) = some (Sum.inr (4, mfs b σ))
      rfl
    | succ z =>
      show (match marr[z]? with | some x9 => some (Sum.inl (x9.2.1, x9.2.2, melt (mpA σ k i x) x9)) | none => none) = (match marr[z]? with | some x9 => some (Sum.inl (x9.2.1, x9.2.2, melt σ x9)) | none => none)
      cases hz9 : marr[z]? with
      | none => rfl
      | some y =>
        have hne : y.1 ≠ k := marr_ne hz9 hj (by omega)
        have : melt (mpA σ k i x) y = melt σ y := by
          show (bif Nat.beq y.2.1 1 then _ else (fun i9 => Value.int ((cond (Nat.beq y.1 k) (upd (σ.2.1 k) i x) (σ.2.1 y.1)) i9)) : Nat → Value) = _
          rw [mbeq_ne hne]
          rfl
        show some (Sum.inl (y.2.1, y.2.2, melt _ y)) = some (Sum.inl (y.2.1, y.2.2, melt σ y))
        rw [this]
theorem mH_pL {b : Nat} {σ : MS} {h0 : AH} {j k n i : Nat} {x : Int64} (hj : marr[j]? = some (k, 1, n)) : hset (mH b σ h0) (b + (j + 1)) (.inl (1, n, updV (melt σ (k, 1, n)) i (.long x))) = mH b (mpL σ k i x) h0 := by
  have hlt : j < 33 := (List.getElem?_eq_some_iff.mp hj).1
  refine mH_set (by omega) ?_ fun z hz => ?_
  · show (match marr[j]? with | some x9 => some (Sum.inl (x9.2.1, x9.2.2, melt (mpL σ k i x) x9)) | none => none) = _
    rw [hj]
    refine congrArg some (congrArg Sum.inl (Prod.ext rfl (Prod.ext rfl (funext fun y => ?_))))
    show Value.long ((cond (Nat.beq k k) (vp_updL (σ.2.2.1 k) i x) (σ.2.2.1 k)) y) = updV (fun i9 => Value.long (σ.2.2.1 k i9)) i (.long x) y
    rw [mbeq_self]
    show Value.long (vp_updL (σ.2.2.1 k) i x y) = _
    unfold vp_updL updV
    by_cases e : y = i
    · rw [if_pos e, if_pos e]
    · rw [if_neg e, if_neg e]
  · cases z with
    | zero =>
      show some (Sum.inr (4, mfs b (mpL σ k i x))) = some (Sum.inr (4, mfs b σ))
      rfl
    | succ z =>
      show (match marr[z]? with | some x9 => some (Sum.inl (x9.2.1, x9.2.2, melt (mpL σ k i x) x9)) | none => none) = (match marr[z]? with | some x9 => some (Sum.inl (x9.2.1, x9.2.2, melt σ x9)) | none => none)
      cases hz9 : marr[z]? with
      | none => rfl
      | some y =>
        have hne : y.1 ≠ k := marr_ne hz9 hj (by omega)
        have : melt (mpL σ k i x) y = melt σ y := by
          show (bif Nat.beq y.2.1 1 then (fun i9 => Value.long ((cond (Nat.beq y.1 k) (vp_updL (σ.2.2.1 k) i x) (σ.2.2.1 y.1)) i9)) else _ : Nat → Value) = _
          rw [mbeq_ne hne]
          rfl
        show some (Sum.inl (y.2.1, y.2.2, melt _ y)) = some (Sum.inl (y.2.1, y.2.2, melt σ y))
        rw [this]
/-- an index in its range; a truth value -/
def inb (i : Int32) (n : Nat) : Bool := decide (0 ≤ i.toInt) && decide (i.toInt < n)
def isb (v : Int32) : Bool := decide (v = 0) || decide (v = 1)
theorem inb_in {i : Int32} {n : Nat} (h : inb i n = true) : vp_in i n := by
  unfold inb at h
  rw [Bool.and_eq_true, decide_eq_true_eq, decide_eq_true_eq] at h
  exact vp_in_iff.mpr h
theorem isb_ok {v : Int32} (h : isb v = true) : narrow .boolean (.int v) = .int v ∧ fits .boolean (.int v) = true := by
  unfold isb at h
  rw [Bool.or_eq_true, decide_eq_true_eq, decide_eq_true_eq] at h
  rcases h with rfl | rfl <;> exact ⟨rfl, rfl⟩
theorem cond_t {α : Type} {c : Bool} {x : Option α} {q : α} (h : (bif c then x else none) = some q) : c = true ∧ x = some q := by
  cases c with
  | true => exact ⟨rfl, h⟩
  | false => cases h
theorem obind {α β : Type} {o : Option α} {f : α → Option β} {q : β} (h : o.bind f = some q) : ∃ r, o = some r ∧ f r = some q := by
  cases o with
  | none => cases h
  | some r => exact ⟨r, rfl, h⟩
theorem okX5 : aCK (RX5, TX5, 60) tyX5 := ⟨in_X5, tyX5_ok, nmX5⟩
section MW
variable {g : AG} {Y : YC} {d : Nat} {Q : AR → AH → Prop} {b : Nat} {σ : MS} {h0 : AH} {loc loc' : List (Option Value)} {pc : Nat} {rest : List Value}
variable {idx k : Nat}
theorem mw_getI {v : Int32} (hf : aFl (yO Y) idx 4 k) (hk : k < 60) (h1 : moff k = 0) (h24 : Nat.beq k 24 = false) (hv : σ.1 k = v) (dd : decode (yC Y) pc = .ok (.getfield idx, 3)) (kk : AW g Y d Q (mH b σ h0) loc (pc + 3) (.int v :: rest)) : AW g Y d Q (mH b σ h0) loc pc (.ref b :: rest) := by
  refine aw_getf (v := .int v) hf (mH_at (j := 0) (by decide)) ?_ dd kk
  rw [mfs_at hk]
  unfold mval
  rw [h24, h1, hv]
  rfl
theorem mw_getJ {v : Int64} (hf : aFl (yO Y) idx 4 24) (hv : σ.2.2.2 = v) (dd : decode (yC Y) pc = .ok (.getfield idx, 3)) (kk : AW g Y d Q (mH b σ h0) loc (pc + 3) (.long v :: rest)) : AW g Y d Q (mH b σ h0) loc pc (.ref b :: rest) := by
  refine aw_getf (v := .long v) hf (mH_at (j := 0) (by decide)) ?_ dd kk
  rw [mfs_at (by decide), ← hv]
  rfl
theorem mw_getA {j : Nat} (hf : aFl (yO Y) idx 4 k) (hk : k < 60) (h1 : moff k = j + 1) (h24 : Nat.beq k 24 = false) (dd : decode (yC Y) pc = .ok (.getfield idx, 3)) (kk : AW g Y d Q (mH b σ h0) loc (pc + 3) (.ref (b + (j + 1)) :: rest)) : AW g Y d Q (mH b σ h0) loc pc (.ref b :: rest) := by
  refine aw_getf (v := .ref (b + (j + 1))) hf (mH_at (j := 0) (by decide)) ?_ dd kk
  rw [mfs_at hk]
  unfold mval
  rw [h24, h1]
  rfl
theorem mw_putI {v : Int32} (hf : aFl (yO Y) idx 4 k) (ht : aFt 4 k false .int) (hk : k < 60) (h1 : moff k = 0) (h24 : Nat.beq k 24 = false) (hb : gB g ≤ b) (dd : decode (yC Y) pc = .ok (.putfield idx, 3)) (kk : AW g Y d Q (mH b (mpI σ k v) h0) loc (pc + 3) rest) : AW g Y d Q (mH b σ h0) loc pc (.int v :: .ref b :: rest) := by
  refine aw_putf hf ht (mH_at (j := 0) (by decide)) hb (by simpa [mfs] using hk) ⟨rfl, rfl⟩ dd ?_
  rw [Nat.add_zero, mH_pI h1 h24]
  exact kk
theorem mw_putZ {v : Int32} (hf : aFl (yO Y) idx 4 k) (ht : aFt 4 k false .boolean) (hk : k < 60) (h1 : moff k = 0) (h24 : Nat.beq k 24 = false) (hb : gB g ≤ b) (hv : isb v = true) (dd : decode (yC Y) pc = .ok (.putfield idx, 3)) (kk : AW g Y d Q (mH b (mpI σ k v) h0) loc (pc + 3) rest) : AW g Y d Q (mH b σ h0) loc pc (.int v :: .ref b :: rest) := by
  refine aw_putf hf ht (mH_at (j := 0) (by decide)) hb (by simpa [mfs] using hk) (isb_ok hv) dd ?_
  rw [Nat.add_zero, mH_pI h1 h24]
  exact kk
theorem mw_putJ {v : Int64} (hf : aFl (yO Y) idx 4 24) (ht : aFt 4 24 false .long) (hb : gB g ≤ b) (dd : decode (yC Y) pc = .ok (.putfield idx, 3)) (kk : AW g Y d Q (mH b (mpJ σ v) h0) loc (pc + 3) rest) : AW g Y d Q (mH b σ h0) loc pc (.long v :: .ref b :: rest) := by
  refine aw_putf hf ht (mH_at (j := 0) (by decide)) hb (by simp [mfs]) ⟨rfl, rfl⟩ dd ?_
  rw [Nat.add_zero, mH_pJ]
  exact kk
variable {j n : Nat} {i : Int32}
theorem mH_arr {t : Nat} (hj : marr[j]? = some (k, t, n)) : (mH b σ h0).1 (b + (j + 1)) = some (.inl (t, n, melt σ (k, t, n))) := by
  have hlt : j < 33 := (List.getElem?_eq_some_iff.mp hj).1
  rw [mH_at (by omega)]
  show (match marr[j]? with | some x9 => some (Sum.inl (x9.2.1, x9.2.2, melt σ x9)) | none => none) = _
  rw [hj]
theorem mw_iald {v : Int32} (hj : marr[j]? = some (k, 0, n)) (hi : inb i n = true) (hv : σ.2.1 k i.toNatClampNeg = v) (dd : decode (yC Y) pc = .ok (.iaload, 1)) (kk : AW g Y d Q (mH b σ h0) loc (pc + 1) (.int v :: rest)) : AW g Y d Q (mH b σ h0) loc pc (.int i :: .ref (b + (j + 1)) :: rest) :=
  aw_iald (mH_arr hj) (inb_in hi) (congrArg Value.int hv) dd kk
theorem mw_zald {v : Int32} (hj : marr[j]? = some (k, 2, n)) (hi : inb i n = true) (hv : σ.2.1 k i.toNatClampNeg = v) (dd : decode (yC Y) pc = .ok (.baload, 1)) (kk : AW g Y d Q (mH b σ h0) loc (pc + 1) (.int v :: rest)) : AW g Y d Q (mH b σ h0) loc pc (.int i :: .ref (b + (j + 1)) :: rest) :=
  aw_zald (mH_arr hj) (inb_in hi) (congrArg Value.int hv) dd kk
theorem mw_lald {v : Int64} (hj : marr[j]? = some (k, 1, n)) (hi : inb i n = true) (hv : σ.2.2.1 k i.toNatClampNeg = v) (dd : decode (yC Y) pc = .ok (.laload, 1)) (kk : AW g Y d Q (mH b σ h0) loc (pc + 1) (.long v :: rest)) : AW g Y d Q (mH b σ h0) loc pc (.int i :: .ref (b + (j + 1)) :: rest) :=
  aw_lald (mH_arr hj) (inb_in hi) (congrArg Value.long hv) dd kk
theorem mw_iast {x : Int32} (hj : marr[j]? = some (k, 0, n)) (hi : inb i n = true) (hb : gB g ≤ b) (dd : decode (yC Y) pc = .ok (.iastore, 1)) (kk : AW g Y d Q (mH b (mpA σ k i.toNatClampNeg x) h0) loc (pc + 1) rest) : AW g Y d Q (mH b σ h0) loc pc (.int x :: .int i :: .ref (b + (j + 1)) :: rest) := by
  refine aw_iast (mH_arr hj) (by omega) (inb_in hi) dd ?_
  rw [mH_pA hj rfl]
  exact kk
theorem mw_zast {x : Int32} (hj : marr[j]? = some (k, 2, n)) (hi : inb i n = true) (hx : isb x = true) (hb : gB g ≤ b) (dd : decode (yC Y) pc = .ok (.bastore, 1)) (kk : AW g Y d Q (mH b (mpA σ k i.toNatClampNeg x) h0) loc (pc + 1) rest) : AW g Y d Q (mH b σ h0) loc pc (.int x :: .int i :: .ref (b + (j + 1)) :: rest) := by
  refine aw_zast (isb_ok hx).1 (mH_arr hj) (by omega) (inb_in hi) dd ?_
  rw [mH_pA hj rfl]
  exact kk
theorem mw_last {x : Int64} (hj : marr[j]? = some (k, 1, n)) (hi : inb i n = true) (hb : gB g ≤ b) (dd : decode (yC Y) pc = .ok (.lastore, 1)) (kk : AW g Y d Q (mH b (mpL σ k i.toNatClampNeg x) h0) loc (pc + 1) rest) : AW g Y d Q (mH b σ h0) loc pc (.long x :: .int i :: .ref (b + (j + 1)) :: rest) := by
  refine aw_last (mH_arr hj) (by omega) (inb_in hi) dd ?_
  rw [mH_pL hj]
  exact kk
end MW
