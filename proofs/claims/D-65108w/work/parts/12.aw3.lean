/-! THE ABSTRACT MACHINE, 3: rows that read, write and make cells -/
set_option maxRecDepth 100000
/-- a field by its entry idx in the file of own: field k of the class ci -/
def aFl (own : String) (idx ci k : Nat) : Prop := ∃ r : vw_C, aCl[ci]? = some r ∧ k < r.2.2 ∧ ((∃ ref : String, Cond.fieldLink own idx ref (r.2.1 k).2.1 (r.2.1 k).2.2.1 ∈ lw_all ∧ (ref = (r.2.1 k).1 ∨ Cond.sameField ref (r.2.1 k).1 (r.2.1 k).2.1 (r.2.1 k).2.2.1 ∈ lw_all)) ∨ ∃ host : String, Cond.fieldLinkNest own idx (r.2.1 k).1 (r.2.1 k).2.1 (r.2.1 k).2.2.1 host ∈ lw_tbl)
theorem aFl.of {own : String} {idx ci k : Nat} (r : vw_C) (hc : aCl[ci]? = some r) (hk : k < r.2.2) (hq : Cond.fieldLink own idx (r.2.1 k).1 (r.2.1 k).2.1 (r.2.1 k).2.2.1 ∈ lw_all) : aFl own idx ci k := ⟨r, hc, hk, Or.inl ⟨_, hq, Or.inl rfl⟩⟩
theorem aFl.ofS {own ref : String} {idx ci k : Nat} (r : vw_C) (hc : aCl[ci]? = some r) (hk : k < r.2.2) (hq : Cond.fieldLink own idx ref (r.2.1 k).2.1 (r.2.1 k).2.2.1 ∈ lw_all) (hs : Cond.sameField ref (r.2.1 k).1 (r.2.1 k).2.1 (r.2.1 k).2.2.1 ∈ lw_all) : aFl own idx ci k := ⟨r, hc, hk, Or.inl ⟨_, hq, Or.inr hs⟩⟩
theorem aFl.ofN {own host : String} {idx ci k : Nat} (r : vw_C) (hc : aCl[ci]? = some r) (hk : k < r.2.2) (hq : Cond.fieldLinkNest own idx (r.2.1 k).1 (r.2.1 k).2.1 (r.2.1 k).2.2.1 host ∈ lw_tbl) : aFl own idx ci k := ⟨r, hc, hk, Or.inr ⟨_, hq⟩⟩
/-- what is known of a class that can be made: its layout's words, its fields' types -/
def aCK (r : vw_C) (ty : Nat → FieldType) : Prop := (∀ w ∈ u_ws r.1 r.2.1 r.2.2, w ∈ lw_all) ∧ (∀ k, k < r.2.2 → parseFieldDescriptor (r.2.1 k).2.2.1 = some (ty k)) ∧ ∀ a, a < r.2.2 → ∀ b, b < r.2.2 → a ≠ b → (r.2.1 a).2.1 ≠ (r.2.1 b).2.1
/-- field k of the class ci has this type -/
def aFt (ci k : Nat) (fin : Bool) (ty : FieldType) : Prop := ∃ (r : vw_C) (ty0 : Nat → FieldType), ci < 19 ∧ aCl[ci]? = some r ∧ k < r.2.2 ∧ aCK r ty0 ∧ (r.2.1 k).2.2.2 = fin ∧ ty0 k = ty
theorem aHold {g : AG} {d bc bs : Nat} {R : Room} {s : State} {H H1 : Heap} {locs : List Loc} {cells slots mc ms a i : Nat} (hM : aRoom g d bc bs R s H locs cells slots mc ms) (z : H1.size = H.size) (y : hsl H1 = hsl H) (ha : gB g ≤ a) : aRoom g d bc bs R s H1 (locs ++ [⟨a, i⟩]) cells slots mc ms := by
  obtain ⟨m1, m2, m3⟩ := hM
  refine ⟨fun q hq => ?_, by rw [aGr, z, y]; exact m2, m3⟩
  rcases List.mem_append.mp hq with hq | hq
  · exact m1 q hq
  · cases List.mem_singleton.mp hq
    exact ha
theorem aSlot_size (c : Cell) (j : Nat) (v : Value) : (c.setSlot j v).slots.size = c.slots.size := by simp [Cell.setSlot]
theorem aArr {g : AG} {s : State} {cell : Cell} {t : Nat} {ty : FieldType} (h : ArrOfT s (gA g t) ty) (hc : cell.cls = gA g t) (hst : cell.vm.isStatics = false) : s.isArrayOf cell ty :=
  ⟨fun k e => (by rw [e] at hst; cases hst), by rw [hc]; exact (h 0 (fun _ => .null)).2⟩
theorem aArr_set {g : AG} {q t n j : Nat} {f : Nat → Value} {v : Value} {cell : Cell} {H1 : Heap} (he : cell = arrV (gA g t) n f) (hq : H1[q]? = some (cell.setSlot j v)): aE_at g q (.inl (t, n, updV f j v)) H1 := by
  subst he
  rw [arrV_store] at hq
  exact ⟨_, hq, rfl, fun z => (by cases z), rfl, arrV_size _ _ _, by rw [arrV_size] <;> rfl, fun k hk => arrV_read _ _ hk, fun _ => rfl⟩
theorem aArr_new {g : AG} {q t n : Nat} {f : Nat → Value} {H1 : Heap} (hq : H1[q]? = some (arrV (gA g t) n f)) : aE_at g q (.inl (t, n, f)) H1 :=
  ⟨_, hq, rfl, fun z => (by cases z), rfl, arrV_size _ _ _, by rw [arrV_size] <;> rfl, fun k hk => arrV_read _ _ hk, fun _ => rfl⟩
section AWM
variable {g : AG} {Y : YC} {d : Nat} {Q : AR → AH → Prop} {h : AH} {loc loc' : List (Option Value)} {pc : Nat} {rest : List Value}
variable {idx a : Nat}
theorem aw_getf {ci k0 : Nat} {fs : List Value} {v : Value} (hf : aFl (yO Y) idx ci k0) (ha : h.1 a = some (.inr (ci, fs))) (hv : fs[k0]? = some v) (dd : decode (yC Y) pc = .ok (.getfield idx, 3)) (k : AW g Y d Q h loc (pc + 3) (v :: rest)) : AW g Y d Q h loc pc (.ref a :: rest) := by
  intro p e R s m args below meth c H locs cells slots mc ms ls A hR hM hL
  obtain ⟨r, hc, hk, hl⟩ := hf
  obtain ⟨r', cell, e0, e1, e2, e3, e4, e5, -⟩ := hR.2.2.1 a _ ha
  have hr : r' = r := Option.some.inj (e0.symm.trans hc)
  subst hr
  have hK : aK g s := A.2.2.2.2.2.2.2.1
  obtain ⟨cf, kf, fi, f, i1, i2, i3⟩ := hK.fld hc hk
  have hs : cell.slots[f.slot]? = some v := by
    rw [i3, e5 k0 hk]
    simp [vp_V, hv]
  have hts := A.2.2.2.2.2.2.1
  rcases hl with ⟨ref, l1, l2⟩ | ⟨host, l1⟩
  · have i9 : s.fieldFound? ref (r'.2.1 k0).2.1 (r'.2.1 k0).2.2.1 = some (cf, kf, fi, f) := by
      rcases l2 with rfl | l2
      · exact i1
      · exact u_same (hts _ l2) _ i1
    exact W.getf A.1 A.2.1 A.2.2.2.2.2.1 (hts _ l1) i9 i2 e1 e3 hs rfl rfl dd (k p e R s m args below meth c H locs cells slots mc ms ls A hR hM hL)
  · exact va_Wgetf A.1 A.2.1 A.2.2.2.2.2.1 ((hK.nw l1 rfl).use rfl) i1 i2 e1 e3 hs rfl rfl dd (k p e R s m args below meth c H locs cells slots mc ms ls A hR hM hL)
theorem aw_putf {ci k0 : Nat} {ty : FieldType} {fs : List Value} {v : Value} (hf : aFl (yO Y) idx ci k0) (ht : aFt ci k0 false ty) (ha : h.1 a = some (.inr (ci, fs))) (hb : gB g ≤ a) (hl : k0 < fs.length) (hv : narrow ty v = v ∧ fits ty v = true) (dd : decode (yC Y) pc = .ok (.putfield idx, 3)) (k : AW g Y d Q (hset h a (.inr (ci, fs.set k0 v))) loc (pc + 3) rest) : AW g Y d Q h loc pc (v :: .ref a :: rest) := by
  intro p e R s m args below meth c H locs cells slots mc ms ls A hR hM hL
  obtain ⟨r, hc, hk, hl0⟩ := hf
  obtain ⟨r', cell, e0, e1, e2, e3, e4, e5, e6⟩ := hR.2.2.1 a _ ha
  have hr : r' = r := Option.some.inj (e0.symm.trans hc)
  subst hr
  obtain ⟨r2, ty0, h19, t0, -, ⟨hin, hty, hnm⟩, hfin, htk⟩ := ht
  have hr : r2 = r' := Option.some.inj (t0.symm.trans hc)
  subst hr
  have hK : aK g s := A.2.2.2.2.2.2.2.1
  have hts := A.2.2.2.2.2.2.1
  obtain ⟨hS, hfc, kC, hkC, hkind⟩ := hK.kn h19 hc
  obtain ⟨cf, kf, fi, f, hi, hsl⟩ := hS k0 hk
  have hlay := hts _ (hin _ (u_in_lay hk))
  unfold u_lay at hlay
  rw [if_neg (by rw [hfin]; decide)] at hlay
  have hst := (u_facts hfc hkC (u_lays hts hin hk) hi).1
  have hd : parseFieldDescriptor (r2.2.1 k0).2.2.1 = some ty := by rw [← htk]; exact hty k0 hk
  have hap : ∀ x y, x < r2.2.2 → y < r2.2.2 → x ≠ y → (gD g).2 ci x ≠ (gD g).2 ci y := by
    intro x y hx hy hne
    obtain ⟨_, _, _, fa, hia, ea⟩ := hS x hx
    obtain ⟨_, _, _, fb, hib, eb⟩ := hS y hy
    rw [← ea, ← eb]
    refine u_apart (u_lays hts hin hx) (u_lays hts hin hy) hia hib ?_
    rw [(State.fieldFound?_type hia (hty x hx)).1, (State.fieldFound?_type hib (hty y hy)).1]
    exact hnm x hx y hy hne
  have hvm := e6 hb
  have done : ∀ H' : Heap, H'[a]? = some (cell.setSlot f.slot v) → H'.size = H.size → (∀ q, q ≠ a → H'[q]? = H[q]?) → W p (gL g) e R s m args below meth c H' (locs ++ [⟨a, f.slot⟩]) cells slots (vx_MQ below (aQ g Q) (aX g Q) args s mc ms (aFree g)) (F0 m (pc + 3) ls rest) := by
    intro H' g1 g2 g3
    rw [hsl] at g1
    refine k p e R s m args below meth c H' _ cells slots mc ms ls A (hR.set hb g2 g3 e1 g1 (aSlot_size _ _ _) ⟨_, _, hc, g1, e2, e3, e4, fun j hj => ?_, fun _ => hvm⟩) (aHold hM g2 (hsl_same g2 g3 e1 g1 (aSlot_size _ _ _)) hb) hL
    rw [← vp_updV_set hl v j]
    exact t_set e5 hap hk v j hj
  have h6 := u_store hfc hkC hkind hlay hi hd hv.1 hv.2
  rcases hl0 with ⟨ref, l1, l2⟩ | ⟨host, l1⟩
  · have i9 : s.fieldFound? ref (r2.2.1 k0).2.1 (r2.2.1 k0).2.2.1 = some (cf, kf, fi, f) := by
      rcases l2 with rfl | l2
      · exact hi
      · exact u_same (hts _ l2) _ hi
    exact W.putK A.1 A.2.1 (f := f) ⟨A.2.2.2.2.2.1, hts _ l1, ⟨_, _, _, i9⟩, hst⟩ (by rw [e2]; exact h6) e1 hvm (by rw [hsl]; exact k2_hasslot (e5 k0 hk)) rfl rfl dd done
  · exact va_WputK A.1 A.2.1 (f := f) A.2.2.2.2.2.1 ((hK.nw l1 rfl).use rfl) hi hst (by rw [e2]; exact h6) e1 hvm (by rw [hsl]; exact k2_hasslot (e5 k0 hk)) rfl rfl dd done
/-- a final field, in its class's constructor -/
theorem aw_putF {ci k0 : Nat} {ty : FieldType} {fs : List Value} {v : Value} (hf : aFl (yO Y) idx ci k0) (ht : aFt ci k0 true ty) (hi0 : (yM Y).name = "<init>") {r0 : vw_C} (h0 : aCl[ci]? = some r0) (ho : (r0.2.1 k0).1 = yO Y) (hq : Cond.fieldLink (yO Y) idx (r0.2.1 k0).1 (r0.2.1 k0).2.1 (r0.2.1 k0).2.2.1 ∈ lw_all) (ha : h.1 a = some (.inr (ci, fs))) (hb : gB g ≤ a) (hl : k0 < fs.length) (hv : narrow ty v = v ∧ fits ty v = true) (dd : decode (yC Y) pc = .ok (.putfield idx, 3)) (k : AW g Y d Q (hset h a (.inr (ci, fs.set k0 v))) loc (pc + 3) rest) : AW g Y d Q h loc pc (v :: .ref a :: rest) := by
  intro p e R s m args below meth c H locs cells slots mc ms ls A hR hM hL
  obtain ⟨r, hc, hk, hl0⟩ := hf
  obtain ⟨r', cell, e0, e1, e2, e3, e4, e5, e6⟩ := hR.2.2.1 a _ ha
  have hr : r' = r := Option.some.inj (e0.symm.trans hc)
  subst hr
  obtain ⟨r2, ty0, h19, t0, -, ⟨hin, hty, hnm⟩, hfin, htk⟩ := ht
  have hr : r2 = r' := Option.some.inj (t0.symm.trans hc)
  subst hr
  have hK : aK g s := A.2.2.2.2.2.2.2.1
  have hts := A.2.2.2.2.2.2.1
  obtain ⟨hS, hfc, kC, hkC, hkind⟩ := hK.kn h19 hc
  obtain ⟨cf, kf, fi, f, hi, hsl⟩ := hS k0 hk
  have hlay := hts _ (hin _ (u_in_lay hk))
  unfold u_lay at hlay
  rw [if_pos hfin] at hlay
  have hst := (u_facts hfc hkC (u_lays hts hin hk) hi).1
  have hd : parseFieldDescriptor (r2.2.1 k0).2.2.1 = some ty := by rw [← htk]; exact hty k0 hk
  have hap : ∀ x y, x < r2.2.2 → y < r2.2.2 → x ≠ y → (gD g).2 ci x ≠ (gD g).2 ci y := by
    intro x y hx hy hne
    obtain ⟨_, _, _, fa, hia, ea⟩ := hS x hx
    obtain ⟨_, _, _, fb, hib, eb⟩ := hS y hy
    rw [← ea, ← eb]
    refine u_apart (u_lays hts hin hx) (u_lays hts hin hy) hia hib ?_
    rw [(State.fieldFound?_type hia (hty x hx)).1, (State.fieldFound?_type hib (hty y hy)).1]
    exact hnm x hx y hy hne
  have hvm := e6 hb
  have done : ∀ H' : Heap, H'[a]? = some (cell.setSlot f.slot v) → H'.size = H.size → (∀ q, q ≠ a → H'[q]? = H[q]?) → W p (gL g) e R s m args below meth c H' (locs ++ [⟨a, f.slot⟩]) cells slots (vx_MQ below (aQ g Q) (aX g Q) args s mc ms (aFree g)) (F0 m (pc + 3) ls rest) := by
    intro H' g1 g2 g3
    rw [hsl] at g1
    refine k p e R s m args below meth c H' _ cells slots mc ms ls A (hR.set hb g2 g3 e1 g1 (aSlot_size _ _ _) ⟨_, _, hc, g1, e2, e3, e4, fun j hj => ?_, fun _ => hvm⟩) (aHold hM g2 (hsl_same g2 g3 e1 g1 (aSlot_size _ _ _)) hb) hL
    rw [← vp_updV_set hl v j]
    exact t_set e5 hap hk v j hj
  have hr : r0 = r2 := Option.some.inj (h0.symm.trans hc)
  subst hr
  have hcf : m.cls = cf := by
    obtain ⟨_, _, c', _, _, _, -, -, hf', -, -, -, hown2, -⟩ := Cond.laysFinal_spec hlay
    have e1 : c' = cf := by have := hi.symm.trans hf'; simp at this; exact this.1.symm
    rw [ho] at hown2
    rw [← e1]; exact Option.some.inj (A.2.2.2.2.2.1.symm.trans hown2)
  have h6 := u_fits hfc hkC hkind (Or.inr hlay) hi hd hv.1 hv.2
  exact W.putFinK A.1 A.2.1 A.2.2.2.2.2.1 (hts _ hq) hi hst hcf (A.2.2.2.2.2.2.2.2.2.1.trans hi0) (by rw [e2]; exact h6) e1 hvm (by rw [hsl]; exact k2_hasslot (e5 k0 hk)) rfl rfl dd done
theorem aw_iald {n : Nat} {f : Nat → Value} {i : Int32} {v : Value} (ha : h.1 a = some (.inl (0, n, f))) (hi : vp_in i n) (hv : f i.toNatClampNeg = v) (dd : decode (yC Y) pc = .ok (.iaload, 1)) (k : AW g Y d Q h loc (pc + 1) (v :: rest)) : AW g Y d Q h loc pc (.int i :: .ref a :: rest) := by
  intro p e R s m args below meth c H locs cells slots mc ms ls A hR hM hL
  obtain ⟨cell, e1, e2, e3, e4, e5, e6, e7, -⟩ := hR.2.2.1 a _ ha
  have e5 : n ≤ cell.slots.size := Nat.le_of_eq e5.symm
  have hlt : i.toNatClampNeg < n := Nat.not_le.mp fun q => hi (Or.inr q)
  have hK : aK g s := A.2.2.2.2.2.2.2.1
  exact W.iald A.1 A.2.1 e1 (aArr (hK.arr (t := 0) rfl) e2 e4) e3 (fun q => q.elim (fun q => hi (Or.inl q)) (fun q => by omega)) (by rw [e7 _ hlt]; exact congrArg some hv) rfl rfl dd (k p e R s m args below meth c H locs cells slots mc ms ls A hR hM hL)
theorem aw_lald {n : Nat} {f : Nat → Value} {i : Int32} {v : Value} (ha : h.1 a = some (.inl (1, n, f))) (hi : vp_in i n) (hv : f i.toNatClampNeg = v) (dd : decode (yC Y) pc = .ok (.laload, 1)) (k : AW g Y d Q h loc (pc + 1) (v :: rest)) : AW g Y d Q h loc pc (.int i :: .ref a :: rest) := by
  intro p e R s m args below meth c H locs cells slots mc ms ls A hR hM hL
  obtain ⟨cell, e1, e2, e3, e4, e5, e6, e7, -⟩ := hR.2.2.1 a _ ha
  have e5 : n ≤ cell.slots.size := Nat.le_of_eq e5.symm
  have hlt : i.toNatClampNeg < n := Nat.not_le.mp fun q => hi (Or.inr q)
  have hK : aK g s := A.2.2.2.2.2.2.2.1
  exact W.lald A.1 A.2.1 e1 (aArr (hK.arr (t := 1) rfl) e2 e4) e3 (fun q => q.elim (fun q => hi (Or.inl q)) (fun q => by omega)) (by rw [e7 _ hlt]; exact congrArg some hv) rfl rfl dd (k p e R s m args below meth c H locs cells slots mc ms ls A hR hM hL)
theorem aw_zald {n : Nat} {f : Nat → Value} {i : Int32} {v : Value} (ha : h.1 a = some (.inl (2, n, f))) (hi : vp_in i n) (hv : f i.toNatClampNeg = v) (dd : decode (yC Y) pc = .ok (.baload, 1)) (k : AW g Y d Q h loc (pc + 1) (v :: rest)) : AW g Y d Q h loc pc (.int i :: .ref a :: rest) := by
  intro p e R s m args below meth c H locs cells slots mc ms ls A hR hM hL
  obtain ⟨cell, e1, e2, e3, e4, e5, e6, e7, -⟩ := hR.2.2.1 a _ ha
  have e5 : n ≤ cell.slots.size := Nat.le_of_eq e5.symm
  have hlt : i.toNatClampNeg < n := Nat.not_le.mp fun q => hi (Or.inr q)
  have hK : aK g s := A.2.2.2.2.2.2.2.1
  exact W.zald A.1 A.2.1 e1 (aArr (hK.arr (t := 2) rfl) e2 e4) e3 (fun q => q.elim (fun q => hi (Or.inl q)) (fun q => by omega)) (by rw [e7 _ hlt]; exact congrArg some hv) rfl rfl dd (k p e R s m args below meth c H locs cells slots mc ms ls A hR hM hL)
theorem aw_bald {n : Nat} {f : Nat → Value} {i : Int32} {v : Value} (ha : h.1 a = some (.inl (3, n, f))) (hi : vp_in i n) (hv : f i.toNatClampNeg = v) (dd : decode (yC Y) pc = .ok (.baload, 1)) (k : AW g Y d Q h loc (pc + 1) (v :: rest)) : AW g Y d Q h loc pc (.int i :: .ref a :: rest) := by
  intro p e R s m args below meth c H locs cells slots mc ms ls A hR hM hL
  obtain ⟨cell, e1, e2, e3, e4, e5, e6, e7, -⟩ := hR.2.2.1 a _ ha
  have e5 : n ≤ cell.slots.size := Nat.le_of_eq e5.symm
  have hlt : i.toNatClampNeg < n := Nat.not_le.mp fun q => hi (Or.inr q)
  have hK : aK g s := A.2.2.2.2.2.2.2.1
  exact W.bald A.1 A.2.1 e1 (aArr (hK.arr (t := 3) rfl) e2 e4) e3 (fun q => q.elim (fun q => hi (Or.inl q)) (fun q => by omega)) (by rw [e7 _ hlt]; exact congrArg some hv) rfl rfl dd (k p e R s m args below meth c H locs cells slots mc ms ls A hR hM hL)
theorem aw_aald {t n : Nat} {ty : FieldType} {f : Nat → Value} {i : Int32} {v : Value} (ha : h.1 a = some (.inl (t, n, f))) (ht : aTy[t]? = some ty) (hr : ty.isReference = true) (hi : vp_in i n) (hv : f i.toNatClampNeg = v) (dd : decode (yC Y) pc = .ok (.aaload, 1)) (k : AW g Y d Q h loc (pc + 1) (v :: rest)) : AW g Y d Q h loc pc (.int i :: .ref a :: rest) := by
  intro p e R s m args below meth c H locs cells slots mc ms ls A hR hM hL
  obtain ⟨cell, e1, e2, e3, e4, e5, e6, e7, -⟩ := hR.2.2.1 a _ ha
  have e5 : n ≤ cell.slots.size := Nat.le_of_eq e5.symm
  have hlt : i.toNatClampNeg < n := Nat.not_le.mp fun q => hi (Or.inr q)
  have hK : aK g s := A.2.2.2.2.2.2.2.1
  exact W.aald A.1 A.2.1 e1 (aArr (hK.arr ht) e2 e4) hr e3 (fun q => q.elim (fun q => hi (Or.inl q)) (fun q => by omega)) (by rw [e7 _ hlt]; exact congrArg some hv) rfl rfl dd (k p e R s m args below meth c H locs cells slots mc ms ls A hR hM hL)
theorem aw_alen {t n : Nat} {ty : FieldType} {f : Nat → Value} {v : Int32} (ha : h.1 a = some (.inl (t, n, f))) (ht : aTy[t]? = some ty) (hv : Int32.ofNat n = v) (dd : decode (yC Y) pc = .ok (.arraylength, 1)) (k : AW g Y d Q h loc (pc + 1) (.int v :: rest)) : AW g Y d Q h loc pc (.ref a :: rest) := by
  intro p e R s m args below meth c H locs cells slots mc ms ls A hR hM hL
  obtain ⟨cell, e1, e2, e3, e4, e5, e6, e7, -⟩ := hR.2.2.1 a _ ha
  have hK : aK g s := A.2.2.2.2.2.2.2.1
  exact W.alen A.1 A.2.1 e1 (aArr (hK.arr ht) e2 e4) (e6.trans hv) rfl rfl dd (k p e R s m args below meth c H locs cells slots mc ms ls A hR hM hL)
theorem aw_iast {n : Nat} {f : Nat → Value} {i : Int32} {x : Int32} (ha : h.1 a = some (.inl (0, n, f))) (hb : gB g ≤ a) (hi : vp_in i n) (dd : decode (yC Y) pc = .ok (.iastore, 1)) (k : AW g Y d Q (hset h a (.inl (0, n, updV f i.toNatClampNeg (.int x)))) loc (pc + 1) rest) : AW g Y d Q h loc pc (.int x :: .int i :: .ref a :: rest) := by
  intro p e R s m args below meth c H locs cells slots mc ms ls A hR hM hL
  obtain ⟨cell, e1, e2, e3, e4, e5, e6, e7, e8⟩ := hR.2.2.1 a _ ha
  have e5 : n ≤ cell.slots.size := Nat.le_of_eq e5.symm
  have hK : aK g s := A.2.2.2.2.2.2.2.1
  refine W.iast A.1 A.2.1 e1 (aArr (hK.arr (t := 0) rfl) e2 e4) e3 (fun q => q.elim (fun q => hi (Or.inl q)) (fun q => hi (Or.inr (by rw [e8 hb, arrV_size] at q; exact q)))) rfl rfl dd fun H' g1 g2 g3 => ?_
  exact k p e R s m args below meth c H' _ cells slots mc ms ls A (hR.set hb g2 g3 e1 g1 (aSlot_size _ _ _) (aArr_set (e8 hb) g1)) (aHold hM g2 (hsl_same g2 g3 e1 g1 (aSlot_size _ _ _)) hb) hL
theorem aw_last {n : Nat} {f : Nat → Value} {i : Int32} {x : Int64} (ha : h.1 a = some (.inl (1, n, f))) (hb : gB g ≤ a) (hi : vp_in i n) (dd : decode (yC Y) pc = .ok (.lastore, 1)) (k : AW g Y d Q (hset h a (.inl (1, n, updV f i.toNatClampNeg (.long x)))) loc (pc + 1) rest) : AW g Y d Q h loc pc (.long x :: .int i :: .ref a :: rest) := by
  intro p e R s m args below meth c H locs cells slots mc ms ls A hR hM hL
  obtain ⟨cell, e1, e2, e3, e4, e5, e6, e7, e8⟩ := hR.2.2.1 a _ ha
  have e5 : n ≤ cell.slots.size := Nat.le_of_eq e5.symm
  have hK : aK g s := A.2.2.2.2.2.2.2.1
  refine W.last A.1 A.2.1 e1 (aArr (hK.arr (t := 1) rfl) e2 e4) e3 (fun q => q.elim (fun q => hi (Or.inl q)) (fun q => hi (Or.inr (by rw [e8 hb, arrV_size] at q; exact q)))) rfl rfl dd fun H' g1 g2 g3 => ?_
  exact k p e R s m args below meth c H' _ cells slots mc ms ls A (hR.set hb g2 g3 e1 g1 (aSlot_size _ _ _) (aArr_set (e8 hb) g1)) (aHold hM g2 (hsl_same g2 g3 e1 g1 (aSlot_size _ _ _)) hb) hL
theorem aw_zast {n : Nat} {f : Nat → Value} {i : Int32} {x : Int32} {v : Value} (hv : narrow .boolean (.int x) = v) (ha : h.1 a = some (.inl (2, n, f))) (hb : gB g ≤ a) (hi : vp_in i n) (dd : decode (yC Y) pc = .ok (.bastore, 1)) (k : AW g Y d Q (hset h a (.inl (2, n, updV f i.toNatClampNeg (v)))) loc (pc + 1) rest) : AW g Y d Q h loc pc (.int x :: .int i :: .ref a :: rest) := by
  intro p e R s m args below meth c H locs cells slots mc ms ls A hR hM hL
  obtain ⟨cell, e1, e2, e3, e4, e5, e6, e7, e8⟩ := hR.2.2.1 a _ ha
  have e5 : n ≤ cell.slots.size := Nat.le_of_eq e5.symm
  have hK : aK g s := A.2.2.2.2.2.2.2.1
  refine W.zast A.1 A.2.1 e1 (aArr (hK.arr (t := 2) rfl) e2 e4) e3 (fun q => q.elim (fun q => hi (Or.inl q)) (fun q => hi (Or.inr (by rw [e8 hb, arrV_size] at q; exact q)))) rfl rfl dd fun H' g1 g2 g3 => ?_
  exact k p e R s m args below meth c H' _ cells slots mc ms ls A (hR.set hb g2 g3 e1 g1 (aSlot_size _ _ _) (aArr_set (e8 hb) (hv ▸ g1))) (aHold hM g2 (hsl_same g2 g3 e1 g1 (aSlot_size _ _ _)) hb) hL
theorem aw_bast {n : Nat} {f : Nat → Value} {i : Int32} {x : Int32} {v : Value} (hv : narrow .byte (.int x) = v) (ha : h.1 a = some (.inl (3, n, f))) (hb : gB g ≤ a) (hi : vp_in i n) (dd : decode (yC Y) pc = .ok (.bastore, 1)) (k : AW g Y d Q (hset h a (.inl (3, n, updV f i.toNatClampNeg (v)))) loc (pc + 1) rest) : AW g Y d Q h loc pc (.int x :: .int i :: .ref a :: rest) := by
  intro p e R s m args below meth c H locs cells slots mc ms ls A hR hM hL
  obtain ⟨cell, e1, e2, e3, e4, e5, e6, e7, e8⟩ := hR.2.2.1 a _ ha
  have e5 : n ≤ cell.slots.size := Nat.le_of_eq e5.symm
  have hK : aK g s := A.2.2.2.2.2.2.2.1
  refine W.bast A.1 A.2.1 e1 (aArr (hK.arr (t := 3) rfl) e2 e4) e3 (fun q => q.elim (fun q => hi (Or.inl q)) (fun q => hi (Or.inr (by rw [e8 hb, arrV_size] at q; exact q)))) rfl rfl dd fun H' g1 g2 g3 => ?_
  exact k p e R s m args below meth c H' _ cells slots mc ms ls A (hR.set hb g2 g3 e1 g1 (aSlot_size _ _ _) (aArr_set (e8 hb) (hv ▸ g1))) (aHold hM g2 (hsl_same g2 g3 e1 g1 (aSlot_size _ _ _)) hb) hL
/-- a class's objects may stand in arrays of the type t -/
def aSub (ci t : Nat) : Prop := ∃ (r : vw_C) (C : String), aCl[ci]? = some r ∧ t < 9 ∧ aTy[t]? = some (.object C) ∧ (r.1 = C ∨ Cond.castable r.1 C ∈ lw_tbl)
theorem aw_aast {t n ci b : Nat} {f : Nat → Value} {fs : List Value} {i : Int32} (hs : aSub ci t) (ha : h.1 a = some (.inl (t, n, f))) (hb : gB g ≤ a) (hv : h.1 b = some (.inr (ci, fs))) (hi : vp_in i n) (dd : decode (yC Y) pc = .ok (.aastore, 1)) (k : AW g Y d Q (hset h a (.inl (t, n, updV f i.toNatClampNeg (.ref b)))) loc (pc + 1) rest) : AW g Y d Q h loc pc (.ref b :: .int i :: .ref a :: rest) := by
  intro p e R s m args below meth c H locs cells slots mc ms ls A hR hM hL
  obtain ⟨cell, e1, e2, e3, e4, e5, e6, e7, e8⟩ := hR.2.2.1 a _ ha
  have e5 : n ≤ cell.slots.size := Nat.le_of_eq e5.symm
  obtain ⟨r', cv, v0, v1, v2, v3, v4, -, -⟩ := hR.2.2.1 b _ hv
  obtain ⟨r, C, hc, h9, ht, hsub⟩ := hs
  have hr : r' = r := Option.some.inj (v0.symm.trans hc)
  subst hr
  have hK : aK g s := A.2.2.2.2.2.2.2.1
  obtain ⟨kA, comp, k1, k2, k3, -⟩ := hK.ra h9 ht
  obtain ⟨kcomp, hkcomp, -⟩ := Vm.findClass_spec k3
  have hcv : s.vm.findClass r'.1 = some cv.cls := by rw [v2]; exact hK.cls hc
  obtain ⟨kv, hkv, -⟩ := Vm.findClass_spec hcv
  have hasg : s.vm.assignable cv.cls comp = true := by
    rcases hsub with rfl | hsub
    · cases Option.some.inj (hcv.symm.trans k3)
      exact va_asg _ _
    · obtain ⟨c3, c4, hc3, hc4, hasg⟩ := Cond.castable_spec ((hK.nw hsub rfl).use (A := args) rfl)
      cases Option.some.inj (hc3.symm.trans hcv)
      cases Option.some.inj (hc4.symm.trans k3)
      exact hasg
  refine W.aast A.1 A.2.1 e1 (fun q z => by rw [z] at e4; cases e4) e3 (by rw [e2]; exact k1) k2 rfl hkcomp ⟨fun q => hi (Or.inl q), by have := Nat.not_le.mp fun q => hi (Or.inr q); omega⟩ v1 (fun q z => by rw [z] at v4; cases v4) hkv hasg rfl rfl dd fun H' g1 g2 g3 => ?_
  exact k p e R s m args below meth c H' _ cells slots mc ms ls A (hR.set hb g2 g3 e1 g1 (aSlot_size _ _ _) (aArr_set (e8 hb) g1)) (aHold hM g2 (hsl_same g2 g3 e1 g1 (aSlot_size _ _ _)) hb) hL
theorem aw_aastN {t n : Nat} {C : String} {f : Nat → Value} {i : Int32} (ht : aTy[t]? = some (.object C)) (ha : h.1 a = some (.inl (t, n, f))) (hb : gB g ≤ a) (hi : vp_in i n) (dd : decode (yC Y) pc = .ok (.aastore, 1)) (k : AW g Y d Q (hset h a (.inl (t, n, updV f i.toNatClampNeg .null))) loc (pc + 1) rest) : AW g Y d Q h loc pc (.null :: .int i :: .ref a :: rest) := by
  intro p e R s m args below meth c H locs cells slots mc ms ls A hR hM hL
  obtain ⟨cell, e1, e2, e3, e4, e5, e6, e7, e8⟩ := hR.2.2.1 a _ ha
  have e5 : n ≤ cell.slots.size := Nat.le_of_eq e5.symm
  have hK : aK g s := A.2.2.2.2.2.2.2.1
  refine va_WaastN A.1 A.2.1 e1 (aArr (hK.arr ht) e2 e4) e3 (fun q => q.elim (fun q => hi (Or.inl q)) (fun q => hi (Or.inr (by omega)))) rfl rfl dd fun H' g1 g2 g3 => ?_
  exact k p e R s m args below meth c H' _ cells slots mc ms ls A (hR.set hb g2 g3 e1 g1 (aSlot_size _ _ _) (aArr_set (e8 hb) g1)) (aHold hM g2 (hsl_same g2 g3 e1 g1 (aSlot_size _ _ _)) hb) hL
/-- room for one cell of n slots is used -/
theorem aRoom.new {g : AG} {d n : Nat} {R : Room} {s : State} {h : AH} {H H1 : Heap} {locs : List Loc} {cells slots mc ms : Nat} (e : AE) (hM : aRoom g d (gLc g - h.2.1) (gLs g - h.2.2) R s H locs cells slots mc ms) (l1 : h.2.1 + 1 ≤ gLc g) (l2 : h.2.2 + n ≤ gLs g) (z : H1.size = H.size + 1) {cc : Cell} (y : hsl H1 = hsl H + cc.slots.size) : aRoom g d (gLc g - (hnew h n e).2.1) (gLs g - (hnew h n e).2.2) R s H1 locs (cells + 1) (slots + n) mc ms := by
  obtain ⟨m1, m2, m3, m4, m5, m6, m7, m8⟩ := hM
  show aRoom g d (gLc g - (h.2.1 + 1)) (gLs g - (h.2.2 + n)) R s H1 locs (cells + 1) (slots + n) mc ms
  exact ⟨m1, ⟨by omega, by omega⟩, m3, m4, by omega, by omega, by omega, by omega⟩
theorem aw_newa {t N : Nat} {ty : FieldType} {v0 : Value} {atype : ArrayType} {n : Int32} (harr : Cond.arrayClass (newarray.typeOf atype) ∈ lw_all) (ht : aTy[t]? = some (newarray.typeOf atype)) (h4 : t < 4) (hz : defaultValue (newarray.typeOf atype) = v0) (hn : ¬ n < 0) (hN : n.toNatClampNeg = N) (hby : N * componentBytes (newarray.typeOf atype) ≤ 536870912) (dd : decode (yC Y) pc = .ok (.newarray atype, 2)) (k : AW g Y d Q (hnew h N (.inl (t, N, fun _ => v0))) loc (pc + 2) (.ref h.2.1 :: rest)) (l1 : h.2.1 + 1 ≤ gLc g := by assumption) (l2 : h.2.2 + N ≤ gLs g := by assumption) : AW g Y d Q h loc pc (.int n :: rest) := by
  intro p e R s m args below meth c H locs cells slots mc ms ls A hR hM hL
  have hK : aK g s := A.2.2.2.2.2.2.2.1
  have hM' := hM
  obtain ⟨m1, m2, m3, m4, m5, m6, m7, m8⟩ := hM'
  refine va_newaK A.1 A.2.1 (A.2.2.2.2.2.2.1 _ harr) rfl dd rfl hn hN hby (by omega) (by omega) rfl fun H1 cA g1 g2 g3 g4 g5 => ?_
  have hcA : cA = gA g t := by
    have h9 := hK.ra (by omega) ht
    have h8 : s.vm.findClass ("[" ++ (newarray.typeOf atype).toString) = some (gA g t) := by
      cases atype <;> exact h9
    exact Option.some.inj (g5.symm.trans h8)
  subst hcA
  rw [hz] at g1
  rw [← hR.1]
  exact k p e R s m args below meth c H1 locs (cells + 1) (slots + N) mc ms ls A (hR.new g2 g3 g1 (arrV_size _ _ _) l1 l2 (aArr_new g1)) (hM.new _ l1 l2 g2 (hsl_push g2 g3 g1)) hL
theorem aw_anew {t N : Nat} {C : String} {n : Int32} (hlk : Cond.classLink (yO Y) idx C ∈ lw_all) (hov : Cond.arrayOver (.object C) ∈ lw_tbl) (ht : aTy[t]? = some (.object C)) (h9 : t < 9) (hn : ¬ n < 0) (hN : n.toNatClampNeg = N) (hby : N * 4 ≤ 536870912) (dd : decode (yC Y) pc = .ok (.anewarray idx, 3)) (k : AW g Y d Q (hnew h N (.inl (t, N, fun _ => .null))) loc (pc + 3) (.ref h.2.1 :: rest)) (l1 : h.2.1 + 1 ≤ gLc g := by assumption) (l2 : h.2.2 + N ≤ gLs g := by assumption) : AW g Y d Q h loc pc (.int n :: rest) := by
  intro p e R s m args below meth c H locs cells slots mc ms ls A hR hM hL
  have hK : aK g s := A.2.2.2.2.2.2.2.1
  have hM' := hM
  obtain ⟨m1, m2, m3, m4, m5, m6, m7, m8⟩ := hM'
  subst hN
  refine W.anew A.1 A.2.1 A.2.2.2.2.2.1 (A.2.2.2.2.2.2.1 _ hlk) (hK.ao hov).use rfl dd rfl hn hby (by omega) (by omega) fun cA kA comp g1 g2 g3 g4 => ?_
  obtain ⟨kB, comp', k1, k2, k3, k4⟩ := hK.ra h9 ht
  have hcA : cA = gA g t := Option.some.inj (g1.symm.trans k4)
  subst hcA
  have hz : (H.push { cls := gA g t, slots := Array.replicate n.toNatClampNeg .null, vm := .none }).size = H.size + 1 := by simp
  have hp : (H.push { cls := gA g t, slots := Array.replicate n.toNatClampNeg .null, vm := .none })[H.size]? = some (arrV (gA g t) n.toNatClampNeg fun _ => .null) := by
    rw [← arrV_new]
    simp
  rw [← hR.1]
  refine k p e R s m args below meth c _ locs (cells + 1) (slots + n.toNatClampNeg) mc ms ls A (hR.new hz (fun q hq => by rw [Array.getElem?_push, if_neg (Nat.ne_of_lt hq)]) hp (arrV_size _ _ _) l1 l2 (aArr_new hp)) (hM.new _ l1 l2 hz (hsl_push hz (fun q hq => by rw [Array.getElem?_push, if_neg (Nat.ne_of_lt hq)]) hp)) hL
theorem aw_new {ci N : Nat} {r : vw_C} {ty0 : Nat → FieldType} {fs : List Value} (hlk : Cond.classLink (yO Y) idx r.1 ∈ lw_all) (hin : Cond.instantiable r.1 r.2.2 ∈ lw_all) (hini : Cond.initialized r.1 ∈ lw_all) (h19 : ci < 19) (hc : aCl[ci]? = some r) (hk : aCK r ty0) (hN : r.2.2 = N) (hfs : ∀ j, j < N → defaultValue (ty0 j) = vp_V fs j) (dd : decode (yC Y) pc = .ok (.new idx, 3)) (k : AW g Y d Q (hnew h N (.inr (ci, fs))) loc (pc + 3) (.ref h.2.1 :: rest)) (l1 : h.2.1 + 1 ≤ gLc g := by assumption) (l2 : h.2.2 + N ≤ gLs g := by assumption) : AW g Y d Q h loc pc rest := by
  intro p e R s m args below meth c H locs cells slots mc ms ls A hR hM hL
  subst hN
  have hK : aK g s := A.2.2.2.2.2.2.2.1
  have hts := A.2.2.2.2.2.2.1
  have hM' := hM
  obtain ⟨m1, m2, m3, m4, m5, m6, m7, m8⟩ := hM'
  have hKn := hK.kn h19 hc
  refine W.newcK A.1 A.2.1 A.2.2.2.2.2.1 (hts _ hlk) (hts _ hin) (hts _ hini) rfl dd (by omega) (by omega) hKn.2.1 rfl fun H1 kC hkC e1 z1 o1 => ?_
  obtain ⟨cell, b1, b2, b3, b4⟩ := (u_born ty0 hts hk.1 hKn hkC e1 hk.2.1).to hfs
  have hsz : cell.slots.size = r.2.2 := by
    obtain ⟨c9, k9, y1, y2, -, -, -, y3⟩ := Cond.instantiable_spec (hts _ hin)
    cases Option.some.inj (y1.symm.trans hKn.2.1)
    cases Option.some.inj (y2.symm.trans hkC)
    rw [Option.some.inj (b1.symm.trans e1)]
    simp [blank, y3]
  rw [← hR.1]
  exact k p e R s m args below meth c H1 locs (cells + 1) (slots + r.2.2) mc ms ls A (hR.new z1 o1 b1 hsz l1 l2 ⟨r, cell, hc, b1, b2, by rw [b3]; exact fun z => (by cases z), by rw [b3]; rfl, b4, fun _ => b3⟩) (hM.new _ l1 l2 z1 (hsl_push z1 o1 b1)) hL
/-- a static that nobody writes -/
theorem aw_gets {i : Nat} {q : String × String × String} {v : Value} (hi : aSt[i]? = some q) (hv : gV g i = v) (hlk : Cond.fieldLink (yO Y) idx q.1 q.2.1 q.2.2 ∈ lw_all) (dd : decode (yC Y) pc = .ok (.getstatic idx, 3)) (k : AW g Y d Q h loc (pc + 3) (v :: rest)) : AW g Y d Q h loc pc rest := by
  intro p e R s m args below meth c H locs cells slots mc ms ls A hR hM hL
  have hK : aK g s := A.2.2.2.2.2.2.2.1
  obtain ⟨cf, kf, fi, f, a0, cell, h1, h2, h3, h4, h5, h6, h7, h8⟩ := hK.st hi
  rw [hv] at h7
  have h8 : a0 < gB g := by have h8 : ¬ gB g ≤ a0 := h8; omega
  exact W.gets A.1 A.2.1 A.2.2.2.2.2.1 (A.2.2.2.2.2.2.1 _ hlk) h1 h2 h3 h4 (by rw [hR.2.2.2.1 a0 h8]; exact h5) (fun z => by rw [z] at h6; cases h6) h7 rfl dd (k p e R s m args below meth c H locs cells slots mc ms ls A hR hM hL)
theorem aw_ldcS {i : Nat} {tx : String} (hi : aSr[i]? = some (yO Y, idx, tx)) (dd : decode (yC Y) pc = .ok (.ldc idx, 2)) (k : AW g Y d Q h loc (pc + 2) (.ref (gS g i) :: rest)) : AW g Y d Q h loc pc rest := by
  intro p e R s m args below meth c H locs cells slots mc ms ls A hR hM hL
  have hK : aK g s := A.2.2.2.2.2.2.2.1
  exact va_ldcS A.1 A.2.1 A.2.2.2.2.2.1 (hK.sr hi) dd (k p e R s m args below meth c H locs cells slots mc ms ls A hR hM hL)
theorem aw_ldcM {i : Nat} {C : String} (hi : aMi[i]? = some C) (hlk : Cond.classLink (yO Y) idx C ∈ lw_all) (dd : decode (yC Y) pc = .ok (.ldc idx, 2)) (k : AW g Y d Q h loc (pc + 2) (.ref (gM g i) :: rest)) : AW g Y d Q h loc pc rest := by
  intro p e R s m args below meth c H locs cells slots mc ms ls A hR hM hL
  have hK : aK g s := A.2.2.2.2.2.2.2.1
  exact va_ldcM A.1 A.2.1 A.2.2.2.2.2.1 (A.2.2.2.2.2.2.1 _ hlk) (hK.mi hi) dd (k p e R s m args below meth c H locs cells slots mc ms ls A hR hM hL)
theorem aRecv {g : AG} {h : AH} {H : Heap} {s : State} {a ci : Nat} {fs : List Value} {r : vw_C} (hK : aK g s) (hR : aRel g h H) (ha : h.1 a = some (.inr (ci, fs))) (hc : aCl[ci]? = some r) : ∃ cell : Cell, H[a]? = some cell ∧ cell.vm.isStatics = false ∧ s.vm.findClass r.1 = some cell.cls := by
  obtain ⟨r', cv, v0, v1, v2, v3, v4, -, -⟩ := hR.2.2.1 a _ ha
  exact ⟨cv, v1, v4, by rw [v2]; exact hK.cls hc⟩
theorem aw_castN (dd : decode (yC Y) pc = .ok (.checkcast idx, 3)) (k : AW g Y d Q h loc (pc + 3) (.null :: rest)) : AW g Y d Q h loc pc (.null :: rest) :=
  fun p e R s m args below meth c H locs cells slots mc ms ls A hR hM hL => lv_castN A.1 A.2.1 dd (k p e R s m args below meth c H locs cells slots mc ms ls A hR hM hL)
theorem aw_instN (dd : decode (yC Y) pc = .ok (.instanceof idx, 3)) (k : AW g Y d Q h loc (pc + 3) (.int 0 :: rest)) : AW g Y d Q h loc pc (.null :: rest) :=
  fun p e R s m args below meth c H locs cells slots mc ms ls A hR hM hL => lv_instN A.1 A.2.1 dd (k p e R s m args below meth c H locs cells slots mc ms ls A hR hM hL)
theorem aw_cast {ci : Nat} {fs : List Value} {r : vw_C} {nm : String} (ha : h.1 a = some (.inr (ci, fs))) (hc : aCl[ci]? = some r) (hlk : Cond.classLink (yO Y) idx nm ∈ lw_all) (hn : r.1 = nm ∨ Cond.castable r.1 nm ∈ lw_tbl) (dd : decode (yC Y) pc = .ok (.checkcast idx, 3)) (k : AW g Y d Q h loc (pc + 3) (.ref a :: rest)) : AW g Y d Q h loc pc (.ref a :: rest) := by
  intro p e R s m args below meth c H locs cells slots mc ms ls A hR hM hL
  have hK : aK g s := A.2.2.2.2.2.2.2.1
  have h5 := aRecv hK hR ha hc
  rcases hn with rfl | hn
  · exact va_castE A.1 A.2.1 A.2.2.2.2.2.1 (A.2.2.2.2.2.2.1 _ hlk) h5 dd (k p e R s m args below meth c H locs cells slots mc ms ls A hR hM hL)
  · exact va_castY A.1 A.2.1 A.2.2.2.2.2.1 (A.2.2.2.2.2.2.1 _ hlk) (hK.nw hn rfl) h5 dd (k p e R s m args below meth c H locs cells slots mc ms ls A hR hM hL)
theorem aw_inst {ci : Nat} {fs : List Value} {r : vw_C} {nm : String} (ha : h.1 a = some (.inr (ci, fs))) (hc : aCl[ci]? = some r) (hlk : Cond.classLink (yO Y) idx nm ∈ lw_all) (hn : r.1 = nm ∨ Cond.castable r.1 nm ∈ lw_tbl) (dd : decode (yC Y) pc = .ok (.instanceof idx, 3)) (k : AW g Y d Q h loc (pc + 3) (.int 1 :: rest)) : AW g Y d Q h loc pc (.ref a :: rest) := by
  intro p e R s m args below meth c H locs cells slots mc ms ls A hR hM hL
  have hK : aK g s := A.2.2.2.2.2.2.2.1
  have h5 := aRecv hK hR ha hc
  rcases hn with rfl | hn
  · exact va_instE A.1 A.2.1 A.2.2.2.2.2.1 (A.2.2.2.2.2.2.1 _ hlk) h5 dd (k p e R s m args below meth c H locs cells slots mc ms ls A hR hM hL)
  · exact va_instY A.1 A.2.1 A.2.2.2.2.2.1 (A.2.2.2.2.2.2.1 _ hlk) (hK.nw hn rfl) h5 dd (k p e R s m args below meth c H locs cells slots mc ms ls A hR hM hL)
theorem aw_instNo {ci : Nat} {fs : List Value} {r : vw_C} {nm : String} (ha : h.1 a = some (.inr (ci, fs))) (hc : aCl[ci]? = some r) (hlk : Cond.classLink (yO Y) idx nm ∈ lw_all) (hn : (r.1, nm) ∈ aNc) (dd : decode (yC Y) pc = .ok (.instanceof idx, 3)) (k : AW g Y d Q h loc (pc + 3) (.int 0 :: rest)) : AW g Y d Q h loc pc (.ref a :: rest) := by
  intro p e R s m args below meth c H locs cells slots mc ms ls A hR hM hL
  have hK : aK g s := A.2.2.2.2.2.2.2.1
  exact va_instNo A.1 A.2.1 A.2.2.2.2.2.1 (A.2.2.2.2.2.2.1 _ hlk) (hK.nc hn) (aRecv hK hR ha hc) dd (k p e R s m args below meth c H locs cells slots mc ms ls A hR hM hL)
/-- an array cast to its own class -/
theorem aw_castA {t n : Nat} {f : Nat → Value} {C : String} (ha : h.1 a = some (.inl (t, n, f))) (h9 : t < 9) (ht : aTy[t]? = some (.object C)) (hlk : Cond.classLink (yO Y) idx ("[" ++ (FieldType.object C).toString) ∈ lw_all) (dd : decode (yC Y) pc = .ok (.checkcast idx, 3)) (k : AW g Y d Q h loc (pc + 3) (.ref a :: rest)) : AW g Y d Q h loc pc (.ref a :: rest) := by
  intro p e R s m args below meth c H locs cells slots mc ms ls A hR hM hL
  have hK : aK g s := A.2.2.2.2.2.2.2.1
  obtain ⟨cell, e1, e2, e3, e4, e5, e6, e7, e8⟩ := hR.2.2.1 a _ ha
  obtain ⟨kA, comp, k1, k2, k3, k4⟩ := hK.ra h9 ht
  intro T hT X
  obtain ⟨vm', X', st⟩ := X.checkcastYes A.1 A.2.2.2.2.2.1 (A.2.2.2.2.2.2.1 _ hlk) (by rw [hT]; exact e1) e4 k4 (by rw [e2]; exact va_asg _ _) (g := F0 m pc ls (.ref a :: rest)) rfl rfl (by rw [A.2.1]; exact dd)
  obtain ⟨t, a1, b1⟩ := k p e R s m args below meth c H locs cells slots mc ms ls A hR hM hL (T.setVm vm') hT X'
  exact ⟨t, st t a1, b1⟩
/-- Object.<init> -/
theorem aw_objInit (hl : Cond.methodLink (yO Y) idx Lib.objectInit ∈ lw_all) (hi : Cond.instanceMethod Lib.objectInit ∈ lw_all) (hc : Cond.code Lib.objectInit ⟨#[0xb1]⟩ 1 none ∈ lw_all) (hd : 1 ≤ d) (hr : (rest.map fun v => v.category).sum ≤ 8) (dd : decode (yC Y) pc = .ok (.invokespecial idx, 3)) (k : AW g Y d Q h loc (pc + 3) rest) : AW g Y d Q h loc pc (.ref a :: rest) := by
  intro p e R s m args below meth c H locs cells slots mc ms ls A hR hM hL
  have hts := A.2.2.2.2.2.2.1
  obtain ⟨m1, m2, m3, m4, m5, m6, m7, m8⟩ := id hM
  refine W.objInit A.1 A.2.1 A.2.2.2.2.2.1 (hts _ hl) (hts _ hi) (hts _ hc) rfl (by rw [A.2.2.1]; exact hL.1) rfl dd (by omega) ?_ (k p e R s m args below meth c H locs cells slots mc ms ls A hR hM hL)
  have h0 := lv_room (m := m) (pc := pc) (ls := ls) (rest := .ref a :: rest) hr
  have h1 : 2 * (F0 m pc ls (.ref a :: rest)).monitorRoom + (rest.map fun v => v.category).sum ≤ 8 := h0
  omega
end AWM
