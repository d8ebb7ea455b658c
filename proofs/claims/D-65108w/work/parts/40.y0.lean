/-! THE COMPONENT AND THE JDK as functions of the heap, and their contracts: printed by wip gen/dec2.py -/
set_option maxRecDepth 100000
abbrev YJ0_init : YC := (yJ0_init, cJ0_init, 1, none, [])
theorem kJ0_init : aMk YJ0_init 0 := ⟨rfl, q224, q119, ⟨by decide +kernel, by decide +kernel, by decide +kernel⟩, Nat.le_of_ble_eq_true rfl⟩
def x_J0_init (g : AG) (N : Nat) (h : AH) (x0 : Nat) : Option AH :=
  some h
theorem ct_J0_init (g : AG) (hst : (gL g).stackTraces = false) (N : Nat) : ∀ (h : AH) (x0 : Nat) (q : AH), x_J0_init g N h x0 = some q → CT g YJ0_init 3 [.ref x0] h (xV q) := by
  intro h x0 q hq
  refine CT.of rfl (by decide +kernel) (loc := [some (.ref x0)]) (by first | exact Nat.le_of_ble_eq_true rfl | (simp only [lgl_rf, lgl_i, lgl_j, lgl_ref, lgl_nil]; exact Nat.le_of_ble_eq_true rfl)) (by first | rfl | (simp only [aent_rf, aent_i, aent_j, aent_ref, aent_nil]; rfl)) ?_
  unfold x_J0_init at hq
  refine aw_aload_n (i := 0) dJ0_init_0 rfl rfl trivial ?_
  refine aw_objInit q225 qObjI qObjC (by omega) (Nat.le_of_ble_eq_true rfl) dJ0_init_1 ?_
  cases hq
  exact aw_vret dJ0_init_4 rfl ⟨rfl, rfl⟩
abbrev YJ15_hugeLength : YC := (yJ15_hugeLength, cJ15_hugeLength, 3, (some .int), [])
theorem kJ15_hugeLength : aMk YJ15_hugeLength 2 := ⟨rfl, q544, q136, ⟨by decide +kernel, by decide +kernel, by decide +kernel⟩, Nat.le_of_ble_eq_true rfl⟩
def x_J15_hugeLength (g : AG) (N : Nat) (h : AH) (x0 : Int32) (x1 : Int32) : Option (Int32 × AH) :=
  if 0 ≤ (x0 + x1) then (if (2147483639 : Int32) < (x0 + x1) then (some ((x0 + x1), h)) else (some ((2147483639 : Int32), h))) else (none)
theorem ct_J15_hugeLength (g : AG) (hst : (gL g).stackTraces = false) (N : Nat) : ∀ (h : AH) (x0 : Int32) (x1 : Int32) (q : (Int32 × AH)), x_J15_hugeLength g N h x0 x1 = some q → CT g YJ15_hugeLength 1 [.int x0, .int x1] h (xI q) := by
  intro h x0 x1 q hq
  refine CT.of rfl (by decide +kernel) (loc := [some (.int x0), some (.int x1), none]) (by first | exact Nat.le_of_ble_eq_true rfl | (simp only [lgl_rf, lgl_i, lgl_j, lgl_ref, lgl_nil]; exact Nat.le_of_ble_eq_true rfl)) (by first | rfl | (simp only [aent_rf, aent_i, aent_j, aent_ref, aent_nil]; rfl)) ?_
  unfold x_J15_hugeLength at hq
  refine aw_iload_n (i := 0) dJ15_hugeLength_0 rfl rfl ?_
  refine aw_iload_n (i := 1) dJ15_hugeLength_1 rfl rfl ?_
  refine aw_iadd dJ15_hugeLength_2 ?_
  refine aw_istore_n (i := 2) (loc' := [some (.int x0), some (.int x1), some (.int (x0 + x1))]) dJ15_hugeLength_3 rfl (Nat.le_of_ble_eq_true rfl) rfl ?_
  refine aw_iload_n (i := 2) dJ15_hugeLength_4 rfl rfl ?_
  refine aw_if_ge (tgt := 49) dJ15_hugeLength_5 (by decide) (fun c1 => ?_) (fun c1 => ?_)
  · rw [if_pos c1] at hq
    refine aw_iload_n (i := 2) dJ15_hugeLength_49 rfl rfl ?_
    refine aw_ldc (v := (2147483639)) dJ15_hugeLength_50 q541 ?_
    refine aw_icmp_gt (tgt := 58) dJ15_hugeLength_52 (by decide) (fun c2 => ?_) (fun c2 => ?_)
    · rw [if_pos c2] at hq
      refine aw_iload_n (i := 2) dJ15_hugeLength_58 rfl rfl ?_
      cases hq
      exact aw_ireturn dJ15_hugeLength_59 rfl rfl ⟨rfl, rfl⟩
    · rw [if_neg c2] at hq
      refine aw_ldc (v := (2147483639)) dJ15_hugeLength_55 q541 ?_
      cases hq
      exact aw_ireturn dJ15_hugeLength_57 rfl rfl ⟨rfl, rfl⟩
  · rw [if_neg c1] at hq
    cases hq
abbrev YJ15_newLength : YC := (yJ15_newLength, cJ15_newLength, 4, (some .int), [])
theorem kJ15_newLength : aMk YJ15_newLength 3 := ⟨rfl, q537, q136, ⟨by decide +kernel, by decide +kernel, by decide +kernel⟩, Nat.le_of_ble_eq_true rfl⟩
def x_J15_newLength_21 (g : AG) (N : Nat) (h : AH) (x0 : Int32) (x1 : Int32) (x2 : Int32) (x3 : Int32) : Option (Int32 × AH) :=
  (x_J15_hugeLength g N h x0 x1).bind fun q2 => some (q2.1, q2.2)
theorem p_x_J15_newLength_21 (g : AG) (hst : (gL g).stackTraces = false) (N : Nat) : ∀ (h : AH) (x0 : Int32) (x1 : Int32) (x2 : Int32) (x3 : Int32) (q : (Int32 × AH)), x_J15_newLength_21 g N h x0 x1 x2 x3 = some q → AW g YJ15_newLength 3 (xI q) h [some (.int x0), some (.int x1), some (.int x2), some (.int x3)] 21 [] := by
  intro h x0 x1 x2 x3 q hq
  unfold x_J15_newLength_21 at hq
  refine aw_iload_n (i := 0) dJ15_newLength_21 rfl rfl ?_
  refine aw_iload_n (i := 1) dJ15_newLength_22 rfl rfl ?_
  replace hq := obind hq
  obtain ⟨q2, e3, hq⟩ := hq
  refine aw_callS (Y2 := YJ15_hugeLength) (As := [.int x0, .int x1]) (rest := []) kJ15_hugeLength q542 q543 dJ15_newLength_23 rfl rfl (ct_J15_hugeLength g hst N h x0 x1 _ e3) (Nat.le_of_ble_eq_true rfl) (Nat.le_of_ble_eq_true rfl) (fun v9 h9 z9 y9 => ?_)
  obtain ⟨rfl, rfl⟩ := y9
  refine aw_st (st' := [.int q2.1]) rfl ?_
  cases hq
  exact aw_ireturn dJ15_newLength_26 rfl rfl ⟨rfl, rfl⟩
def x_J15_newLength (g : AG) (N : Nat) (h : AH) (x0 : Int32) (x1 : Int32) (x2 : Int32) : Option (Int32 × AH) :=
  if (x0 + (if x1 < x2 then x2 else x1)) ≤ (0 : Int32) then (x_J15_newLength_21 g N  h x0 x1 x2 (x0 + (if x1 < x2 then x2 else x1))) else (if (2147483639 : Int32) < (x0 + (if x1 < x2 then x2 else x1)) then (x_J15_newLength_21 g N  h x0 x1 x2 (x0 + (if x1 < x2 then x2 else x1))) else (some ((x0 + (if x1 < x2 then x2 else x1)), h)))
theorem ct_J15_newLength (g : AG) (hst : (gL g).stackTraces = false) (N : Nat) : ∀ (h : AH) (x0 : Int32) (x1 : Int32) (x2 : Int32) (q : (Int32 × AH)), x_J15_newLength g N h x0 x1 x2 = some q → CT g YJ15_newLength 3 [.int x0, .int x1, .int x2] h (xI q) := by
  intro h x0 x1 x2 q hq
  refine CT.of rfl (by decide +kernel) (loc := [some (.int x0), some (.int x1), some (.int x2), none]) (by first | exact Nat.le_of_ble_eq_true rfl | (simp only [lgl_rf, lgl_i, lgl_j, lgl_ref, lgl_nil]; exact Nat.le_of_ble_eq_true rfl)) (by first | rfl | (simp only [aent_rf, aent_i, aent_j, aent_ref, aent_nil]; rfl)) ?_
  unfold x_J15_newLength at hq
  refine aw_iload_n (i := 0) dJ15_newLength_0 rfl rfl ?_
  refine aw_iload_n (i := 1) dJ15_newLength_1 rfl rfl ?_
  refine aw_iload_n (i := 2) dJ15_newLength_2 rfl rfl ?_
  refine aw_mmax q538 (by omega) (Nat.le_of_ble_eq_true rfl) dJ15_newLength_3 ?_
  refine aw_iadd dJ15_newLength_6 ?_
  refine aw_istore_n (i := 3) (loc' := [some (.int x0), some (.int x1), some (.int x2), some (.int (x0 + (if x1 < x2 then x2 else x1)))]) dJ15_newLength_7 rfl (Nat.le_of_ble_eq_true rfl) rfl ?_
  refine aw_iconst (v := 0) dJ15_newLength_8 (by decide) ?_
  refine aw_iload_n (i := 3) dJ15_newLength_9 rfl rfl ?_
  refine aw_icmp_ge (tgt := 21) dJ15_newLength_10 (by decide) (fun c1 => ?_) (fun c1 => ?_)
  · rw [if_pos c1] at hq
    exact p_x_J15_newLength_21 g hst N   h x0 x1 x2 (x0 + (if x1 < x2 then x2 else x1)) _ hq
  · rw [if_neg c1] at hq
    refine aw_iload_n (i := 3) dJ15_newLength_13 rfl rfl ?_
    refine aw_ldc (v := (2147483639)) dJ15_newLength_14 q541 ?_
    refine aw_icmp_gt (tgt := 21) dJ15_newLength_16 (by decide) (fun c4 => ?_) (fun c4 => ?_)
    · rw [if_pos c4] at hq
      exact p_x_J15_newLength_21 g hst N   h x0 x1 x2 (x0 + (if x1 < x2 then x2 else x1)) _ hq
    · rw [if_neg c4] at hq
      refine aw_iload_n (i := 3) dJ15_newLength_19 rfl rfl ?_
      cases hq
      exact aw_ireturn dJ15_newLength_20 rfl rfl ⟨rfl, rfl⟩
theorem fJ11_15 : ∀ q ∈ ([(16, 0)] : List (Nat × Nat)), aFl RJ11 15 q.1 q.2 := by
  intro q hq
  simp only [List.mem_cons, List.not_mem_nil, or_false] at hq
  subst hq
  exact aFl.of (RJ12, TJ12, 4) rfl (Nat.le_of_ble_eq_true rfl) q500
theorem fJ11_22 : ∀ q ∈ ([(16, 1)] : List (Nat × Nat)), aFl RJ11 22 q.1 q.2 := by
  intro q hq
  simp only [List.mem_cons, List.not_mem_nil, or_false] at hq
  subst hq
  exact aFl.of (RJ12, TJ12, 4) rfl (Nat.le_of_ble_eq_true rfl) q501
abbrev YJ11_newCapacity : YC := (yJ11_newCapacity, cJ11_newCapacity, 6, (some .int), [])
theorem kJ11_newCapacity : aMk YJ11_newCapacity 1 := ⟨rfl, q534, q132, ⟨by decide +kernel, by decide +kernel, by decide +kernel⟩, Nat.le_of_ble_eq_true rfl⟩
def x_J11_newCapacity (g : AG) (N : Nat) (h : AH) (x0 : Nat) (x1 : Int32) : Option (Int32 × AH) :=
  (rdR h x0 [(16, 0)]).bind fun o1 => (o1).bind fun a3 => (rdN h a3).bind fun i5 => (rdI h x0 [(16, 1)]).bind fun i7 => (rdI h x0 [(16, 1)]).bind fun i9 => (x_J15_newLength g N h i5 ((x1 <<< (i7 &&& 31)) - i5) (i5 + ((2 : Int32) <<< (i9 &&& 31)))).bind fun q11 => if q11.1 = (2147483647 : Int32) then (none) else ((rdI q11.2 x0 [(16, 1)]).bind fun i14 => some ((q11.1 >>> (i14 &&& 31)), q11.2))
theorem ct_J11_newCapacity (g : AG) (hst : (gL g).stackTraces = false) (N : Nat) : ∀ (h : AH) (x0 : Nat) (x1 : Int32) (q : (Int32 × AH)), x_J11_newCapacity g N h x0 x1 = some q → CT g YJ11_newCapacity 4 [.ref x0, .int x1] h (xI q) := by
  intro h x0 x1 q hq
  refine CT.of rfl (by decide +kernel) (loc := [some (.ref x0), some (.int x1), none, none, none, none]) (by first | exact Nat.le_of_ble_eq_true rfl | (simp only [lgl_rf, lgl_i, lgl_j, lgl_ref, lgl_nil]; exact Nat.le_of_ble_eq_true rfl)) (by first | rfl | (simp only [aent_rf, aent_i, aent_j, aent_ref, aent_nil]; rfl)) ?_
  unfold x_J11_newCapacity at hq
  refine aw_aload_n (i := 0) dJ11_newCapacity_0 rfl rfl trivial ?_
  replace hq := obind hq
  obtain ⟨o1, e2, hq⟩ := hq
  refine xw_getR e2 fJ11_15 dJ11_newCapacity_1 ?_
  replace hq := obind hq
  obtain ⟨a3, e4, hq⟩ := hq
  subst e4
  replace hq := obind hq
  obtain ⟨i5, e6, hq⟩ := hq
  refine xw_alen e6 dJ11_newCapacity_4 ?_
  refine aw_istore_n (i := 2) (loc' := [some (.ref x0), some (.int x1), some (.int i5), none, none, none]) dJ11_newCapacity_5 rfl (Nat.le_of_ble_eq_true rfl) rfl ?_
  refine aw_iload_n (i := 1) dJ11_newCapacity_6 rfl rfl ?_
  refine aw_aload_n (i := 0) dJ11_newCapacity_7 rfl rfl trivial ?_
  replace hq := obind hq
  obtain ⟨i7, e8, hq⟩ := hq
  refine xw_getI e8 fJ11_22 dJ11_newCapacity_8 ?_
  refine aw_ishl dJ11_newCapacity_11 ?_
  refine aw_istore_n (i := 3) (loc' := [some (.ref x0), some (.int x1), some (.int i5), some (.int (x1 <<< (i7 &&& 31))), none, none]) dJ11_newCapacity_12 rfl (Nat.le_of_ble_eq_true rfl) rfl ?_
  refine aw_iload_n (i := 3) dJ11_newCapacity_13 rfl rfl ?_
  refine aw_iload_n (i := 2) dJ11_newCapacity_14 rfl rfl ?_
  refine aw_isub dJ11_newCapacity_15 ?_
  refine aw_istore (loc' := [some (.ref x0), some (.int x1), some (.int i5), some (.int (x1 <<< (i7 &&& 31))), some (.int ((x1 <<< (i7 &&& 31)) - i5)), none]) dJ11_newCapacity_16 (Nat.le_of_ble_eq_true rfl) rfl ?_
  refine aw_iload_n (i := 2) dJ11_newCapacity_18 rfl rfl ?_
  refine aw_iload dJ11_newCapacity_19 rfl ?_
  refine aw_iload_n (i := 2) dJ11_newCapacity_21 rfl rfl ?_
  refine aw_iconst (v := 2) dJ11_newCapacity_22 (by decide) ?_
  refine aw_aload_n (i := 0) dJ11_newCapacity_23 rfl rfl trivial ?_
  replace hq := obind hq
  obtain ⟨i9, e10, hq⟩ := hq
  refine xw_getI e10 fJ11_22 dJ11_newCapacity_24 ?_
  refine aw_ishl dJ11_newCapacity_27 ?_
  refine aw_iadd dJ11_newCapacity_28 ?_
  replace hq := obind hq
  obtain ⟨q11, e12, hq⟩ := hq
  refine aw_callS (Y2 := YJ15_newLength) (As := [.int i5, .int ((x1 <<< (i7 &&& 31)) - i5), .int (i5 + ((2 : Int32) <<< (i9 &&& 31)))]) (rest := []) kJ15_newLength q535 q536 dJ11_newCapacity_29 rfl rfl (ct_J15_newLength g hst N h i5 ((x1 <<< (i7 &&& 31)) - i5) (i5 + ((2 : Int32) <<< (i9 &&& 31))) _ e12) (Nat.le_of_ble_eq_true rfl) (Nat.le_of_ble_eq_true rfl) (fun v9 h9 z9 y9 => ?_)
  obtain ⟨rfl, rfl⟩ := y9
  refine aw_st (st' := [.int q11.1]) rfl ?_
  refine aw_istore (loc' := [some (.ref x0), some (.int x1), some (.int i5), some (.int (x1 <<< (i7 &&& 31))), some (.int ((x1 <<< (i7 &&& 31)) - i5)), some (.int q11.1)]) dJ11_newCapacity_32 (Nat.le_of_ble_eq_true rfl) rfl ?_
  refine aw_iload dJ11_newCapacity_34 rfl ?_
  refine aw_ldc (v := (2147483647)) dJ11_newCapacity_36 q545 ?_
  refine aw_icmp_ne (tgt := 51) dJ11_newCapacity_38 (by decide) (fun c13 => ?_) (fun c13 => ?_)
  · rw [if_neg c13] at hq
    refine aw_iload dJ11_newCapacity_51 rfl ?_
    refine aw_aload_n (i := 0) dJ11_newCapacity_53 rfl rfl trivial ?_
    replace hq := obind hq
    obtain ⟨i14, e15, hq⟩ := hq
    refine xw_getI e15 fJ11_22 dJ11_newCapacity_54 ?_
    refine aw_ishr dJ11_newCapacity_57 ?_
    cases hq
    exact aw_ireturn dJ11_newCapacity_58 rfl rfl ⟨rfl, rfl⟩
  · rw [if_pos c13] at hq
    cases hq
abbrev YJ17_copyOf : YC := (yJ17_copyOf, cJ17_copyOf, 3, (some (.array .byte)), [])
theorem kJ17_copyOf : aMk YJ17_copyOf 2 := ⟨rfl, q548, q138, ⟨by decide +kernel, by decide +kernel, by decide +kernel⟩, Nat.le_of_ble_eq_true rfl⟩
def x_J17_copyOf (g : AG) (N : Nat) (h : AH) (r0 : Option Nat) (x1 : Int32) : Option (Option Nat × AH) :=
  (r0).bind fun a1 => (rdN h a1).bind fun i3 => if x1 = i3 then ((clA g h a1 3).bind fun h12 => bif arB h12 h.2.1 3 then (some ((some h.2.1), h12)) else none) else ((mkA g h 3 x1 (.int 0)).bind fun h6 => (rdN h6 a1).bind fun i8 => (cpA g h6 a1 (0 : Int32) h.2.1 (0 : Int32) (if x1 < i8 then x1 else i8)).bind fun h10 => some ((some h.2.1), h10))
theorem ct_J17_copyOf (g : AG) (hst : (gL g).stackTraces = false) (N : Nat) : ∀ (h : AH) (r0 : Option Nat) (x1 : Int32) (q : (Option Nat × AH)), x_J17_copyOf g N h r0 x1 = some q → CT g YJ17_copyOf 3 [va_rf r0, .int x1] h (xR q) := by
  intro h r0 x1 q hq
  refine CT.of rfl (by decide +kernel) (loc := [some (va_rf r0), some (.int x1), none]) (by first | exact Nat.le_of_ble_eq_true rfl | (simp only [lgl_rf, lgl_i, lgl_j, lgl_ref, lgl_nil]; exact Nat.le_of_ble_eq_true rfl)) (by first | rfl | (simp only [aent_rf, aent_i, aent_j, aent_ref, aent_nil]; rfl)) ?_
  unfold x_J17_copyOf at hq
  refine aw_iload_n (i := 1) dJ17_copyOf_0 rfl rfl ?_
  refine aw_aload_n (i := 0) dJ17_copyOf_1 rfl rfl (aIsR_rf _) ?_
  replace hq := obind hq
  obtain ⟨a1, e2, hq⟩ := hq
  subst e2
  replace hq := obind hq
  obtain ⟨i3, e4, hq⟩ := hq
  refine xw_alen e4 dJ17_copyOf_2 ?_
  refine aw_icmp_ne (tgt := 14) dJ17_copyOf_3 (by decide) (fun c5 => ?_) (fun c5 => ?_)
  · rw [if_neg c5] at hq
    refine aw_iload_n (i := 1) dJ17_copyOf_14 rfl rfl ?_
    replace hq := obind hq
    obtain ⟨h6, e7, hq⟩ := hq
    refine xw_newa (atype := .byte) e7 q210 rfl (by decide) rfl (by decide) dJ17_copyOf_15 ?_
    refine aw_astore_n (i := 2) (loc' := [some (.ref a1), some (.int x1), some (.ref h.2.1)]) dJ17_copyOf_17 rfl (Nat.le_of_ble_eq_true rfl) trivial rfl ?_
    refine aw_aload_n (i := 0) dJ17_copyOf_18 rfl rfl trivial ?_
    refine aw_iconst (v := 0) dJ17_copyOf_19 (by decide) ?_
    refine aw_aload_n (i := 2) dJ17_copyOf_20 rfl rfl trivial ?_
    refine aw_iconst (v := 0) dJ17_copyOf_21 (by decide) ?_
    refine aw_aload_n (i := 0) dJ17_copyOf_22 rfl rfl trivial ?_
    replace hq := obind hq
    obtain ⟨i8, e9, hq⟩ := hq
    refine xw_alen e9 dJ17_copyOf_23 ?_
    refine aw_iload_n (i := 1) dJ17_copyOf_24 rfl rfl ?_
    refine aw_mmin q556 (by omega) (Nat.le_of_ble_eq_true rfl) dJ17_copyOf_25 ?_
    replace hq := obind hq
    obtain ⟨h10, e11, hq⟩ := hq
    refine xw_copy e11 q559 (by omega) (Nat.le_of_ble_eq_true rfl) dJ17_copyOf_28 ?_
    refine aw_aload_n (i := 2) dJ17_copyOf_31 rfl rfl trivial ?_
    cases hq
    exact aw_areturn dJ17_copyOf_32 rfl (Or.inr ⟨_, rfl⟩) trivial ⟨rfl, rfl⟩
  · rw [if_pos c5] at hq
    refine aw_aload_n (i := 0) dJ17_copyOf_6 rfl rfl trivial ?_
    replace hq := obind hq
    obtain ⟨h12, e13, hq⟩ := hq
    refine xw_clone3 e13 q549 (by omega) (Nat.le_of_ble_eq_true rfl) dJ17_copyOf_7 ?_
    replace hq := cond_t hq
    obtain ⟨z14, hq⟩ := hq
    refine xw_castB z14 q555 dJ17_copyOf_10 ?_
    cases hq
    exact aw_areturn dJ17_copyOf_13 rfl (Or.inr ⟨_, rfl⟩) trivial ⟨rfl, rfl⟩
theorem okJ12 : aCK (RJ12, TJ12, 4) tyJ12 := ⟨in_J12, tyJ12_ok, nmJ12⟩
theorem tJ12_0 : ∀ q ∈ ([(16, 0)] : List (Nat × Nat)), aFt q.1 q.2 false (.array .byte) := by
  intro q hq
  simp only [List.mem_cons, List.not_mem_nil, or_false] at hq
  subst hq
  exact ⟨(RJ12, TJ12, 4), tyJ12, Nat.le_of_ble_eq_true rfl, rfl, Nat.le_of_ble_eq_true rfl, okJ12, rfl, rfl⟩
abbrev YJ11_ensureCapacityInternal : YC := (yJ11_ensureCapacityInternal, cJ11_ensureCapacityInternal, 3, none, [])
theorem kJ11_ensureCapacityInternal : aMk YJ11_ensureCapacityInternal 1 := ⟨rfl, q530, q132, ⟨by decide +kernel, by decide +kernel, by decide +kernel⟩, Nat.le_of_ble_eq_true rfl⟩
def x_J11_ensureCapacityInternal (g : AG) (N : Nat) (h : AH) (x0 : Nat) (x1 : Int32) : Option AH :=
  (rdR h x0 [(16, 0)]).bind fun o1 => (o1).bind fun a3 => (rdN h a3).bind fun i5 => (rdI h x0 [(16, 1)]).bind fun i7 => if (x1 - (i5 >>> (i7 &&& 31))) ≤ 0 then (some h) else ((rdR h x0 [(16, 0)]).bind fun o10 => bif clB h x0 [16] then ((x_J11_newCapacity g N h x0 x1).bind fun q13 => (rdI q13.2 x0 [(16, 1)]).bind fun i15 => (x_J17_copyOf g N q13.2 o10 (q13.1 <<< (i15 &&& 31))).bind fun q17 => (wrV g q17.2 x0 [(16, 0)] (va_rf q17.1)).bind fun h19 => some h19) else none)
theorem ct_J11_ensureCapacityInternal (g : AG) (hst : (gL g).stackTraces = false) (N : Nat) : ∀ (h : AH) (x0 : Nat) (x1 : Int32) (q : AH), x_J11_ensureCapacityInternal g N h x0 x1 = some q → CT g YJ11_ensureCapacityInternal 5 [.ref x0, .int x1] h (xV q) := by
  intro h x0 x1 q hq
  refine CT.of rfl (by decide +kernel) (loc := [some (.ref x0), some (.int x1), none]) (by first | exact Nat.le_of_ble_eq_true rfl | (simp only [lgl_rf, lgl_i, lgl_j, lgl_ref, lgl_nil]; exact Nat.le_of_ble_eq_true rfl)) (by first | rfl | (simp only [aent_rf, aent_i, aent_j, aent_ref, aent_nil]; rfl)) ?_
  unfold x_J11_ensureCapacityInternal at hq
  refine aw_aload_n (i := 0) dJ11_ensureCapacityInternal_0 rfl rfl trivial ?_
  replace hq := obind hq
  obtain ⟨o1, e2, hq⟩ := hq
  refine xw_getR e2 fJ11_15 dJ11_ensureCapacityInternal_1 ?_
  replace hq := obind hq
  obtain ⟨a3, e4, hq⟩ := hq
  subst e4
  replace hq := obind hq
  obtain ⟨i5, e6, hq⟩ := hq
  refine xw_alen e6 dJ11_ensureCapacityInternal_4 ?_
  refine aw_aload_n (i := 0) dJ11_ensureCapacityInternal_5 rfl rfl trivial ?_
  replace hq := obind hq
  obtain ⟨i7, e8, hq⟩ := hq
  refine xw_getI e8 fJ11_22 dJ11_ensureCapacityInternal_6 ?_
  refine aw_ishr dJ11_ensureCapacityInternal_9 ?_
  refine aw_istore_n (i := 2) (loc' := [some (.ref x0), some (.int x1), some (.int (i5 >>> (i7 &&& 31)))]) dJ11_ensureCapacityInternal_10 rfl (Nat.le_of_ble_eq_true rfl) rfl ?_
  refine aw_iload_n (i := 1) dJ11_ensureCapacityInternal_11 rfl rfl ?_
  refine aw_iload_n (i := 2) dJ11_ensureCapacityInternal_12 rfl rfl ?_
  refine aw_isub dJ11_ensureCapacityInternal_13 ?_
  refine aw_if_le (tgt := 38) dJ11_ensureCapacityInternal_14 (by decide) (fun c9 => ?_) (fun c9 => ?_)
  · rw [if_pos c9] at hq
    cases hq
    exact aw_vret dJ11_ensureCapacityInternal_38 rfl ⟨rfl, rfl⟩
  · rw [if_neg c9] at hq
    refine aw_aload_n (i := 0) dJ11_ensureCapacityInternal_17 rfl rfl trivial ?_
    refine aw_aload_n (i := 0) dJ11_ensureCapacityInternal_18 rfl rfl trivial ?_
    replace hq := obind hq
    obtain ⟨o10, e11, hq⟩ := hq
    refine xw_getR e11 fJ11_15 dJ11_ensureCapacityInternal_19 ?_
    refine aw_aload_n (i := 0) dJ11_ensureCapacityInternal_22 rfl rfl trivial ?_
    refine aw_iload_n (i := 1) dJ11_ensureCapacityInternal_23 rfl rfl ?_
    replace hq := cond_t hq
    obtain ⟨z12, hq⟩ := hq
    obtain ⟨fs9, ha9⟩ := clB1 z12
    replace hq := obind hq
    obtain ⟨q13, e14, hq⟩ := hq
    refine aw_callP (Y2 := YJ11_newCapacity) (As := [.int x1]) (rest := [va_rf o10, .ref x0]) (r := (RJ12, TJ12, 4)) kJ11_newCapacity ha9 rfl q531 q2773 q533 q483 q532 qSBsel rfl dJ11_ensureCapacityInternal_24 rfl rfl (ct_J11_newCapacity g hst N h x0 x1 _ e14) (Nat.le_of_ble_eq_true rfl) (by simp only [List.map_cons, List.map_nil, List.sum_cons, List.sum_nil, cat_rf]; exact Nat.le_of_ble_eq_true rfl) (fun v9 h9 z9 y9 => ?_)
    obtain ⟨rfl, rfl⟩ := y9
    refine aw_st (st' := [.int q13.1, va_rf o10, .ref x0]) rfl ?_
    refine aw_aload_n (i := 0) dJ11_ensureCapacityInternal_27 rfl rfl trivial ?_
    replace hq := obind hq
    obtain ⟨i15, e16, hq⟩ := hq
    refine xw_getI e16 fJ11_22 dJ11_ensureCapacityInternal_28 ?_
    refine aw_ishl dJ11_ensureCapacityInternal_31 ?_
    replace hq := obind hq
    obtain ⟨q17, e18, hq⟩ := hq
    refine aw_callS (Y2 := YJ17_copyOf) (As := [va_rf o10, .int (q13.1 <<< (i15 &&& 31))]) (rest := [.ref x0]) kJ17_copyOf q546 q547 dJ11_ensureCapacityInternal_32 rfl rfl (ct_J17_copyOf g hst N q13.2 o10 (q13.1 <<< (i15 &&& 31)) _ e18) (Nat.le_of_ble_eq_true rfl) (Nat.le_of_ble_eq_true rfl) (fun v9 h9 z9 y9 => ?_)
    obtain ⟨rfl, rfl⟩ := y9
    refine aw_st (st' := [va_rf q17.1, .ref x0]) rfl ?_
    replace hq := obind hq
    obtain ⟨h19, e20, hq⟩ := hq
    refine xw_put e20 fJ11_15 tJ12_0 (fits_rfA _ q17.1) dJ11_ensureCapacityInternal_35 ?_
    cases hq
    exact aw_vret dJ11_ensureCapacityInternal_38 rfl ⟨rfl, rfl⟩
abbrev YJ11_isLatin1 : YC := (yJ11_isLatin1, cJ11_isLatin1, 1, (some .boolean), [])
theorem kJ11_isLatin1 : aMk YJ11_isLatin1 0 := ⟨rfl, q566, q132, ⟨by decide +kernel, by decide +kernel, by decide +kernel⟩, Nat.le_of_ble_eq_true rfl⟩
def x_J11_isLatin1 (g : AG) (N : Nat) (h : AH) (x0 : Nat) : Option (Int32 × AH) :=
  (vI (gV g 16)).bind fun i1 => if i1 = 0 then (some ((0 : Int32), h)) else ((rdI h x0 [(16, 1)]).bind fun i4 => if i4 = 0 then (some ((1 : Int32), h)) else (some ((0 : Int32), h)))
theorem ct_J11_isLatin1 (g : AG) (hst : (gL g).stackTraces = false) (N : Nat) : ∀ (h : AH) (x0 : Nat) (q : (Int32 × AH)), x_J11_isLatin1 g N h x0 = some q → CT g YJ11_isLatin1 1 [.ref x0] h (xI q) := by
  intro h x0 q hq
  refine CT.of rfl (by decide +kernel) (loc := [some (.ref x0)]) (by first | exact Nat.le_of_ble_eq_true rfl | (simp only [lgl_rf, lgl_i, lgl_j, lgl_ref, lgl_nil]; exact Nat.le_of_ble_eq_true rfl)) (by first | rfl | (simp only [aent_rf, aent_i, aent_j, aent_ref, aent_nil]; rfl)) ?_
  unfold x_J11_isLatin1 at hq
  replace hq := obind hq
  obtain ⟨i1, e2, hq⟩ := hq
  refine xw_gets (i := 16) (vI_eq e2) rfl q491 dJ11_isLatin1_0 rfl ?_
  refine aw_if_eq (tgt := 17) dJ11_isLatin1_3 (by decide) (fun c3 => ?_) (fun c3 => ?_)
  · rw [if_pos c3] at hq
    refine aw_iconst (v := 0) dJ11_isLatin1_17 (by decide) ?_
    cases hq
    exact aw_ireturn dJ11_isLatin1_18 rfl rfl ⟨rfl, rfl⟩
  · rw [if_neg c3] at hq
    refine aw_aload_n (i := 0) dJ11_isLatin1_6 rfl rfl trivial ?_
    replace hq := obind hq
    obtain ⟨i4, e5, hq⟩ := hq
    refine xw_getI e5 fJ11_22 dJ11_isLatin1_7 ?_
    refine aw_if_ne (tgt := 17) dJ11_isLatin1_10 (by decide) (fun c6 => ?_) (fun c6 => ?_)
    · rw [if_neg c6] at hq
      refine aw_iconst (v := 0) dJ11_isLatin1_17 (by decide) ?_
      cases hq
      exact aw_ireturn dJ11_isLatin1_18 rfl rfl ⟨rfl, rfl⟩
    · rw [if_pos c6] at hq
      refine aw_iconst (v := 1) dJ11_isLatin1_13 (by decide) ?_
      refine aw_goto (tgt := 18) dJ11_isLatin1_14 (by decide) ?_
      cases hq
      exact aw_ireturn dJ11_isLatin1_18 rfl rfl ⟨rfl, rfl⟩
abbrev YJ18_canEncode : YC := (yJ18_canEncode, cJ18_canEncode, 1, (some .boolean), [])
theorem kJ18_canEncode : aMk YJ18_canEncode 1 := ⟨rfl, q569, q140, ⟨by decide +kernel, by decide +kernel, by decide +kernel⟩, Nat.le_of_ble_eq_true rfl⟩
def x_J18_canEncode (g : AG) (N : Nat) (h : AH) (x0 : Int32) : Option (Int32 × AH) :=
  if (255 : Int32) < x0 then (some ((0 : Int32), h)) else (some ((1 : Int32), h))
theorem ct_J18_canEncode (g : AG) (hst : (gL g).stackTraces = false) (N : Nat) : ∀ (h : AH) (x0 : Int32) (q : (Int32 × AH)), x_J18_canEncode g N h x0 = some q → CT g YJ18_canEncode 1 [.int x0] h (xI q) := by
  intro h x0 q hq
  refine CT.of rfl (by decide +kernel) (loc := [some (.int x0)]) (by first | exact Nat.le_of_ble_eq_true rfl | (simp only [lgl_rf, lgl_i, lgl_j, lgl_ref, lgl_nil]; exact Nat.le_of_ble_eq_true rfl)) (by first | rfl | (simp only [aent_rf, aent_i, aent_j, aent_ref, aent_nil]; rfl)) ?_
  unfold x_J18_canEncode at hq
  refine aw_iload_n (i := 0) dJ18_canEncode_0 rfl rfl ?_
  refine aw_sipush (v := 255) dJ18_canEncode_1 (by decide) ?_
  refine aw_icmp_gt (tgt := 11) dJ18_canEncode_4 (by decide) (fun c1 => ?_) (fun c1 => ?_)
  · rw [if_pos c1] at hq
    refine aw_iconst (v := 0) dJ18_canEncode_11 (by decide) ?_
    cases hq
    exact aw_ireturn dJ18_canEncode_12 rfl rfl ⟨rfl, rfl⟩
  · rw [if_neg c1] at hq
    refine aw_iconst (v := 1) dJ18_canEncode_7 (by decide) ?_
    refine aw_goto (tgt := 12) dJ18_canEncode_8 (by decide) ?_
    cases hq
    exact aw_ireturn dJ18_canEncode_12 rfl rfl ⟨rfl, rfl⟩
abbrev YJ14_newBytesLength : YC := (yJ14_newBytesLength, cJ14_newBytesLength, 1, (some .int), [])
theorem kJ14_newBytesLength : aMk YJ14_newBytesLength 1 := ⟨rfl, q498, q135, ⟨by decide +kernel, by decide +kernel, by decide +kernel⟩, Nat.le_of_ble_eq_true rfl⟩
def x_J14_newBytesLength (g : AG) (N : Nat) (h : AH) (x0 : Int32) : Option (Int32 × AH) :=
  if 0 ≤ x0 then (if x0 < (1073741823 : Int32) then (some ((x0 <<< ((1 : Int32) &&& 31)), h)) else (none)) else (none)
theorem ct_J14_newBytesLength (g : AG) (hst : (gL g).stackTraces = false) (N : Nat) : ∀ (h : AH) (x0 : Int32) (q : (Int32 × AH)), x_J14_newBytesLength g N h x0 = some q → CT g YJ14_newBytesLength 1 [.int x0] h (xI q) := by
  intro h x0 q hq
  refine CT.of rfl (by decide +kernel) (loc := [some (.int x0)]) (by first | exact Nat.le_of_ble_eq_true rfl | (simp only [lgl_rf, lgl_i, lgl_j, lgl_ref, lgl_nil]; exact Nat.le_of_ble_eq_true rfl)) (by first | rfl | (simp only [aent_rf, aent_i, aent_j, aent_ref, aent_nil]; rfl)) ?_
  unfold x_J14_newBytesLength at hq
  refine aw_iload_n (i := 0) dJ14_newBytesLength_0 rfl rfl ?_
  refine aw_if_ge (tgt := 12) dJ14_newBytesLength_1 (by decide) (fun c1 => ?_) (fun c1 => ?_)
  · rw [if_pos c1] at hq
    refine aw_iload_n (i := 0) dJ14_newBytesLength_12 rfl rfl ?_
    refine aw_ldc (v := (1073741823)) dJ14_newBytesLength_13 q499 ?_
    refine aw_icmp_lt (tgt := 55) dJ14_newBytesLength_15 (by decide) (fun c2 => ?_) (fun c2 => ?_)
    · rw [if_pos c2] at hq
      refine aw_iload_n (i := 0) dJ14_newBytesLength_55 rfl rfl ?_
      refine aw_iconst (v := 1) dJ14_newBytesLength_56 (by decide) ?_
      refine aw_ishl dJ14_newBytesLength_57 ?_
      cases hq
      exact aw_ireturn dJ14_newBytesLength_58 rfl rfl ⟨rfl, rfl⟩
    · rw [if_neg c2] at hq
      cases hq
  · rw [if_neg c1] at hq
    cases hq
abbrev YJ14_newBytesFor : YC := (yJ14_newBytesFor, cJ14_newBytesFor, 1, (some (.array .byte)), [])
theorem kJ14_newBytesFor : aMk YJ14_newBytesFor 1 := ⟨rfl, q495, q135, ⟨by decide +kernel, by decide +kernel, by decide +kernel⟩, Nat.le_of_ble_eq_true rfl⟩
def x_J14_newBytesFor (g : AG) (N : Nat) (h : AH) (x0 : Int32) : Option (Option Nat × AH) :=
  (x_J14_newBytesLength g N h x0).bind fun q1 => (mkA g q1.2 3 q1.1 (.int 0)).bind fun h3 => some ((some q1.2.2.1), h3)
theorem ct_J14_newBytesFor (g : AG) (hst : (gL g).stackTraces = false) (N : Nat) : ∀ (h : AH) (x0 : Int32) (q : (Option Nat × AH)), x_J14_newBytesFor g N h x0 = some q → CT g YJ14_newBytesFor 2 [.int x0] h (xR q) := by
  intro h x0 q hq
  refine CT.of rfl (by decide +kernel) (loc := [some (.int x0)]) (by first | exact Nat.le_of_ble_eq_true rfl | (simp only [lgl_rf, lgl_i, lgl_j, lgl_ref, lgl_nil]; exact Nat.le_of_ble_eq_true rfl)) (by first | rfl | (simp only [aent_rf, aent_i, aent_j, aent_ref, aent_nil]; rfl)) ?_
  unfold x_J14_newBytesFor at hq
  refine aw_iload_n (i := 0) dJ14_newBytesFor_0 rfl rfl ?_
  replace hq := obind hq
  obtain ⟨q1, e2, hq⟩ := hq
  refine aw_callS (Y2 := YJ14_newBytesLength) (As := [.int x0]) (rest := []) kJ14_newBytesLength q496 q497 dJ14_newBytesFor_1 rfl rfl (ct_J14_newBytesLength g hst N h x0 _ e2) (Nat.le_of_ble_eq_true rfl) (Nat.le_of_ble_eq_true rfl) (fun v9 h9 z9 y9 => ?_)
  obtain ⟨rfl, rfl⟩ := y9
  refine aw_st (st' := [.int q1.1]) rfl ?_
  replace hq := obind hq
  obtain ⟨h3, e4, hq⟩ := hq
  refine xw_newa (atype := .byte) e4 q210 rfl (by decide) rfl (by decide) dJ14_newBytesFor_4 ?_
  cases hq
  exact aw_areturn dJ14_newBytesFor_6 rfl (Or.inr ⟨_, rfl⟩) trivial ⟨rfl, rfl⟩
abbrev YJ14_length : YC := (yJ14_length, cJ14_length, 1, (some .int), [])
theorem kJ14_length : aMk YJ14_length 1 := ⟨rfl, q585, q135, ⟨by decide +kernel, by decide +kernel, by decide +kernel⟩, Nat.le_of_ble_eq_true rfl⟩
def x_J14_length (g : AG) (N : Nat) (h : AH) (r0 : Option Nat) : Option (Int32 × AH) :=
  (r0).bind fun a1 => (rdN h a1).bind fun i3 => some ((i3 >>> ((1 : Int32) &&& 31)), h)
theorem ct_J14_length (g : AG) (hst : (gL g).stackTraces = false) (N : Nat) : ∀ (h : AH) (r0 : Option Nat) (q : (Int32 × AH)), x_J14_length g N h r0 = some q → CT g YJ14_length 1 [va_rf r0] h (xI q) := by
  intro h r0 q hq
  refine CT.of rfl (by decide +kernel) (loc := [some (va_rf r0)]) (by first | exact Nat.le_of_ble_eq_true rfl | (simp only [lgl_rf, lgl_i, lgl_j, lgl_ref, lgl_nil]; exact Nat.le_of_ble_eq_true rfl)) (by first | rfl | (simp only [aent_rf, aent_i, aent_j, aent_ref, aent_nil]; rfl)) ?_
  unfold x_J14_length at hq
  refine aw_aload_n (i := 0) dJ14_length_0 rfl rfl (aIsR_rf _) ?_
  replace hq := obind hq
  obtain ⟨a1, e2, hq⟩ := hq
  subst e2
  replace hq := obind hq
  obtain ⟨i3, e4, hq⟩ := hq
  refine xw_alen e4 dJ14_length_1 ?_
  refine aw_iconst (v := 1) dJ14_length_2 (by decide) ?_
  refine aw_ishr dJ14_length_3 ?_
  cases hq
  exact aw_ireturn dJ14_length_4 rfl rfl ⟨rfl, rfl⟩
abbrev YJ19_checkFromIndexSize : YC := (yJ19_checkFromIndexSize, cJ19_checkFromIndexSize, 4, (some .int), [])
theorem kJ19_checkFromIndexSize : aMk YJ19_checkFromIndexSize 4 := ⟨rfl, q593, q141, ⟨by decide +kernel, by decide +kernel, by decide +kernel⟩, Nat.le_of_ble_eq_true rfl⟩
def x_J19_checkFromIndexSize_15 (g : AG) (N : Nat) (h : AH) (x0 : Int32) (x1 : Int32) (x2 : Int32) (r3 : Option Nat) : Option (Int32 × AH) :=
  none
theorem p_x_J19_checkFromIndexSize_15 (g : AG) (hst : (gL g).stackTraces = false) (N : Nat) : ∀ (h : AH) (x0 : Int32) (x1 : Int32) (x2 : Int32) (r3 : Option Nat) (q : (Int32 × AH)), x_J19_checkFromIndexSize_15 g N h x0 x1 x2 r3 = some q → AW g YJ19_checkFromIndexSize 1 (xI q) h [some (.int x0), some (.int x1), some (.int x2), some (va_rf r3)] 15 [] := by
  intro h x0 x1 x2 r3 q hq
  unfold x_J19_checkFromIndexSize_15 at hq
  refine aw_aload_n (i := 3) dJ19_checkFromIndexSize_15 rfl rfl (aIsR_rf _) ?_
  refine aw_iload_n (i := 0) dJ19_checkFromIndexSize_16 rfl rfl ?_
  refine aw_iload_n (i := 1) dJ19_checkFromIndexSize_17 rfl rfl ?_
  refine aw_iload_n (i := 2) dJ19_checkFromIndexSize_18 rfl rfl ?_
  cases hq
def x_J19_checkFromIndexSize (g : AG) (N : Nat) (h : AH) (x0 : Int32) (x1 : Int32) (x2 : Int32) (r3 : Option Nat) : Option (Int32 × AH) :=
  if ((x2 ||| x0) ||| x1) < 0 then (x_J19_checkFromIndexSize_15 g N  h x0 x1 x2 r3) else (if x1 ≤ (x2 - x0) then (some (x0, h)) else (x_J19_checkFromIndexSize_15 g N  h x0 x1 x2 r3))
theorem ct_J19_checkFromIndexSize (g : AG) (hst : (gL g).stackTraces = false) (N : Nat) : ∀ (h : AH) (x0 : Int32) (x1 : Int32) (x2 : Int32) (r3 : Option Nat) (q : (Int32 × AH)), x_J19_checkFromIndexSize g N h x0 x1 x2 r3 = some q → CT g YJ19_checkFromIndexSize 1 [.int x0, .int x1, .int x2, va_rf r3] h (xI q) := by
  intro h x0 x1 x2 r3 q hq
  refine CT.of rfl (by decide +kernel) (loc := [some (.int x0), some (.int x1), some (.int x2), some (va_rf r3)]) (by first | exact Nat.le_of_ble_eq_true rfl | (simp only [lgl_rf, lgl_i, lgl_j, lgl_ref, lgl_nil]; exact Nat.le_of_ble_eq_true rfl)) (by first | rfl | (simp only [aent_rf, aent_i, aent_j, aent_ref, aent_nil]; rfl)) ?_
  unfold x_J19_checkFromIndexSize at hq
  refine aw_iload_n (i := 2) dJ19_checkFromIndexSize_0 rfl rfl ?_
  refine aw_iload_n (i := 0) dJ19_checkFromIndexSize_1 rfl rfl ?_
  refine aw_ior dJ19_checkFromIndexSize_2 ?_
  refine aw_iload_n (i := 1) dJ19_checkFromIndexSize_3 rfl rfl ?_
  refine aw_ior dJ19_checkFromIndexSize_4 ?_
  refine aw_if_lt (tgt := 15) dJ19_checkFromIndexSize_5 (by decide) (fun c1 => ?_) (fun c1 => ?_)
  · rw [if_pos c1] at hq
    exact p_x_J19_checkFromIndexSize_15 g hst N   h x0 x1 x2 r3 _ hq
  · rw [if_neg c1] at hq
    refine aw_iload_n (i := 1) dJ19_checkFromIndexSize_8 rfl rfl ?_
    refine aw_iload_n (i := 2) dJ19_checkFromIndexSize_9 rfl rfl ?_
    refine aw_iload_n (i := 0) dJ19_checkFromIndexSize_10 rfl rfl ?_
    refine aw_isub dJ19_checkFromIndexSize_11 ?_
    refine aw_icmp_le (tgt := 23) dJ19_checkFromIndexSize_12 (by decide) (fun c2 => ?_) (fun c2 => ?_)
    · rw [if_pos c2] at hq
      refine aw_iload_n (i := 0) dJ19_checkFromIndexSize_23 rfl rfl ?_
      cases hq
      exact aw_ireturn dJ19_checkFromIndexSize_24 rfl rfl ⟨rfl, rfl⟩
    · rw [if_neg c2] at hq
      exact p_x_J19_checkFromIndexSize_15 g hst N   h x0 x1 x2 r3 _ hq
abbrev YJ13_checkBoundsOffCount : YC := (yJ13_checkBoundsOffCount, cJ13_checkBoundsOffCount, 3, (some .int), [])
theorem kJ13_checkBoundsOffCount : aMk YJ13_checkBoundsOffCount 3 := ⟨rfl, q588, q134, ⟨by decide +kernel, by decide +kernel, by decide +kernel⟩, Nat.le_of_ble_eq_true rfl⟩
def x_J13_checkBoundsOffCount (g : AG) (N : Nat) (h : AH) (x0 : Int32) (x1 : Int32) (x2 : Int32) : Option (Int32 × AH) :=
  (vR (gV g 30)).bind fun o1 => (x_J19_checkFromIndexSize g N h x0 x1 x2 o1).bind fun q3 => some (q3.1, q3.2)
theorem ct_J13_checkBoundsOffCount (g : AG) (hst : (gL g).stackTraces = false) (N : Nat) : ∀ (h : AH) (x0 : Int32) (x1 : Int32) (x2 : Int32) (q : (Int32 × AH)), x_J13_checkBoundsOffCount g N h x0 x1 x2 = some q → CT g YJ13_checkBoundsOffCount 2 [.int x0, .int x1, .int x2] h (xI q) := by
  intro h x0 x1 x2 q hq
  refine CT.of rfl (by decide +kernel) (loc := [some (.int x0), some (.int x1), some (.int x2)]) (by first | exact Nat.le_of_ble_eq_true rfl | (simp only [lgl_rf, lgl_i, lgl_j, lgl_ref, lgl_nil]; exact Nat.le_of_ble_eq_true rfl)) (by first | rfl | (simp only [aent_rf, aent_i, aent_j, aent_ref, aent_nil]; rfl)) ?_
  unfold x_J13_checkBoundsOffCount at hq
  refine aw_iload_n (i := 0) dJ13_checkBoundsOffCount_0 rfl rfl ?_
  refine aw_iload_n (i := 1) dJ13_checkBoundsOffCount_1 rfl rfl ?_
  refine aw_iload_n (i := 2) dJ13_checkBoundsOffCount_2 rfl rfl ?_
  replace hq := obind hq
  obtain ⟨o1, e2, hq⟩ := hq
  refine xw_gets (i := 30) (vR_eq e2) rfl q589 dJ13_checkBoundsOffCount_3 rfl ?_
  replace hq := obind hq
  obtain ⟨q3, e4, hq⟩ := hq
  refine aw_callS (Y2 := YJ19_checkFromIndexSize) (As := [.int x0, .int x1, .int x2, va_rf o1]) (rest := []) kJ19_checkFromIndexSize q591 q592 dJ13_checkBoundsOffCount_6 rfl rfl (ct_J19_checkFromIndexSize g hst N h x0 x1 x2 o1 _ e4) (Nat.le_of_ble_eq_true rfl) (Nat.le_of_ble_eq_true rfl) (fun v9 h9 z9 y9 => ?_)
  obtain ⟨rfl, rfl⟩ := y9
  refine aw_st (st' := [.int q3.1]) rfl ?_
  cases hq
  exact aw_ireturn dJ13_checkBoundsOffCount_9 rfl rfl ⟨rfl, rfl⟩
abbrev YJ14_checkBoundsOffCount : YC := (yJ14_checkBoundsOffCount, cJ14_checkBoundsOffCount, 3, none, [])
theorem kJ14_checkBoundsOffCount : aMk YJ14_checkBoundsOffCount 3 := ⟨rfl, q582, q135, ⟨by decide +kernel, by decide +kernel, by decide +kernel⟩, Nat.le_of_ble_eq_true rfl⟩
def x_J14_checkBoundsOffCount (g : AG) (N : Nat) (h : AH) (x0 : Int32) (x1 : Int32) (r2 : Option Nat) : Option AH :=
  (x_J14_length g N h r2).bind fun q1 => (x_J13_checkBoundsOffCount g N q1.2 x0 x1 q1.1).bind fun q3 => some q3.2
theorem ct_J14_checkBoundsOffCount (g : AG) (hst : (gL g).stackTraces = false) (N : Nat) : ∀ (h : AH) (x0 : Int32) (x1 : Int32) (r2 : Option Nat) (q : AH), x_J14_checkBoundsOffCount g N h x0 x1 r2 = some q → CT g YJ14_checkBoundsOffCount 3 [.int x0, .int x1, va_rf r2] h (xV q) := by
  intro h x0 x1 r2 q hq
  refine CT.of rfl (by decide +kernel) (loc := [some (.int x0), some (.int x1), some (va_rf r2)]) (by first | exact Nat.le_of_ble_eq_true rfl | (simp only [lgl_rf, lgl_i, lgl_j, lgl_ref, lgl_nil]; exact Nat.le_of_ble_eq_true rfl)) (by first | rfl | (simp only [aent_rf, aent_i, aent_j, aent_ref, aent_nil]; rfl)) ?_
  unfold x_J14_checkBoundsOffCount at hq
  refine aw_iload_n (i := 0) dJ14_checkBoundsOffCount_0 rfl rfl ?_
  refine aw_iload_n (i := 1) dJ14_checkBoundsOffCount_1 rfl rfl ?_
  refine aw_aload_n (i := 2) dJ14_checkBoundsOffCount_2 rfl rfl (aIsR_rf _) ?_
  replace hq := obind hq
  obtain ⟨q1, e2, hq⟩ := hq
  refine aw_callS (Y2 := YJ14_length) (As := [va_rf r2]) (rest := [.int x1, .int x0]) kJ14_length q583 q584 dJ14_checkBoundsOffCount_3 rfl rfl (ct_J14_length g hst N h r2 _ e2) (Nat.le_of_ble_eq_true rfl) (Nat.le_of_ble_eq_true rfl) (fun v9 h9 z9 y9 => ?_)
  obtain ⟨rfl, rfl⟩ := y9
  refine aw_st (st' := [.int q1.1, .int x1, .int x0]) rfl ?_
  replace hq := obind hq
  obtain ⟨q3, e4, hq⟩ := hq
  refine aw_callS (Y2 := YJ13_checkBoundsOffCount) (As := [.int x0, .int x1, .int q1.1]) (rest := []) kJ13_checkBoundsOffCount q586 q587 dJ14_checkBoundsOffCount_6 rfl rfl (ct_J13_checkBoundsOffCount g hst N q1.2 x0 x1 q1.1 _ e4) (Nat.le_of_ble_eq_true rfl) (Nat.le_of_ble_eq_true rfl) (fun v9 h9 z9 y9 => ?_)
  obtain ⟨rfl, rfl⟩ := y9
  refine aw_st (st' := [.int q3.1]) rfl ?_
  refine aw_pop dJ14_checkBoundsOffCount_9 rfl ?_
  cases hq
  exact aw_vret dJ14_checkBoundsOffCount_10 rfl ⟨rfl, rfl⟩
abbrev YJ14_putChar : YC := (yJ14_putChar, cJ14_putChar, 3, none, [])
theorem kJ14_putChar : aMk YJ14_putChar 3 := ⟨rfl, q596, q135, ⟨by decide +kernel, by decide +kernel, by decide +kernel⟩, Nat.le_of_ble_eq_true rfl⟩
def x_J14_putChar (g : AG) (N : Nat) (h : AH) (r0 : Option Nat) (x1 : Int32) (x2 : Int32) : Option AH :=
  none
theorem ct_J14_putChar (g : AG) (hst : (gL g).stackTraces = false) (N : Nat) : ∀ (h : AH) (r0 : Option Nat) (x1 : Int32) (x2 : Int32) (q : AH), x_J14_putChar g N h r0 x1 x2 = some q → CT g YJ14_putChar 1 [va_rf r0, .int x1, .int x2] h (xV q) := by
  intro h r0 x1 x2 q hq
  refine CT.of rfl (by decide +kernel) (loc := [some (va_rf r0), some (.int x1), some (.int x2)]) (by first | exact Nat.le_of_ble_eq_true rfl | (simp only [lgl_rf, lgl_i, lgl_j, lgl_ref, lgl_nil]; exact Nat.le_of_ble_eq_true rfl)) (by first | rfl | (simp only [aent_rf, aent_i, aent_j, aent_ref, aent_nil]; rfl)) ?_
  unfold x_J14_putChar at hq
  cases hq
abbrev YJ14_inflate : YC := (yJ14_inflate, cJ14_inflate, 6, none, [])
theorem kJ14_inflate : aMk YJ14_inflate 5 := ⟨rfl, q579, q135, ⟨by decide +kernel, by decide +kernel, by decide +kernel⟩, Nat.le_of_ble_eq_true rfl⟩
def x_J14_inflate_10 (g : AG) (N : Nat) : Nat → AH → Option Nat → Int32 → Option Nat → Int32 → Int32 → Int32 → Option AH
  | 0, _, _, _, _, _, _, _ => none
  | n9 + 1, h, r0, x1, r2, x3, x4, x5 =>
  if x4 ≤ x5 then (some h) else ((r0).bind fun a4 => ((rdA h a4 3 x1).bind vI).bind fun i6 => (x_J14_putChar g N h r2 x3 (i6 &&& (255 : Int32))).bind fun q8 => x_J14_inflate_10 g N n9 q8 (some a4) (x1 + 1) r2 (x3 + 1) x4 (x5 + 1))
theorem p_x_J14_inflate_10 (g : AG) (hst : (gL g).stackTraces = false) (N : Nat) : ∀ (n9 : Nat) (h : AH) (r0 : Option Nat) (x1 : Int32) (r2 : Option Nat) (x3 : Int32) (x4 : Int32) (x5 : Int32) (q : AH), x_J14_inflate_10 g N n9 h r0 x1 r2 x3 x4 x5 = some q → AW g YJ14_inflate 4 (xV q) h [some (va_rf r0), some (.int x1), some (va_rf r2), some (.int x3), some (.int x4), some (.int x5)] 10 [] := by
  intro n9
  induction n9 with
  | zero =>
    intro h r0 x1 r2 x3 x4 x5 q hq
    cases hq
  | succ n9 ih =>
    intro h r0 x1 r2 x3 x4 x5 q hq
    rw [x_J14_inflate_10] at hq
    refine aw_iload dJ14_inflate_10 rfl ?_
    refine aw_iload dJ14_inflate_12 rfl ?_
    refine aw_icmp_ge (tgt := 41) dJ14_inflate_14 (by decide) (fun c3 => ?_) (fun c3 => ?_)
    · rw [if_pos c3] at hq
      cases hq
      exact aw_vret dJ14_inflate_41 rfl ⟨rfl, rfl⟩
    · rw [if_neg c3] at hq
      refine aw_aload_n (i := 2) dJ14_inflate_17 rfl rfl (aIsR_rf _) ?_
      refine aw_iload_n (i := 3) dJ14_inflate_18 rfl rfl ?_
      refine aw_iinc (v := x3 + 1) (loc' := [some (va_rf r0), some (.int x1), some (va_rf r2), some (.int (x3 + 1)), some (.int x4), some (.int x5)]) dJ14_inflate_19 rfl rfl (Nat.le_of_ble_eq_true rfl) (aset1_rf rfl) ?_
      refine aw_aload_n (i := 0) dJ14_inflate_22 rfl rfl (aIsR_rf _) ?_
      refine aw_iload_n (i := 1) dJ14_inflate_23 rfl rfl ?_
      refine aw_iinc (v := x1 + 1) (loc' := [some (va_rf r0), some (.int (x1 + 1)), some (va_rf r2), some (.int (x3 + 1)), some (.int x4), some (.int x5)]) dJ14_inflate_24 rfl rfl (Nat.le_of_ble_eq_true rfl) (aset1_rf rfl) ?_
      replace hq := obind hq
      obtain ⟨a4, e5, hq⟩ := hq
      subst e5
      replace hq := obind hq
      obtain ⟨i6, e7, hq⟩ := hq
      refine xw_bald e7 dJ14_inflate_27 ?_
      refine aw_sipush (v := 255) dJ14_inflate_28 (by decide) ?_
      refine aw_iand dJ14_inflate_31 ?_
      replace hq := obind hq
      obtain ⟨q8, e9, hq⟩ := hq
      refine aw_callS (Y2 := YJ14_putChar) (As := [va_rf r2, .int x3, .int (i6 &&& (255 : Int32))]) (rest := []) kJ14_putChar q594 q595 dJ14_inflate_32 rfl rfl (ct_J14_putChar g hst N h r2 x3 (i6 &&& (255 : Int32)) _ e9) (Nat.le_of_ble_eq_true rfl) (Nat.le_of_ble_eq_true rfl) (fun v9 h9 z9 y9 => ?_)
      obtain ⟨rfl, y9⟩ := y9
      rw [y9]
      refine aw_st (st' := []) rfl ?_
      refine aw_iinc (v := x5 + 1) (loc' := [some (.ref a4), some (.int (x1 + 1)), some (va_rf r2), some (.int (x3 + 1)), some (.int x4), some (.int (x5 + 1))]) dJ14_inflate_35 rfl rfl (Nat.le_of_ble_eq_true rfl) rfl ?_
      refine aw_goto (tgt := 10) dJ14_inflate_38 (by decide) ?_
      exact ih q8 (some a4) (x1 + 1) r2 (x3 + 1) x4 (x5 + 1) _ hq
def x_J14_inflate (g : AG) (N : Nat) (h : AH) (r0 : Option Nat) (x1 : Int32) (r2 : Option Nat) (x3 : Int32) (x4 : Int32) : Option AH :=
  (x_J14_checkBoundsOffCount g N h x3 x4 r2).bind fun q1 => x_J14_inflate_10 g N  N q1 r0 x1 r2 x3 x4 (0 : Int32)
theorem ct_J14_inflate (g : AG) (hst : (gL g).stackTraces = false) (N : Nat) : ∀ (h : AH) (r0 : Option Nat) (x1 : Int32) (r2 : Option Nat) (x3 : Int32) (x4 : Int32) (q : AH), x_J14_inflate g N h r0 x1 r2 x3 x4 = some q → CT g YJ14_inflate 4 [va_rf r0, .int x1, va_rf r2, .int x3, .int x4] h (xV q) := by
  intro h r0 x1 r2 x3 x4 q hq
  refine CT.of rfl (by decide +kernel) (loc := [some (va_rf r0), some (.int x1), some (va_rf r2), some (.int x3), some (.int x4), none]) (by first | exact Nat.le_of_ble_eq_true rfl | (simp only [lgl_rf, lgl_i, lgl_j, lgl_ref, lgl_nil]; exact Nat.le_of_ble_eq_true rfl)) (by first | rfl | (simp only [aent_rf, aent_i, aent_j, aent_ref, aent_nil]; rfl)) ?_
  unfold x_J14_inflate at hq
  refine aw_iload_n (i := 3) dJ14_inflate_0 rfl rfl ?_
  refine aw_iload dJ14_inflate_1 rfl ?_
  refine aw_aload_n (i := 2) dJ14_inflate_3 rfl rfl (aIsR_rf _) ?_
  replace hq := obind hq
  obtain ⟨q1, e2, hq⟩ := hq
  refine aw_callS (Y2 := YJ14_checkBoundsOffCount) (As := [.int x3, .int x4, va_rf r2]) (rest := []) kJ14_checkBoundsOffCount q580 q581 dJ14_inflate_4 rfl rfl (ct_J14_checkBoundsOffCount g hst N h x3 x4 r2 _ e2) (Nat.le_of_ble_eq_true rfl) (Nat.le_of_ble_eq_true rfl) (fun v9 h9 z9 y9 => ?_)
  obtain ⟨rfl, y9⟩ := y9
  rw [y9]
  refine aw_st (st' := []) rfl ?_
  refine aw_iconst (v := 0) dJ14_inflate_7 (by decide) ?_
  refine aw_istore (loc' := [some (va_rf r0), some (.int x1), some (va_rf r2), some (.int x3), some (.int x4), some (.int (0 : Int32))]) dJ14_inflate_8 (Nat.le_of_ble_eq_true rfl) rfl ?_
  exact p_x_J14_inflate_10 g hst N   N q1 r0 x1 r2 x3 x4 (0 : Int32) _ hq
abbrev YJ18_inflate : YC := (yJ18_inflate, cJ18_inflate, 5, none, [])
theorem kJ18_inflate : aMk YJ18_inflate 5 := ⟨rfl, q576, q140, ⟨by decide +kernel, by decide +kernel, by decide +kernel⟩, Nat.le_of_ble_eq_true rfl⟩
def x_J18_inflate (g : AG) (N : Nat) (h : AH) (r0 : Option Nat) (x1 : Int32) (r2 : Option Nat) (x3 : Int32) (x4 : Int32) : Option AH :=
  (x_J14_inflate g N h r0 x1 r2 x3 x4).bind fun q1 => some q1
theorem ct_J18_inflate (g : AG) (hst : (gL g).stackTraces = false) (N : Nat) : ∀ (h : AH) (r0 : Option Nat) (x1 : Int32) (r2 : Option Nat) (x3 : Int32) (x4 : Int32) (q : AH), x_J18_inflate g N h r0 x1 r2 x3 x4 = some q → CT g YJ18_inflate 5 [va_rf r0, .int x1, va_rf r2, .int x3, .int x4] h (xV q) := by
  intro h r0 x1 r2 x3 x4 q hq
  refine CT.of rfl (by decide +kernel) (loc := [some (va_rf r0), some (.int x1), some (va_rf r2), some (.int x3), some (.int x4)]) (by first | exact Nat.le_of_ble_eq_true rfl | (simp only [lgl_rf, lgl_i, lgl_j, lgl_ref, lgl_nil]; exact Nat.le_of_ble_eq_true rfl)) (by first | rfl | (simp only [aent_rf, aent_i, aent_j, aent_ref, aent_nil]; rfl)) ?_
  unfold x_J18_inflate at hq
  refine aw_aload_n (i := 0) dJ18_inflate_0 rfl rfl (aIsR_rf _) ?_
  refine aw_iload_n (i := 1) dJ18_inflate_1 rfl rfl ?_
  refine aw_aload_n (i := 2) dJ18_inflate_2 rfl rfl (aIsR_rf _) ?_
  refine aw_iload_n (i := 3) dJ18_inflate_3 rfl rfl ?_
  refine aw_iload dJ18_inflate_4 rfl ?_
  replace hq := obind hq
  obtain ⟨q1, e2, hq⟩ := hq
  refine aw_callS (Y2 := YJ14_inflate) (As := [va_rf r0, .int x1, va_rf r2, .int x3, .int x4]) (rest := []) kJ14_inflate q577 q578 dJ18_inflate_6 rfl rfl (ct_J14_inflate g hst N h r0 x1 r2 x3 x4 _ e2) (Nat.le_of_ble_eq_true rfl) (Nat.le_of_ble_eq_true rfl) (fun v9 h9 z9 y9 => ?_)
  obtain ⟨rfl, y9⟩ := y9
  rw [y9]
  refine aw_st (st' := []) rfl ?_
  cases hq
  exact aw_vret dJ18_inflate_9 rfl ⟨rfl, rfl⟩
theorem fJ11_79 : ∀ q ∈ ([(16, 3)] : List (Nat × Nat)), aFl RJ11 79 q.1 q.2 := by
  intro q hq
  simp only [List.mem_cons, List.not_mem_nil, or_false] at hq
  subst hq
  exact aFl.of (RJ12, TJ12, 4) rfl (Nat.le_of_ble_eq_true rfl) q503
theorem tJ12_1 : ∀ q ∈ ([(16, 1)] : List (Nat × Nat)), aFt q.1 q.2 false .byte := by
  intro q hq
  simp only [List.mem_cons, List.not_mem_nil, or_false] at hq
  subst hq
  exact ⟨(RJ12, TJ12, 4), tyJ12, Nat.le_of_ble_eq_true rfl, rfl, Nat.le_of_ble_eq_true rfl, okJ12, rfl, rfl⟩
abbrev YJ11_inflate : YC := (yJ11_inflate, cJ11_inflate, 2, none, [])
theorem kJ11_inflate : aMk YJ11_inflate 0 := ⟨rfl, q573, q132, ⟨by decide +kernel, by decide +kernel, by decide +kernel⟩, Nat.le_of_ble_eq_true rfl⟩
def x_J11_inflate (g : AG) (N : Nat) (h : AH) (x0 : Nat) : Option AH :=
  bif clB h x0 [16] then ((x_J11_isLatin1 g N h x0).bind fun q2 => if q2.1 = 0 then (some q2.2) else ((rdR q2.2 x0 [(16, 0)]).bind fun o5 => (o5).bind fun a7 => (rdN q2.2 a7).bind fun i9 => (x_J14_newBytesFor g N q2.2 i9).bind fun q11 => (rdR q11.2 x0 [(16, 0)]).bind fun o13 => (rdI q11.2 x0 [(16, 3)]).bind fun i15 => (x_J18_inflate g N q11.2 o13 (0 : Int32) q11.1 (0 : Int32) i15).bind fun q17 => (wrV g q17 x0 [(16, 0)] (va_rf q11.1)).bind fun h19 => (wrV g h19 x0 [(16, 1)] (.int (1 : Int32))).bind fun h21 => some h21)) else none
theorem ct_J11_inflate (g : AG) (hst : (gL g).stackTraces = false) (N : Nat) : ∀ (h : AH) (x0 : Nat) (q : AH), x_J11_inflate g N h x0 = some q → CT g YJ11_inflate 6 [.ref x0] h (xV q) := by
  intro h x0 q hq
  refine CT.of rfl (by decide +kernel) (loc := [some (.ref x0), none]) (by first | exact Nat.le_of_ble_eq_true rfl | (simp only [lgl_rf, lgl_i, lgl_j, lgl_ref, lgl_nil]; exact Nat.le_of_ble_eq_true rfl)) (by first | rfl | (simp only [aent_rf, aent_i, aent_j, aent_ref, aent_nil]; rfl)) ?_
  unfold x_J11_inflate at hq
  refine aw_aload_n (i := 0) dJ11_inflate_0 rfl rfl trivial ?_
  replace hq := cond_t hq
  obtain ⟨z1, hq⟩ := hq
  obtain ⟨fs9, ha9⟩ := clB1 z1
  replace hq := obind hq
  obtain ⟨q2, e3, hq⟩ := hq
  refine aw_callU (Y2 := YJ11_isLatin1) (As := []) (rest := []) (r := (RJ12, TJ12, 4)) (x := ⟨"java/lang/AbstractStringBuilder", "isLatin1", "()Z"⟩) kJ11_isLatin1 ha9 rfl rfl q562 q564 q563 q565 dJ11_inflate_1 rfl rfl (ct_J11_isLatin1 g hst N h x0 _ e3) (Nat.le_of_ble_eq_true rfl) (Nat.le_of_ble_eq_true rfl) (fun v9 h9 z9 y9 => ?_)
  obtain ⟨rfl, rfl⟩ := y9
  refine aw_st (st' := [.int q2.1]) rfl ?_
  refine aw_if_ne (tgt := 8) dJ11_inflate_4 (by decide) (fun c4 => ?_) (fun c4 => ?_)
  · rw [if_neg c4] at hq
    refine aw_aload_n (i := 0) dJ11_inflate_8 rfl rfl trivial ?_
    replace hq := obind hq
    obtain ⟨o5, e6, hq⟩ := hq
    refine xw_getR e6 fJ11_15 dJ11_inflate_9 ?_
    replace hq := obind hq
    obtain ⟨a7, e8, hq⟩ := hq
    subst e8
    replace hq := obind hq
    obtain ⟨i9, e10, hq⟩ := hq
    refine xw_alen e10 dJ11_inflate_12 ?_
    replace hq := obind hq
    obtain ⟨q11, e12, hq⟩ := hq
    refine aw_callS (Y2 := YJ14_newBytesFor) (As := [.int i9]) (rest := []) kJ14_newBytesFor q493 q494 dJ11_inflate_13 rfl rfl (ct_J14_newBytesFor g hst N q2.2 i9 _ e12) (Nat.le_of_ble_eq_true rfl) (Nat.le_of_ble_eq_true rfl) (fun v9 h9 z9 y9 => ?_)
    obtain ⟨rfl, rfl⟩ := y9
    refine aw_st (st' := [va_rf q11.1]) rfl ?_
    refine aw_astore_n (i := 1) (loc' := [some (.ref x0), some (va_rf q11.1)]) dJ11_inflate_16 rfl (Nat.le_of_ble_eq_true rfl) (aIsR_rf _) rfl ?_
    refine aw_aload_n (i := 0) dJ11_inflate_17 rfl rfl trivial ?_
    replace hq := obind hq
    obtain ⟨o13, e14, hq⟩ := hq
    refine xw_getR e14 fJ11_15 dJ11_inflate_18 ?_
    refine aw_iconst (v := 0) dJ11_inflate_21 (by decide) ?_
    refine aw_aload_n (i := 1) dJ11_inflate_22 rfl rfl (aIsR_rf _) ?_
    refine aw_iconst (v := 0) dJ11_inflate_23 (by decide) ?_
    refine aw_aload_n (i := 0) dJ11_inflate_24 rfl rfl trivial ?_
    replace hq := obind hq
    obtain ⟨i15, e16, hq⟩ := hq
    refine xw_getI e16 fJ11_79 dJ11_inflate_25 ?_
    replace hq := obind hq
    obtain ⟨q17, e18, hq⟩ := hq
    refine aw_callS (Y2 := YJ18_inflate) (As := [va_rf o13, .int (0 : Int32), va_rf q11.1, .int (0 : Int32), .int i15]) (rest := []) kJ18_inflate q574 q575 dJ11_inflate_28 rfl rfl (ct_J18_inflate g hst N q11.2 o13 (0 : Int32) q11.1 (0 : Int32) i15 _ e18) (Nat.le_of_ble_eq_true rfl) (Nat.le_of_ble_eq_true rfl) (fun v9 h9 z9 y9 => ?_)
    obtain ⟨rfl, y9⟩ := y9
    rw [y9]
    refine aw_st (st' := []) rfl ?_
    refine aw_aload_n (i := 0) dJ11_inflate_31 rfl rfl trivial ?_
    refine aw_aload_n (i := 1) dJ11_inflate_32 rfl rfl (aIsR_rf _) ?_
    replace hq := obind hq
    obtain ⟨h19, e20, hq⟩ := hq
    refine xw_put e20 fJ11_15 tJ12_0 (fits_rfA _ q11.1) dJ11_inflate_33 ?_
    refine aw_aload_n (i := 0) dJ11_inflate_36 rfl rfl trivial ?_
    refine aw_iconst (v := 1) dJ11_inflate_37 (by decide) ?_
    replace hq := obind hq
    obtain ⟨h21, e22, hq⟩ := hq
    refine xw_put e22 fJ11_22 tJ12_1 (isy_ok (by decide)) dJ11_inflate_38 ?_
    cases hq
    exact aw_vret dJ11_inflate_41 rfl ⟨rfl, rfl⟩
  · rw [if_pos c4] at hq
    cases hq
    exact aw_vret dJ11_inflate_7 rfl ⟨rfl, rfl⟩
abbrev YJ19_checkIndex : YC := (yJ19_checkIndex, cJ19_checkIndex, 3, (some .int), [])
theorem kJ19_checkIndex : aMk YJ19_checkIndex 3 := ⟨rfl, q614, q141, ⟨by decide +kernel, by decide +kernel, by decide +kernel⟩, Nat.le_of_ble_eq_true rfl⟩
def x_J19_checkIndex_9 (g : AG) (N : Nat) (h : AH) (x0 : Int32) (x1 : Int32) (r2 : Option Nat) : Option (Int32 × AH) :=
  none
theorem p_x_J19_checkIndex_9 (g : AG) (hst : (gL g).stackTraces = false) (N : Nat) : ∀ (h : AH) (x0 : Int32) (x1 : Int32) (r2 : Option Nat) (q : (Int32 × AH)), x_J19_checkIndex_9 g N h x0 x1 r2 = some q → AW g YJ19_checkIndex 1 (xI q) h [some (.int x0), some (.int x1), some (va_rf r2)] 9 [] := by
  intro h x0 x1 r2 q hq
  unfold x_J19_checkIndex_9 at hq
  refine aw_aload_n (i := 2) dJ19_checkIndex_9 rfl rfl (aIsR_rf _) ?_
  refine aw_iload_n (i := 0) dJ19_checkIndex_10 rfl rfl ?_
  refine aw_iload_n (i := 1) dJ19_checkIndex_11 rfl rfl ?_
  cases hq
def x_J19_checkIndex (g : AG) (N : Nat) (h : AH) (x0 : Int32) (x1 : Int32) (r2 : Option Nat) : Option (Int32 × AH) :=
  if x0 < 0 then (x_J19_checkIndex_9 g N  h x0 x1 r2) else (if x0 < x1 then (some (x0, h)) else (x_J19_checkIndex_9 g N  h x0 x1 r2))
theorem ct_J19_checkIndex (g : AG) (hst : (gL g).stackTraces = false) (N : Nat) : ∀ (h : AH) (x0 : Int32) (x1 : Int32) (r2 : Option Nat) (q : (Int32 × AH)), x_J19_checkIndex g N h x0 x1 r2 = some q → CT g YJ19_checkIndex 1 [.int x0, .int x1, va_rf r2] h (xI q) := by
  intro h x0 x1 r2 q hq
  refine CT.of rfl (by decide +kernel) (loc := [some (.int x0), some (.int x1), some (va_rf r2)]) (by first | exact Nat.le_of_ble_eq_true rfl | (simp only [lgl_rf, lgl_i, lgl_j, lgl_ref, lgl_nil]; exact Nat.le_of_ble_eq_true rfl)) (by first | rfl | (simp only [aent_rf, aent_i, aent_j, aent_ref, aent_nil]; rfl)) ?_
  unfold x_J19_checkIndex at hq
  refine aw_iload_n (i := 0) dJ19_checkIndex_0 rfl rfl ?_
  refine aw_if_lt (tgt := 9) dJ19_checkIndex_1 (by decide) (fun c1 => ?_) (fun c1 => ?_)
  · rw [if_pos c1] at hq
    exact p_x_J19_checkIndex_9 g hst N   h x0 x1 r2 _ hq
  · rw [if_neg c1] at hq
    refine aw_iload_n (i := 0) dJ19_checkIndex_4 rfl rfl ?_
    refine aw_iload_n (i := 1) dJ19_checkIndex_5 rfl rfl ?_
    refine aw_icmp_lt (tgt := 16) dJ19_checkIndex_6 (by decide) (fun c2 => ?_) (fun c2 => ?_)
    · rw [if_pos c2] at hq
      refine aw_iload_n (i := 0) dJ19_checkIndex_16 rfl rfl ?_
      cases hq
      exact aw_ireturn dJ19_checkIndex_17 rfl rfl ⟨rfl, rfl⟩
    · rw [if_neg c2] at hq
      exact p_x_J19_checkIndex_9 g hst N   h x0 x1 r2 _ hq
abbrev YJ13_checkIndex : YC := (yJ13_checkIndex, cJ13_checkIndex, 2, none, [])
theorem kJ13_checkIndex : aMk YJ13_checkIndex 2 := ⟨rfl, q611, q134, ⟨by decide +kernel, by decide +kernel, by decide +kernel⟩, Nat.le_of_ble_eq_true rfl⟩
def x_J13_checkIndex (g : AG) (N : Nat) (h : AH) (x0 : Int32) (x1 : Int32) : Option AH :=
  (vR (gV g 30)).bind fun o1 => (x_J19_checkIndex g N h x0 x1 o1).bind fun q3 => some q3.2
theorem ct_J13_checkIndex (g : AG) (hst : (gL g).stackTraces = false) (N : Nat) : ∀ (h : AH) (x0 : Int32) (x1 : Int32) (q : AH), x_J13_checkIndex g N h x0 x1 = some q → CT g YJ13_checkIndex 2 [.int x0, .int x1] h (xV q) := by
  intro h x0 x1 q hq
  refine CT.of rfl (by decide +kernel) (loc := [some (.int x0), some (.int x1)]) (by first | exact Nat.le_of_ble_eq_true rfl | (simp only [lgl_rf, lgl_i, lgl_j, lgl_ref, lgl_nil]; exact Nat.le_of_ble_eq_true rfl)) (by first | rfl | (simp only [aent_rf, aent_i, aent_j, aent_ref, aent_nil]; rfl)) ?_
  unfold x_J13_checkIndex at hq
  refine aw_iload_n (i := 0) dJ13_checkIndex_0 rfl rfl ?_
  refine aw_iload_n (i := 1) dJ13_checkIndex_1 rfl rfl ?_
  replace hq := obind hq
  obtain ⟨o1, e2, hq⟩ := hq
  refine xw_gets (i := 30) (vR_eq e2) rfl q589 dJ13_checkIndex_2 rfl ?_
  replace hq := obind hq
  obtain ⟨q3, e4, hq⟩ := hq
  refine aw_callS (Y2 := YJ19_checkIndex) (As := [.int x0, .int x1, va_rf o1]) (rest := []) kJ19_checkIndex q612 q613 dJ13_checkIndex_5 rfl rfl (ct_J19_checkIndex g hst N h x0 x1 o1 _ e4) (Nat.le_of_ble_eq_true rfl) (Nat.le_of_ble_eq_true rfl) (fun v9 h9 z9 y9 => ?_)
  obtain ⟨rfl, rfl⟩ := y9
  refine aw_st (st' := [.int q3.1]) rfl ?_
  refine aw_pop dJ13_checkIndex_8 rfl ?_
  cases hq
  exact aw_vret dJ13_checkIndex_9 rfl ⟨rfl, rfl⟩
abbrev YJ14_checkIndex : YC := (yJ14_checkIndex, cJ14_checkIndex, 2, none, [])
theorem kJ14_checkIndex : aMk YJ14_checkIndex 2 := ⟨rfl, q608, q135, ⟨by decide +kernel, by decide +kernel, by decide +kernel⟩, Nat.le_of_ble_eq_true rfl⟩
def x_J14_checkIndex (g : AG) (N : Nat) (h : AH) (x0 : Int32) (r1 : Option Nat) : Option AH :=
  (x_J14_length g N h r1).bind fun q1 => (x_J13_checkIndex g N q1.2 x0 q1.1).bind fun q3 => some q3
theorem ct_J14_checkIndex (g : AG) (hst : (gL g).stackTraces = false) (N : Nat) : ∀ (h : AH) (x0 : Int32) (r1 : Option Nat) (q : AH), x_J14_checkIndex g N h x0 r1 = some q → CT g YJ14_checkIndex 3 [.int x0, va_rf r1] h (xV q) := by
  intro h x0 r1 q hq
  refine CT.of rfl (by decide +kernel) (loc := [some (.int x0), some (va_rf r1)]) (by first | exact Nat.le_of_ble_eq_true rfl | (simp only [lgl_rf, lgl_i, lgl_j, lgl_ref, lgl_nil]; exact Nat.le_of_ble_eq_true rfl)) (by first | rfl | (simp only [aent_rf, aent_i, aent_j, aent_ref, aent_nil]; rfl)) ?_
  unfold x_J14_checkIndex at hq
  refine aw_iload_n (i := 0) dJ14_checkIndex_0 rfl rfl ?_
  refine aw_aload_n (i := 1) dJ14_checkIndex_1 rfl rfl (aIsR_rf _) ?_
  replace hq := obind hq
  obtain ⟨q1, e2, hq⟩ := hq
  refine aw_callS (Y2 := YJ14_length) (As := [va_rf r1]) (rest := [.int x0]) kJ14_length q583 q584 dJ14_checkIndex_2 rfl rfl (ct_J14_length g hst N h r1 _ e2) (Nat.le_of_ble_eq_true rfl) (Nat.le_of_ble_eq_true rfl) (fun v9 h9 z9 y9 => ?_)
  obtain ⟨rfl, rfl⟩ := y9
  refine aw_st (st' := [.int q1.1, .int x0]) rfl ?_
  replace hq := obind hq
  obtain ⟨q3, e4, hq⟩ := hq
  refine aw_callS (Y2 := YJ13_checkIndex) (As := [.int x0, .int q1.1]) (rest := []) kJ13_checkIndex q609 q610 dJ14_checkIndex_5 rfl rfl (ct_J13_checkIndex g hst N q1.2 x0 q1.1 _ e4) (Nat.le_of_ble_eq_true rfl) (Nat.le_of_ble_eq_true rfl) (fun v9 h9 z9 y9 => ?_)
  obtain ⟨rfl, y9⟩ := y9
  rw [y9]
  refine aw_st (st' := []) rfl ?_
  cases hq
  exact aw_vret dJ14_checkIndex_8 rfl ⟨rfl, rfl⟩
abbrev YJ14_putCharSB : YC := (yJ14_putCharSB, cJ14_putCharSB, 3, none, [])
theorem kJ14_putCharSB : aMk YJ14_putCharSB 3 := ⟨rfl, q605, q135, ⟨by decide +kernel, by decide +kernel, by decide +kernel⟩, Nat.le_of_ble_eq_true rfl⟩
def x_J14_putCharSB (g : AG) (N : Nat) (h : AH) (r0 : Option Nat) (x1 : Int32) (x2 : Int32) : Option AH :=
  (x_J14_checkIndex g N h x1 r0).bind fun q1 => (x_J14_putChar g N q1 r0 x1 x2).bind fun q3 => some q3
theorem ct_J14_putCharSB (g : AG) (hst : (gL g).stackTraces = false) (N : Nat) : ∀ (h : AH) (r0 : Option Nat) (x1 : Int32) (x2 : Int32) (q : AH), x_J14_putCharSB g N h r0 x1 x2 = some q → CT g YJ14_putCharSB 4 [va_rf r0, .int x1, .int x2] h (xV q) := by
  intro h r0 x1 x2 q hq
  refine CT.of rfl (by decide +kernel) (loc := [some (va_rf r0), some (.int x1), some (.int x2)]) (by first | exact Nat.le_of_ble_eq_true rfl | (simp only [lgl_rf, lgl_i, lgl_j, lgl_ref, lgl_nil]; exact Nat.le_of_ble_eq_true rfl)) (by first | rfl | (simp only [aent_rf, aent_i, aent_j, aent_ref, aent_nil]; rfl)) ?_
  unfold x_J14_putCharSB at hq
  refine aw_iload_n (i := 1) dJ14_putCharSB_0 rfl rfl ?_
  refine aw_aload_n (i := 0) dJ14_putCharSB_1 rfl rfl (aIsR_rf _) ?_
  replace hq := obind hq
  obtain ⟨q1, e2, hq⟩ := hq
  refine aw_callS (Y2 := YJ14_checkIndex) (As := [.int x1, va_rf r0]) (rest := []) kJ14_checkIndex q606 q607 dJ14_putCharSB_2 rfl rfl (ct_J14_checkIndex g hst N h x1 r0 _ e2) (Nat.le_of_ble_eq_true rfl) (Nat.le_of_ble_eq_true rfl) (fun v9 h9 z9 y9 => ?_)
  obtain ⟨rfl, y9⟩ := y9
  rw [y9]
  refine aw_st (st' := []) rfl ?_
  refine aw_aload_n (i := 0) dJ14_putCharSB_5 rfl rfl (aIsR_rf _) ?_
  refine aw_iload_n (i := 1) dJ14_putCharSB_6 rfl rfl ?_
  refine aw_iload_n (i := 2) dJ14_putCharSB_7 rfl rfl ?_
  replace hq := obind hq
  obtain ⟨q3, e4, hq⟩ := hq
  refine aw_callS (Y2 := YJ14_putChar) (As := [va_rf r0, .int x1, .int x2]) (rest := []) kJ14_putChar q594 q595 dJ14_putCharSB_8 rfl rfl (ct_J14_putChar g hst N q1 r0 x1 x2 _ e4) (Nat.le_of_ble_eq_true rfl) (Nat.le_of_ble_eq_true rfl) (fun v9 h9 z9 y9 => ?_)
  obtain ⟨rfl, y9⟩ := y9
  rw [y9]
  refine aw_st (st' := []) rfl ?_
  cases hq
  exact aw_vret dJ14_putCharSB_11 rfl ⟨rfl, rfl⟩
