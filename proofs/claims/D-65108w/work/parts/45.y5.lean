/-! THE COMPONENT AND THE JDK as functions of the heap, and their contracts: printed by wip gen/dec2.py -/
set_option maxRecDepth 100000
abbrev YJ14_compareTo : YC := (yJ14_compareTo, cJ14_compareTo, 4, (some .int), [])
theorem kJ14_compareTo : aMk YJ14_compareTo 2 := ⟨rfl, q1444, q135, ⟨by decide +kernel, by decide +kernel, by decide +kernel⟩, Nat.le_of_ble_eq_true rfl⟩
def x_J14_compareTo (g : AG) (N : Nat) (h : AH) (r0 : Option Nat) (r1 : Option Nat) : Option (Int32 × AH) :=
  (x_J14_length g N h r0).bind fun q1 => (x_J14_length g N q1.2 r1).bind fun q3 => (x_J14_compareValues g N q3.2 r0 r1 q1.1 q3.1).bind fun q5 => some (q5.1, q5.2)
theorem ct_J14_compareTo (g : AG) (hst : (gL g).stackTraces = false) (N : Nat) : ∀ (h : AH) (r0 : Option Nat) (r1 : Option Nat) (q : (Int32 × AH)), x_J14_compareTo g N h r0 r1 = some q → CT g YJ14_compareTo 4 [va_rf r0, va_rf r1] h (xI q) := by
  intro h r0 r1 q hq
  refine CT.of rfl (by decide +kernel) (loc := [some (va_rf r0), some (va_rf r1), none, none]) (by first | exact Nat.le_of_ble_eq_true rfl | (simp only [lgl_rf, lgl_i, lgl_j, lgl_ref, lgl_nil]; exact Nat.le_of_ble_eq_true rfl)) (by first | rfl | (simp only [aent_rf, aent_i, aent_j, aent_ref, aent_nil]; rfl)) ?_
  unfold x_J14_compareTo at hq
  refine aw_aload_n (i := 0) dJ14_compareTo_0 rfl rfl (aIsR_rf _) ?_
  replace hq := obind hq
  obtain ⟨q1, e2, hq⟩ := hq
  refine aw_callS (Y2 := YJ14_length) (As := [va_rf r0]) (rest := []) kJ14_length q583 q584 dJ14_compareTo_1 rfl rfl (ct_J14_length g hst N h r0 _ e2) (Nat.le_of_ble_eq_true rfl) (Nat.le_of_ble_eq_true rfl) (fun v9 h9 z9 y9 => ?_)
  obtain ⟨rfl, rfl⟩ := y9
  refine aw_st (st' := [.int q1.1]) rfl ?_
  refine aw_istore_n (i := 2) (loc' := [some (va_rf r0), some (va_rf r1), some (.int q1.1), none]) dJ14_compareTo_4 rfl (Nat.le_of_ble_eq_true rfl) (aset1_rf rfl) ?_
  refine aw_aload_n (i := 1) dJ14_compareTo_5 rfl rfl (aIsR_rf _) ?_
  replace hq := obind hq
  obtain ⟨q3, e4, hq⟩ := hq
  refine aw_callS (Y2 := YJ14_length) (As := [va_rf r1]) (rest := []) kJ14_length q583 q584 dJ14_compareTo_6 rfl rfl (ct_J14_length g hst N q1.2 r1 _ e4) (Nat.le_of_ble_eq_true rfl) (Nat.le_of_ble_eq_true rfl) (fun v9 h9 z9 y9 => ?_)
  obtain ⟨rfl, rfl⟩ := y9
  refine aw_st (st' := [.int q3.1]) rfl ?_
  refine aw_istore_n (i := 3) (loc' := [some (va_rf r0), some (va_rf r1), some (.int q1.1), some (.int q3.1)]) dJ14_compareTo_9 rfl (Nat.le_of_ble_eq_true rfl) rfl ?_
  refine aw_aload_n (i := 0) dJ14_compareTo_10 rfl rfl (aIsR_rf _) ?_
  refine aw_aload_n (i := 1) dJ14_compareTo_11 rfl rfl (aIsR_rf _) ?_
  refine aw_iload_n (i := 2) dJ14_compareTo_12 rfl rfl ?_
  refine aw_iload_n (i := 3) dJ14_compareTo_13 rfl rfl ?_
  replace hq := obind hq
  obtain ⟨q5, e6, hq⟩ := hq
  refine aw_callS (Y2 := YJ14_compareValues) (As := [va_rf r0, va_rf r1, .int q1.1, .int q3.1]) (rest := []) kJ14_compareValues q1445 q1446 dJ14_compareTo_14 rfl rfl (ct_J14_compareValues g hst N q3.2 r0 r1 q1.1 q3.1 _ e6) (Nat.le_of_ble_eq_true rfl) (Nat.le_of_ble_eq_true rfl) (fun v9 h9 z9 y9 => ?_)
  obtain ⟨rfl, rfl⟩ := y9
  refine aw_st (st' := [.int q5.1]) rfl ?_
  cases hq
  exact aw_ireturn dJ14_compareTo_17 rfl rfl ⟨rfl, rfl⟩
abbrev YJ18_length : YC := (yJ18_length, cJ18_length, 1, (some .int), [])
theorem kJ18_length : aMk YJ18_length 1 := ⟨rfl, q1453, q140, ⟨by decide +kernel, by decide +kernel, by decide +kernel⟩, Nat.le_of_ble_eq_true rfl⟩
def x_J18_length (g : AG) (N : Nat) (h : AH) (r0 : Option Nat) : Option (Int32 × AH) :=
  (r0).bind fun a1 => (rdN h a1).bind fun i3 => some (i3, h)
theorem ct_J18_length (g : AG) (hst : (gL g).stackTraces = false) (N : Nat) : ∀ (h : AH) (r0 : Option Nat) (q : (Int32 × AH)), x_J18_length g N h r0 = some q → CT g YJ18_length 1 [va_rf r0] h (xI q) := by
  intro h r0 q hq
  refine CT.of rfl (by decide +kernel) (loc := [some (va_rf r0)]) (by first | exact Nat.le_of_ble_eq_true rfl | (simp only [lgl_rf, lgl_i, lgl_j, lgl_ref, lgl_nil]; exact Nat.le_of_ble_eq_true rfl)) (by first | rfl | (simp only [aent_rf, aent_i, aent_j, aent_ref, aent_nil]; rfl)) ?_
  unfold x_J18_length at hq
  refine aw_aload_n (i := 0) dJ18_length_0 rfl rfl (aIsR_rf _) ?_
  replace hq := obind hq
  obtain ⟨a1, e2, hq⟩ := hq
  subst e2
  replace hq := obind hq
  obtain ⟨i3, e4, hq⟩ := hq
  refine xw_alen e4 dJ18_length_1 ?_
  cases hq
  exact aw_ireturn dJ18_length_2 rfl rfl ⟨rfl, rfl⟩
abbrev YJ18_compareToUTF16Values : YC := (yJ18_compareToUTF16Values, cJ18_compareToUTF16Values, 8, (some .int), [])
theorem kJ18_compareToUTF16Values : aMk YJ18_compareToUTF16Values 4 := ⟨rfl, q1457, q140, ⟨by decide +kernel, by decide +kernel, by decide +kernel⟩, Nat.le_of_ble_eq_true rfl⟩
def x_J18_compareToUTF16Values_10 (g : AG) (N : Nat) (K52 : AH → Option Nat → Option Nat → Int32 → Int32 → Int32 → Int32 → Option (Int32 × AH)) (K40 : AH → Option Nat → Option Nat → Int32 → Int32 → Int32 → Int32 → Int32 → Int32 → Option (Int32 × AH)) : Nat → AH → Option Nat → Option Nat → Int32 → Int32 → Int32 → Int32 → Option (Int32 × AH)
  | 0, _, _, _, _, _, _, _ => none
  | n9 + 1, h, r0, r1, x2, x3, x4, x5 =>
  if x4 ≤ x5 then (K52 h r0 r1 x2 x3 x4 x5) else ((x_J18_getChar g N h r0 x5).bind fun q2 => (x_J14_getChar g N q2.2 r1 x5).bind fun q4 => if q2.1 = q4.1 then (x_J18_compareToUTF16Values_10 g N K52 K40 n9 q4.2 r0 r1 x2 x3 x4 (x5 + 1)) else (K40 q4.2 r0 r1 x2 x3 x4 x5 q2.1 q4.1))
theorem p_x_J18_compareToUTF16Values_10 (g : AG) (hst : (gL g).stackTraces = false) (N : Nat) (K52 : AH → Option Nat → Option Nat → Int32 → Int32 → Int32 → Int32 → Option (Int32 × AH)) (K40 : AH → Option Nat → Option Nat → Int32 → Int32 → Int32 → Int32 → Int32 → Int32 → Option (Int32 × AH)) (hK52 : ∀ (h : AH) (r0 : Option Nat) (r1 : Option Nat) (x2 : Int32) (x3 : Int32) (x4 : Int32) (x5 : Int32) (q : (Int32 × AH)), K52 h r0 r1 x2 x3 x4 x5 = some q → AW g YJ18_compareToUTF16Values 3 (xI q) h [some (va_rf r0), some (va_rf r1), some (.int x2), some (.int x3), some (.int x4), some (.int x5), none, none] 52 []) (hK40 : ∀ (h : AH) (r0 : Option Nat) (r1 : Option Nat) (x2 : Int32) (x3 : Int32) (x4 : Int32) (x5 : Int32) (x6 : Int32) (x7 : Int32) (q : (Int32 × AH)), K40 h r0 r1 x2 x3 x4 x5 x6 x7 = some q → AW g YJ18_compareToUTF16Values 3 (xI q) h [some (va_rf r0), some (va_rf r1), some (.int x2), some (.int x3), some (.int x4), some (.int x5), some (.int x6), some (.int x7)] 40 []) : ∀ (n9 : Nat) (h : AH) (r0 : Option Nat) (r1 : Option Nat) (x2 : Int32) (x3 : Int32) (x4 : Int32) (x5 : Int32) (q : (Int32 × AH)), x_J18_compareToUTF16Values_10 g N K52 K40 n9 h r0 r1 x2 x3 x4 x5 = some q → AW g YJ18_compareToUTF16Values 3 (xI q) h [some (va_rf r0), some (va_rf r1), some (.int x2), some (.int x3), some (.int x4), some (.int x5), none, none] 10 [] := by
  intro n9
  induction n9 with
  | zero =>
    intro h r0 r1 x2 x3 x4 x5 q hq
    cases hq
  | succ n9 ih =>
    intro h r0 r1 x2 x3 x4 x5 q hq
    rw [x_J18_compareToUTF16Values_10] at hq
    refine aw_iload dJ18_compareToUTF16Values_10 rfl ?_
    refine aw_iload dJ18_compareToUTF16Values_12 rfl ?_
    refine aw_icmp_ge (tgt := 52) dJ18_compareToUTF16Values_14 (by decide) (fun c1 => ?_) (fun c1 => ?_)
    · rw [if_pos c1] at hq
      exact hK52 h r0 r1 x2 x3 x4 x5 _ hq
    · rw [if_neg c1] at hq
      refine aw_aload_n (i := 0) dJ18_compareToUTF16Values_17 rfl rfl (aIsR_rf _) ?_
      refine aw_iload dJ18_compareToUTF16Values_18 rfl ?_
      replace hq := obind hq
      obtain ⟨q2, e3, hq⟩ := hq
      refine aw_callS (Y2 := YJ18_getChar) (As := [va_rf r0, .int x5]) (rest := []) kJ18_getChar q1439 q1440 dJ18_compareToUTF16Values_20 rfl rfl (ct_J18_getChar g hst N h r0 x5 _ e3) (Nat.le_of_ble_eq_true rfl) (Nat.le_of_ble_eq_true rfl) (fun v9 h9 z9 y9 => ?_)
      obtain ⟨rfl, rfl⟩ := y9
      refine aw_st (st' := [.int q2.1]) rfl ?_
      refine aw_istore (loc' := [some (va_rf r0), some (va_rf r1), some (.int x2), some (.int x3), some (.int x4), some (.int x5), some (.int q2.1), none]) dJ18_compareToUTF16Values_23 (Nat.le_of_ble_eq_true rfl) rfl ?_
      refine aw_aload_n (i := 1) dJ18_compareToUTF16Values_25 rfl rfl (aIsR_rf _) ?_
      refine aw_iload dJ18_compareToUTF16Values_26 rfl ?_
      replace hq := obind hq
      obtain ⟨q4, e5, hq⟩ := hq
      refine aw_callS (Y2 := YJ14_getChar) (As := [va_rf r1, .int x5]) (rest := []) kJ14_getChar q1458 q742 dJ18_compareToUTF16Values_28 rfl rfl (ct_J14_getChar g hst N q2.2 r1 x5 _ e5) (Nat.le_of_ble_eq_true rfl) (Nat.le_of_ble_eq_true rfl) (fun v9 h9 z9 y9 => ?_)
      obtain ⟨rfl, rfl⟩ := y9
      refine aw_st (st' := [.int q4.1]) rfl ?_
      refine aw_istore (loc' := [some (va_rf r0), some (va_rf r1), some (.int x2), some (.int x3), some (.int x4), some (.int x5), some (.int q2.1), some (.int q4.1)]) dJ18_compareToUTF16Values_31 (Nat.le_of_ble_eq_true rfl) rfl ?_
      refine aw_iload dJ18_compareToUTF16Values_33 rfl ?_
      refine aw_iload dJ18_compareToUTF16Values_35 rfl ?_
      refine aw_icmp_eq (tgt := 46) dJ18_compareToUTF16Values_37 (by decide) (fun c6 => ?_) (fun c6 => ?_)
      · rw [if_pos c6] at hq
        refine aw_iinc (v := x5 + 1) (loc' := [some (va_rf r0), some (va_rf r1), some (.int x2), some (.int x3), some (.int x4), some (.int (x5 + 1)), some (.int q2.1), some (.int q4.1)]) dJ18_compareToUTF16Values_46 rfl rfl (Nat.le_of_ble_eq_true rfl) rfl ?_
        refine aw_goto (tgt := 10) dJ18_compareToUTF16Values_49 (by decide) ?_
        refine aw_subl (loc' := [some (va_rf r0), some (va_rf r1), some (.int x2), some (.int x3), some (.int x4), some (.int (x5 + 1)), none, none]) ⟨Or.inr rfl, Or.inr rfl, Or.inr rfl, Or.inr rfl, Or.inr rfl, Or.inr rfl, Or.inl rfl, Or.inl rfl, trivial⟩ ?_
        exact ih q4.2 r0 r1 x2 x3 x4 (x5 + 1) _ hq
      · rw [if_neg c6] at hq
        exact hK40 q4.2 r0 r1 x2 x3 x4 x5 q2.1 q4.1 _ hq
def x_J18_compareToUTF16Values (g : AG) (N : Nat) (h : AH) (r0 : Option Nat) (r1 : Option Nat) (x2 : Int32) (x3 : Int32) : Option (Int32 × AH) :=
  x_J18_compareToUTF16Values_10 g N (fun h r0 r1 x2 x3 x4 x5 => some ((x2 - x3), h)) (fun h r0 r1 x2 x3 x4 x5 x6 x7 => some ((x6 - x7), h)) N h r0 r1 x2 x3 (if x3 < x2 then x3 else x2) (0 : Int32)
theorem ct_J18_compareToUTF16Values (g : AG) (hst : (gL g).stackTraces = false) (N : Nat) : ∀ (h : AH) (r0 : Option Nat) (r1 : Option Nat) (x2 : Int32) (x3 : Int32) (q : (Int32 × AH)), x_J18_compareToUTF16Values g N h r0 r1 x2 x3 = some q → CT g YJ18_compareToUTF16Values 3 [va_rf r0, va_rf r1, .int x2, .int x3] h (xI q) := by
  intro h r0 r1 x2 x3 q hq
  refine CT.of rfl (by decide +kernel) (loc := [some (va_rf r0), some (va_rf r1), some (.int x2), some (.int x3), none, none, none, none]) (by first | exact Nat.le_of_ble_eq_true rfl | (simp only [lgl_rf, lgl_i, lgl_j, lgl_ref, lgl_nil]; exact Nat.le_of_ble_eq_true rfl)) (by first | rfl | (simp only [aent_rf, aent_i, aent_j, aent_ref, aent_nil]; rfl)) ?_
  unfold x_J18_compareToUTF16Values at hq
  refine aw_iload_n (i := 2) dJ18_compareToUTF16Values_0 rfl rfl ?_
  refine aw_iload_n (i := 3) dJ18_compareToUTF16Values_1 rfl rfl ?_
  refine aw_mmin q930 (by omega) (Nat.le_of_ble_eq_true rfl) dJ18_compareToUTF16Values_2 ?_
  refine aw_istore (loc' := [some (va_rf r0), some (va_rf r1), some (.int x2), some (.int x3), some (.int (if x3 < x2 then x3 else x2)), none, none, none]) dJ18_compareToUTF16Values_5 (Nat.le_of_ble_eq_true rfl) rfl ?_
  refine aw_iconst (v := 0) dJ18_compareToUTF16Values_7 (by decide) ?_
  refine aw_istore (loc' := [some (va_rf r0), some (va_rf r1), some (.int x2), some (.int x3), some (.int (if x3 < x2 then x3 else x2)), some (.int (0 : Int32)), none, none]) dJ18_compareToUTF16Values_8 (Nat.le_of_ble_eq_true rfl) rfl ?_
  refine p_x_J18_compareToUTF16Values_10 g hst N _ _ ?_ ?_ N h r0 r1 x2 x3 (if x3 < x2 then x3 else x2) (0 : Int32) _ hq
  · intro h r0 r1 x2 x3 x4 x5 q hq
    refine aw_iload_n (i := 2) dJ18_compareToUTF16Values_52 rfl rfl ?_
    refine aw_iload_n (i := 3) dJ18_compareToUTF16Values_53 rfl rfl ?_
    refine aw_isub dJ18_compareToUTF16Values_54 ?_
    cases hq
    exact aw_ireturn dJ18_compareToUTF16Values_55 rfl rfl ⟨rfl, rfl⟩
  · intro h r0 r1 x2 x3 x4 x5 x6 x7 q hq
    refine aw_iload dJ18_compareToUTF16Values_40 rfl ?_
    refine aw_iload dJ18_compareToUTF16Values_42 rfl ?_
    refine aw_isub dJ18_compareToUTF16Values_44 ?_
    cases hq
    exact aw_ireturn dJ18_compareToUTF16Values_45 rfl rfl ⟨rfl, rfl⟩
abbrev YJ18_compareToUTF16 : YC := (yJ18_compareToUTF16, cJ18_compareToUTF16, 4, (some .int), [])
theorem kJ18_compareToUTF16 : aMk YJ18_compareToUTF16 2 := ⟨rfl, q1450, q140, ⟨by decide +kernel, by decide +kernel, by decide +kernel⟩, Nat.le_of_ble_eq_true rfl⟩
def x_J18_compareToUTF16 (g : AG) (N : Nat) (h : AH) (r0 : Option Nat) (r1 : Option Nat) : Option (Int32 × AH) :=
  (x_J18_length g N h r0).bind fun q1 => (x_J14_length g N q1.2 r1).bind fun q3 => (x_J18_compareToUTF16Values g N q3.2 r0 r1 q1.1 q3.1).bind fun q5 => some (q5.1, q5.2)
theorem ct_J18_compareToUTF16 (g : AG) (hst : (gL g).stackTraces = false) (N : Nat) : ∀ (h : AH) (r0 : Option Nat) (r1 : Option Nat) (q : (Int32 × AH)), x_J18_compareToUTF16 g N h r0 r1 = some q → CT g YJ18_compareToUTF16 4 [va_rf r0, va_rf r1] h (xI q) := by
  intro h r0 r1 q hq
  refine CT.of rfl (by decide +kernel) (loc := [some (va_rf r0), some (va_rf r1), none, none]) (by first | exact Nat.le_of_ble_eq_true rfl | (simp only [lgl_rf, lgl_i, lgl_j, lgl_ref, lgl_nil]; exact Nat.le_of_ble_eq_true rfl)) (by first | rfl | (simp only [aent_rf, aent_i, aent_j, aent_ref, aent_nil]; rfl)) ?_
  unfold x_J18_compareToUTF16 at hq
  refine aw_aload_n (i := 0) dJ18_compareToUTF16_0 rfl rfl (aIsR_rf _) ?_
  replace hq := obind hq
  obtain ⟨q1, e2, hq⟩ := hq
  refine aw_callS (Y2 := YJ18_length) (As := [va_rf r0]) (rest := []) kJ18_length q1451 q1452 dJ18_compareToUTF16_1 rfl rfl (ct_J18_length g hst N h r0 _ e2) (Nat.le_of_ble_eq_true rfl) (Nat.le_of_ble_eq_true rfl) (fun v9 h9 z9 y9 => ?_)
  obtain ⟨rfl, rfl⟩ := y9
  refine aw_st (st' := [.int q1.1]) rfl ?_
  refine aw_istore_n (i := 2) (loc' := [some (va_rf r0), some (va_rf r1), some (.int q1.1), none]) dJ18_compareToUTF16_4 rfl (Nat.le_of_ble_eq_true rfl) (aset1_rf rfl) ?_
  refine aw_aload_n (i := 1) dJ18_compareToUTF16_5 rfl rfl (aIsR_rf _) ?_
  replace hq := obind hq
  obtain ⟨q3, e4, hq⟩ := hq
  refine aw_callS (Y2 := YJ14_length) (As := [va_rf r1]) (rest := []) kJ14_length q1454 q584 dJ18_compareToUTF16_6 rfl rfl (ct_J14_length g hst N q1.2 r1 _ e4) (Nat.le_of_ble_eq_true rfl) (Nat.le_of_ble_eq_true rfl) (fun v9 h9 z9 y9 => ?_)
  obtain ⟨rfl, rfl⟩ := y9
  refine aw_st (st' := [.int q3.1]) rfl ?_
  refine aw_istore_n (i := 3) (loc' := [some (va_rf r0), some (va_rf r1), some (.int q1.1), some (.int q3.1)]) dJ18_compareToUTF16_9 rfl (Nat.le_of_ble_eq_true rfl) rfl ?_
  refine aw_aload_n (i := 0) dJ18_compareToUTF16_10 rfl rfl (aIsR_rf _) ?_
  refine aw_aload_n (i := 1) dJ18_compareToUTF16_11 rfl rfl (aIsR_rf _) ?_
  refine aw_iload_n (i := 2) dJ18_compareToUTF16_12 rfl rfl ?_
  refine aw_iload_n (i := 3) dJ18_compareToUTF16_13 rfl rfl ?_
  replace hq := obind hq
  obtain ⟨q5, e6, hq⟩ := hq
  refine aw_callS (Y2 := YJ18_compareToUTF16Values) (As := [va_rf r0, va_rf r1, .int q1.1, .int q3.1]) (rest := []) kJ18_compareToUTF16Values q1455 q1456 dJ18_compareToUTF16_14 rfl rfl (ct_J18_compareToUTF16Values g hst N q3.2 r0 r1 q1.1 q3.1 _ e6) (Nat.le_of_ble_eq_true rfl) (Nat.le_of_ble_eq_true rfl) (fun v9 h9 z9 y9 => ?_)
  obtain ⟨rfl, rfl⟩ := y9
  refine aw_st (st' := [.int q5.1]) rfl ?_
  cases hq
  exact aw_ireturn dJ18_compareToUTF16_17 rfl rfl ⟨rfl, rfl⟩
abbrev YJ14_compareToLatin1 : YC := (yJ14_compareToLatin1, cJ14_compareToLatin1, 2, (some .int), [])
theorem kJ14_compareToLatin1 : aMk YJ14_compareToLatin1 2 := ⟨rfl, q1461, q135, ⟨by decide +kernel, by decide +kernel, by decide +kernel⟩, Nat.le_of_ble_eq_true rfl⟩
def x_J14_compareToLatin1 (g : AG) (N : Nat) (h : AH) (r0 : Option Nat) (r1 : Option Nat) : Option (Int32 × AH) :=
  (x_J18_compareToUTF16 g N h r1 r0).bind fun q1 => some ((-q1.1), q1.2)
theorem ct_J14_compareToLatin1 (g : AG) (hst : (gL g).stackTraces = false) (N : Nat) : ∀ (h : AH) (r0 : Option Nat) (r1 : Option Nat) (q : (Int32 × AH)), x_J14_compareToLatin1 g N h r0 r1 = some q → CT g YJ14_compareToLatin1 5 [va_rf r0, va_rf r1] h (xI q) := by
  intro h r0 r1 q hq
  refine CT.of rfl (by decide +kernel) (loc := [some (va_rf r0), some (va_rf r1)]) (by first | exact Nat.le_of_ble_eq_true rfl | (simp only [lgl_rf, lgl_i, lgl_j, lgl_ref, lgl_nil]; exact Nat.le_of_ble_eq_true rfl)) (by first | rfl | (simp only [aent_rf, aent_i, aent_j, aent_ref, aent_nil]; rfl)) ?_
  unfold x_J14_compareToLatin1 at hq
  refine aw_aload_n (i := 1) dJ14_compareToLatin1_0 rfl rfl (aIsR_rf _) ?_
  refine aw_aload_n (i := 0) dJ14_compareToLatin1_1 rfl rfl (aIsR_rf _) ?_
  replace hq := obind hq
  obtain ⟨q1, e2, hq⟩ := hq
  refine aw_callS (Y2 := YJ18_compareToUTF16) (As := [va_rf r1, va_rf r0]) (rest := []) kJ18_compareToUTF16 q1462 q1449 dJ14_compareToLatin1_2 rfl rfl (ct_J18_compareToUTF16 g hst N h r1 r0 _ e2) (Nat.le_of_ble_eq_true rfl) (Nat.le_of_ble_eq_true rfl) (fun v9 h9 z9 y9 => ?_)
  obtain ⟨rfl, rfl⟩ := y9
  refine aw_st (st' := [.int q1.1]) rfl ?_
  refine aw_ineg dJ14_compareToLatin1_5 ?_
  cases hq
  exact aw_ireturn dJ14_compareToLatin1_6 rfl rfl ⟨rfl, rfl⟩
abbrev YJ13_compareTo_2 : YC := (yJ13_compareTo_2, cJ13_compareTo_2, 5, (some .int), [])
theorem kJ13_compareTo_2 : aMk YJ13_compareTo_2 1 := ⟨rfl, q1328, q134, ⟨by decide +kernel, by decide +kernel, by decide +kernel⟩, Nat.le_of_ble_eq_true rfl⟩
def x_J13_compareTo_2 (g : AG) (N : Nat) (h : AH) (x0 : Nat) (r1 : Option Nat) : Option (Int32 × AH) :=
  (rdR h x0 [(17, 0)]).bind fun o1 => (r1).bind fun a3 => (rdR h a3 [(17, 0)]).bind fun o5 => bif clB h x0 [17] then ((x_J13_coder g N h x0).bind fun q8 => bif clB q8.2 a3 [17] then ((x_J13_coder g N q8.2 a3).bind fun q11 => if q8.1 = q11.1 then (if q8.1 = 0 then ((x_J18_compareTo g N q11.2 o1 o5).bind fun q22 => some (q22.1, q22.2)) else ((x_J14_compareTo g N q11.2 o1 o5).bind fun q20 => some (q20.1, q20.2))) else (if q8.1 = 0 then ((x_J18_compareToUTF16 g N q11.2 o1 o5).bind fun q17 => some (q17.1, q17.2)) else ((x_J14_compareToLatin1 g N q11.2 o1 o5).bind fun q15 => some (q15.1, q15.2)))) else none) else none
theorem ct_J13_compareTo_2 (g : AG) (hst : (gL g).stackTraces = false) (N : Nat) : ∀ (h : AH) (x0 : Nat) (r1 : Option Nat) (q : (Int32 × AH)), x_J13_compareTo_2 g N h x0 r1 = some q → CT g YJ13_compareTo_2 7 [.ref x0, va_rf r1] h (xI q) := by
  intro h x0 r1 q hq
  refine CT.of rfl (by decide +kernel) (loc := [some (.ref x0), some (va_rf r1), none, none, none]) (by first | exact Nat.le_of_ble_eq_true rfl | (simp only [lgl_rf, lgl_i, lgl_j, lgl_ref, lgl_nil]; exact Nat.le_of_ble_eq_true rfl)) (by first | rfl | (simp only [aent_rf, aent_i, aent_j, aent_ref, aent_nil]; rfl)) ?_
  unfold x_J13_compareTo_2 at hq
  refine aw_aload_n (i := 0) dJ13_compareTo_2_0 rfl rfl trivial ?_
  replace hq := obind hq
  obtain ⟨o1, e2, hq⟩ := hq
  refine xw_getR e2 fJ13_9 dJ13_compareTo_2_1 ?_
  refine aw_astore_n (i := 2) (loc' := [some (.ref x0), some (va_rf r1), some (va_rf o1), none, none]) dJ13_compareTo_2_4 rfl (Nat.le_of_ble_eq_true rfl) (aIsR_rf _) (aset1_rf rfl) ?_
  refine aw_aload_n (i := 1) dJ13_compareTo_2_5 rfl rfl (aIsR_rf _) ?_
  replace hq := obind hq
  obtain ⟨a3, e4, hq⟩ := hq
  subst e4
  replace hq := obind hq
  obtain ⟨o5, e6, hq⟩ := hq
  refine xw_getR e6 fJ13_9 dJ13_compareTo_2_6 ?_
  refine aw_astore_n (i := 3) (loc' := [some (.ref x0), some (.ref a3), some (va_rf o1), some (va_rf o5), none]) dJ13_compareTo_2_9 rfl (Nat.le_of_ble_eq_true rfl) (aIsR_rf _) (aset1_rf rfl) ?_
  refine aw_aload_n (i := 0) dJ13_compareTo_2_10 rfl rfl trivial ?_
  replace hq := cond_t hq
  obtain ⟨z7, hq⟩ := hq
  obtain ⟨fs9, ha9⟩ := clB1 z7
  replace hq := obind hq
  obtain ⟨q8, e9, hq⟩ := hq
  refine aw_callV (Y2 := YJ13_coder) (As := []) (rest := []) (r := (RJ13, TJ13, 4)) kJ13_coder ha9 rfl rfl q708 q709 q710 dJ13_compareTo_2_11 rfl rfl (ct_J13_coder g hst N h x0 _ e9) (Nat.le_of_ble_eq_true rfl) (Nat.le_of_ble_eq_true rfl) (fun v9 h9 z9 y9 => ?_)
  obtain ⟨rfl, rfl⟩ := y9
  refine aw_st (st' := [.int q8.1]) rfl ?_
  refine aw_istore (loc' := [some (.ref x0), some (.ref a3), some (va_rf o1), some (va_rf o5), some (.int q8.1)]) dJ13_compareTo_2_14 (Nat.le_of_ble_eq_true rfl) (aset1_rf rfl) ?_
  refine aw_iload dJ13_compareTo_2_16 rfl ?_
  refine aw_aload_n (i := 1) dJ13_compareTo_2_18 rfl rfl trivial ?_
  replace hq := cond_t hq
  obtain ⟨z10, hq⟩ := hq
  obtain ⟨fs9, ha9⟩ := clB1 z10
  replace hq := obind hq
  obtain ⟨q11, e12, hq⟩ := hq
  refine aw_callV (Y2 := YJ13_coder) (As := []) (rest := [.int q8.1]) (r := (RJ13, TJ13, 4)) kJ13_coder ha9 rfl rfl q708 q709 q710 dJ13_compareTo_2_19 rfl rfl (ct_J13_coder g hst N q8.2 a3 _ e12) (Nat.le_of_ble_eq_true rfl) (Nat.le_of_ble_eq_true rfl) (fun v9 h9 z9 y9 => ?_)
  obtain ⟨rfl, rfl⟩ := y9
  refine aw_st (st' := [.int q11.1, .int q8.1]) rfl ?_
  refine aw_icmp_ne (tgt := 44) dJ13_compareTo_2_22 (by decide) (fun c13 => ?_) (fun c13 => ?_)
  · rw [if_neg c13] at hq
    refine aw_iload dJ13_compareTo_2_44 rfl ?_
    refine aw_if_ne (tgt := 57) dJ13_compareTo_2_46 (by decide) (fun c14 => ?_) (fun c14 => ?_)
    · rw [if_neg c14] at hq
      refine aw_aload_n (i := 2) dJ13_compareTo_2_57 rfl rfl (aIsR_rf _) ?_
      refine aw_aload_n (i := 3) dJ13_compareTo_2_58 rfl rfl (aIsR_rf _) ?_
      replace hq := obind hq
      obtain ⟨q15, e16, hq⟩ := hq
      refine aw_callS (Y2 := YJ14_compareToLatin1) (As := [va_rf o1, va_rf o5]) (rest := []) kJ14_compareToLatin1 q1459 q1460 dJ13_compareTo_2_59 rfl rfl (ct_J14_compareToLatin1 g hst N q11.2 o1 o5 _ e16) (Nat.le_of_ble_eq_true rfl) (Nat.le_of_ble_eq_true rfl) (fun v9 h9 z9 y9 => ?_)
      obtain ⟨rfl, rfl⟩ := y9
      refine aw_st (st' := [.int q15.1]) rfl ?_
      cases hq
      exact aw_ireturn dJ13_compareTo_2_62 rfl rfl ⟨rfl, rfl⟩
    · rw [if_pos c14] at hq
      refine aw_aload_n (i := 2) dJ13_compareTo_2_49 rfl rfl (aIsR_rf _) ?_
      refine aw_aload_n (i := 3) dJ13_compareTo_2_50 rfl rfl (aIsR_rf _) ?_
      replace hq := obind hq
      obtain ⟨q17, e18, hq⟩ := hq
      refine aw_callS (Y2 := YJ18_compareToUTF16) (As := [va_rf o1, va_rf o5]) (rest := []) kJ18_compareToUTF16 q1448 q1449 dJ13_compareTo_2_51 rfl rfl (ct_J18_compareToUTF16 g hst N q11.2 o1 o5 _ e18) (Nat.le_of_ble_eq_true rfl) (Nat.le_of_ble_eq_true rfl) (fun v9 h9 z9 y9 => ?_)
      obtain ⟨rfl, rfl⟩ := y9
      refine aw_st (st' := [.int q17.1]) rfl ?_
      refine aw_goto (tgt := 62) dJ13_compareTo_2_54 (by decide) ?_
      cases hq
      exact aw_ireturn dJ13_compareTo_2_62 rfl rfl ⟨rfl, rfl⟩
  · rw [if_pos c13] at hq
    refine aw_iload dJ13_compareTo_2_25 rfl ?_
    refine aw_if_ne (tgt := 38) dJ13_compareTo_2_27 (by decide) (fun c19 => ?_) (fun c19 => ?_)
    · rw [if_neg c19] at hq
      refine aw_aload_n (i := 2) dJ13_compareTo_2_38 rfl rfl (aIsR_rf _) ?_
      refine aw_aload_n (i := 3) dJ13_compareTo_2_39 rfl rfl (aIsR_rf _) ?_
      replace hq := obind hq
      obtain ⟨q20, e21, hq⟩ := hq
      refine aw_callS (Y2 := YJ14_compareTo) (As := [va_rf o1, va_rf o5]) (rest := []) kJ14_compareTo q1442 q1443 dJ13_compareTo_2_40 rfl rfl (ct_J14_compareTo g hst N q11.2 o1 o5 _ e21) (Nat.le_of_ble_eq_true rfl) (Nat.le_of_ble_eq_true rfl) (fun v9 h9 z9 y9 => ?_)
      obtain ⟨rfl, rfl⟩ := y9
      refine aw_st (st' := [.int q20.1]) rfl ?_
      cases hq
      exact aw_ireturn dJ13_compareTo_2_43 rfl rfl ⟨rfl, rfl⟩
    · rw [if_pos c19] at hq
      refine aw_aload_n (i := 2) dJ13_compareTo_2_30 rfl rfl (aIsR_rf _) ?_
      refine aw_aload_n (i := 3) dJ13_compareTo_2_31 rfl rfl (aIsR_rf _) ?_
      replace hq := obind hq
      obtain ⟨q22, e23, hq⟩ := hq
      refine aw_callS (Y2 := YJ18_compareTo) (As := [va_rf o1, va_rf o5]) (rest := []) kJ18_compareTo q1329 q1330 dJ13_compareTo_2_32 rfl rfl (ct_J18_compareTo g hst N q11.2 o1 o5 _ e23) (Nat.le_of_ble_eq_true rfl) (Nat.le_of_ble_eq_true rfl) (fun v9 h9 z9 y9 => ?_)
      obtain ⟨rfl, rfl⟩ := y9
      refine aw_st (st' := [.int q22.1]) rfl ?_
      refine aw_goto (tgt := 43) dJ13_compareTo_2_35 (by decide) ?_
      cases hq
      exact aw_ireturn dJ13_compareTo_2_43 rfl rfl ⟨rfl, rfl⟩
theorem casjava_lang_String : ∀ c ∈ ([17] : List Nat), ∃ r : vw_C, aCl[c]? = some r ∧ (r.1 = "java/lang/String" ∨ Cond.castable r.1 "java/lang/String" ∈ lw_tbl) := by
  intro c hc
  simp only [List.mem_cons, List.not_mem_nil, or_false] at hc
  subst hc
  exact ⟨(RJ13, TJ13, 4), rfl, Or.inl rfl⟩
abbrev YJ13_compareTo : YC := (yJ13_compareTo, cJ13_compareTo, 2, (some .int), [])
theorem kJ13_compareTo : aMk YJ13_compareTo 1 := ⟨rfl, q1324, q134, ⟨by decide +kernel, by decide +kernel, by decide +kernel⟩, Nat.le_of_ble_eq_true rfl⟩
def x_J13_compareTo (g : AG) (N : Nat) (h : AH) (x0 : Nat) (r1 : Option Nat) : Option (Int32 × AH) :=
  bif casB h r1 [17] then (bif clB h x0 [17] then ((x_J13_compareTo_2 g N h x0 r1).bind fun q3 => some (q3.1, q3.2)) else none) else none
theorem ct_J13_compareTo (g : AG) (hst : (gL g).stackTraces = false) (N : Nat) : ∀ (h : AH) (x0 : Nat) (r1 : Option Nat) (q : (Int32 × AH)), x_J13_compareTo g N h x0 r1 = some q → CT g YJ13_compareTo 8 [.ref x0, va_rf r1] h (xI q) := by
  intro h x0 r1 q hq
  refine CT.of rfl (by decide +kernel) (loc := [some (.ref x0), some (va_rf r1)]) (by first | exact Nat.le_of_ble_eq_true rfl | (simp only [lgl_rf, lgl_i, lgl_j, lgl_ref, lgl_nil]; exact Nat.le_of_ble_eq_true rfl)) (by first | rfl | (simp only [aent_rf, aent_i, aent_j, aent_ref, aent_nil]; rfl)) ?_
  unfold x_J13_compareTo at hq
  refine aw_aload_n (i := 0) dJ13_compareTo_0 rfl rfl trivial ?_
  refine aw_aload_n (i := 1) dJ13_compareTo_1 rfl rfl (aIsR_rf _) ?_
  replace hq := cond_t hq
  obtain ⟨z1, hq⟩ := hq
  refine xw_cast (r := r1) z1 q1253 casjava_lang_String dJ13_compareTo_2 ?_
  replace hq := cond_t hq
  obtain ⟨z2, hq⟩ := hq
  obtain ⟨fs9, ha9⟩ := clB1 z2
  replace hq := obind hq
  obtain ⟨q3, e4, hq⟩ := hq
  refine aw_callV (Y2 := YJ13_compareTo_2) (As := [va_rf r1]) (rest := []) (r := (RJ13, TJ13, 4)) kJ13_compareTo_2 ha9 rfl rfl q1325 q1326 q1327 dJ13_compareTo_5 rfl rfl (ct_J13_compareTo_2 g hst N h x0 r1 _ e4) (Nat.le_of_ble_eq_true rfl) (Nat.le_of_ble_eq_true rfl) (fun v9 h9 z9 y9 => ?_)
  obtain ⟨rfl, rfl⟩ := y9
  refine aw_st (st' := [.int q3.1]) rfl ?_
  cases hq
  exact aw_ireturn dJ13_compareTo_8 rfl rfl ⟨rfl, rfl⟩
abbrev YJ18_equals : YC := (yJ18_equals, cJ18_equals, 3, (some .boolean), [])
theorem kJ18_equals : aMk YJ18_equals 2 := ⟨rfl, q1256, q140, ⟨by decide +kernel, by decide +kernel, by decide +kernel⟩, Nat.le_of_ble_eq_true rfl⟩
def x_J18_equals_9 (g : AG) (N : Nat) : Nat → AH → Option Nat → Option Nat → Int32 → Option (Int32 × AH)
  | 0, _, _, _, _ => none
  | n9 + 1, h, r0, r1, x2 =>
  (r0).bind fun a10 => (rdN h a10).bind fun i12 => if i12 ≤ x2 then (some ((1 : Int32), h)) else (((rdA h a10 3 x2).bind vI).bind fun i15 => (r1).bind fun a17 => ((rdA h a17 3 x2).bind vI).bind fun i19 => if i15 = i19 then (x_J18_equals_9 g N n9 h (some a10) (some a17) (x2 + 1)) else (some ((0 : Int32), h)))
theorem p_x_J18_equals_9 (g : AG) (hst : (gL g).stackTraces = false) (N : Nat) : ∀ (n9 : Nat) (h : AH) (r0 : Option Nat) (r1 : Option Nat) (x2 : Int32) (q : (Int32 × AH)), x_J18_equals_9 g N n9 h r0 r1 x2 = some q → AW g YJ18_equals 1 (xI q) h [some (va_rf r0), some (va_rf r1), some (.int x2)] 9 [] := by
  intro n9
  induction n9 with
  | zero =>
    intro h r0 r1 x2 q hq
    cases hq
  | succ n9 ih =>
    intro h r0 r1 x2 q hq
    rw [x_J18_equals_9] at hq
    refine aw_iload_n (i := 2) dJ18_equals_9 rfl rfl ?_
    refine aw_aload_n (i := 0) dJ18_equals_10 rfl rfl (aIsR_rf _) ?_
    replace hq := obind hq
    obtain ⟨a10, e11, hq⟩ := hq
    subst e11
    replace hq := obind hq
    obtain ⟨i12, e13, hq⟩ := hq
    refine xw_alen e13 dJ18_equals_11 ?_
    refine aw_icmp_ge (tgt := 32) dJ18_equals_12 (by decide) (fun c14 => ?_) (fun c14 => ?_)
    · rw [if_pos c14] at hq
      refine aw_iconst (v := 1) dJ18_equals_32 (by decide) ?_
      cases hq
      exact aw_ireturn dJ18_equals_33 rfl rfl ⟨rfl, rfl⟩
    · rw [if_neg c14] at hq
      refine aw_aload_n (i := 0) dJ18_equals_15 rfl rfl trivial ?_
      refine aw_iload_n (i := 2) dJ18_equals_16 rfl rfl ?_
      replace hq := obind hq
      obtain ⟨i15, e16, hq⟩ := hq
      refine xw_bald e16 dJ18_equals_17 ?_
      refine aw_aload_n (i := 1) dJ18_equals_18 rfl rfl (aIsR_rf _) ?_
      refine aw_iload_n (i := 2) dJ18_equals_19 rfl rfl ?_
      replace hq := obind hq
      obtain ⟨a17, e18, hq⟩ := hq
      subst e18
      replace hq := obind hq
      obtain ⟨i19, e20, hq⟩ := hq
      refine xw_bald e20 dJ18_equals_20 ?_
      refine aw_icmp_eq (tgt := 26) dJ18_equals_21 (by decide) (fun c21 => ?_) (fun c21 => ?_)
      · rw [if_pos c21] at hq
        refine aw_iinc (v := x2 + 1) (loc' := [some (.ref a10), some (.ref a17), some (.int (x2 + 1))]) dJ18_equals_26 rfl rfl (Nat.le_of_ble_eq_true rfl) rfl ?_
        refine aw_goto (tgt := 9) dJ18_equals_29 (by decide) ?_
        exact ih h (some a10) (some a17) (x2 + 1) _ hq
      · rw [if_neg c21] at hq
        refine aw_iconst (v := 0) dJ18_equals_24 (by decide) ?_
        cases hq
        exact aw_ireturn dJ18_equals_25 rfl rfl ⟨rfl, rfl⟩
def x_J18_equals (g : AG) (N : Nat) (h : AH) (r0 : Option Nat) (r1 : Option Nat) : Option (Int32 × AH) :=
  (r0).bind fun a1 => (rdN h a1).bind fun i3 => (r1).bind fun a5 => (rdN h a5).bind fun i7 => if i3 = i7 then (x_J18_equals_9 g N  N h (some a1) (some a5) (0 : Int32)) else (some ((0 : Int32), h))
theorem ct_J18_equals (g : AG) (hst : (gL g).stackTraces = false) (N : Nat) : ∀ (h : AH) (r0 : Option Nat) (r1 : Option Nat) (q : (Int32 × AH)), x_J18_equals g N h r0 r1 = some q → CT g YJ18_equals 1 [va_rf r0, va_rf r1] h (xI q) := by
  intro h r0 r1 q hq
  refine CT.of rfl (by decide +kernel) (loc := [some (va_rf r0), some (va_rf r1), none]) (by first | exact Nat.le_of_ble_eq_true rfl | (simp only [lgl_rf, lgl_i, lgl_j, lgl_ref, lgl_nil]; exact Nat.le_of_ble_eq_true rfl)) (by first | rfl | (simp only [aent_rf, aent_i, aent_j, aent_ref, aent_nil]; rfl)) ?_
  unfold x_J18_equals at hq
  refine aw_aload_n (i := 0) dJ18_equals_0 rfl rfl (aIsR_rf _) ?_
  replace hq := obind hq
  obtain ⟨a1, e2, hq⟩ := hq
  subst e2
  replace hq := obind hq
  obtain ⟨i3, e4, hq⟩ := hq
  refine xw_alen e4 dJ18_equals_1 ?_
  refine aw_aload_n (i := 1) dJ18_equals_2 rfl rfl (aIsR_rf _) ?_
  replace hq := obind hq
  obtain ⟨a5, e6, hq⟩ := hq
  subst e6
  replace hq := obind hq
  obtain ⟨i7, e8, hq⟩ := hq
  refine xw_alen e8 dJ18_equals_3 ?_
  refine aw_icmp_ne (tgt := 34) dJ18_equals_4 (by decide) (fun c9 => ?_) (fun c9 => ?_)
  · rw [if_neg c9] at hq
    refine aw_iconst (v := 0) dJ18_equals_34 (by decide) ?_
    cases hq
    exact aw_ireturn dJ18_equals_35 rfl rfl ⟨rfl, rfl⟩
  · rw [if_pos c9] at hq
    refine aw_iconst (v := 0) dJ18_equals_7 (by decide) ?_
    refine aw_istore_n (i := 2) (loc' := [some (.ref a1), some (.ref a5), some (.int (0 : Int32))]) dJ18_equals_8 rfl (Nat.le_of_ble_eq_true rfl) rfl ?_
    exact p_x_J18_equals_9 g hst N   N h (some a1) (some a5) (0 : Int32) _ hq
theorem ncajava_lang_String : ∀ c ∈ ([] : List Nat), ∃ r : vw_C, aCl[c]? = some r ∧ (r.1, "java/lang/String") ∈ aNc := by
  intro c hc
  simp only [List.mem_cons, List.not_mem_nil, or_false] at hc

abbrev YJ13_equals : YC := (yJ13_equals, cJ13_equals, 3, (some .boolean), [])
theorem kJ13_equals : aMk YJ13_equals 1 := ⟨rfl, q1252, q134, ⟨by decide +kernel, by decide +kernel, by decide +kernel⟩, Nat.le_of_ble_eq_true rfl⟩
def x_J13_equals_36 (g : AG) (N : Nat) (h : AH) (x0 : Nat) (r1 : Option Nat) (r2 : Option Nat) : Option (Int32 × AH) :=
  (rdR h x0 [(17, 0)]).bind fun o9 => (r2).bind fun a11 => (rdR h a11 [(17, 0)]).bind fun o13 => (x_J18_equals g N h o9 o13).bind fun q15 => if q15.1 = 0 then (some ((0 : Int32), q15.2)) else (some ((1 : Int32), q15.2))
theorem p_x_J13_equals_36 (g : AG) (hst : (gL g).stackTraces = false) (N : Nat) : ∀ (h : AH) (x0 : Nat) (r1 : Option Nat) (r2 : Option Nat) (q : (Int32 × AH)), x_J13_equals_36 g N h x0 r1 r2 = some q → AW g YJ13_equals 2 (xI q) h [some (.ref x0), some (va_rf r1), some (va_rf r2)] 36 [] := by
  intro h x0 r1 r2 q hq
  unfold x_J13_equals_36 at hq
  refine aw_aload_n (i := 0) dJ13_equals_36 rfl rfl trivial ?_
  replace hq := obind hq
  obtain ⟨o9, e10, hq⟩ := hq
  refine xw_getR e10 fJ13_9 dJ13_equals_37 ?_
  refine aw_aload_n (i := 2) dJ13_equals_40 rfl rfl (aIsR_rf _) ?_
  replace hq := obind hq
  obtain ⟨a11, e12, hq⟩ := hq
  subst e12
  replace hq := obind hq
  obtain ⟨o13, e14, hq⟩ := hq
  refine xw_getR e14 fJ13_9 dJ13_equals_41 ?_
  replace hq := obind hq
  obtain ⟨q15, e16, hq⟩ := hq
  refine aw_callS (Y2 := YJ18_equals) (As := [va_rf o9, va_rf o13]) (rest := []) kJ18_equals q1254 q1255 dJ13_equals_44 rfl rfl (ct_J18_equals g hst N h o9 o13 _ e16) (Nat.le_of_ble_eq_true rfl) (Nat.le_of_ble_eq_true rfl) (fun v9 h9 z9 y9 => ?_)
  obtain ⟨rfl, rfl⟩ := y9
  refine aw_st (st' := [.int q15.1]) rfl ?_
  refine aw_if_eq (tgt := 54) dJ13_equals_47 (by decide) (fun c17 => ?_) (fun c17 => ?_)
  · rw [if_pos c17] at hq
    refine aw_iconst (v := 0) dJ13_equals_54 (by decide) ?_
    cases hq
    exact aw_ireturn dJ13_equals_55 rfl rfl ⟨rfl, rfl⟩
  · rw [if_neg c17] at hq
    refine aw_iconst (v := 1) dJ13_equals_50 (by decide) ?_
    refine aw_goto (tgt := 55) dJ13_equals_51 (by decide) ?_
    cases hq
    exact aw_ireturn dJ13_equals_55 rfl rfl ⟨rfl, rfl⟩
def x_J13_equals (g : AG) (N : Nat) (h : AH) (x0 : Nat) (r1 : Option Nat) : Option (Int32 × AH) :=
  if (some x0) = r1 then (some ((1 : Int32), h)) else ((insI h r1 [17] []).bind fun i2 => if i2 = 0 then (some ((0 : Int32), h)) else (bif casB h r1 [17] then ((vI (gV g 16)).bind fun i6 => if i6 = 0 then (x_J13_equals_36 g N  h x0 r1 r1) else ((rdI h x0 [(17, 1)]).bind fun i18 => (r1).bind fun a20 => (rdI h a20 [(17, 1)]).bind fun i22 => if i18 = i22 then (x_J13_equals_36 g N  h x0 (some a20) (some a20)) else (some ((0 : Int32), h)))) else none))
theorem ct_J13_equals (g : AG) (hst : (gL g).stackTraces = false) (N : Nat) : ∀ (h : AH) (x0 : Nat) (r1 : Option Nat) (q : (Int32 × AH)), x_J13_equals g N h x0 r1 = some q → CT g YJ13_equals 2 [.ref x0, va_rf r1] h (xI q) := by
  intro h x0 r1 q hq
  refine CT.of rfl (by decide +kernel) (loc := [some (.ref x0), some (va_rf r1), none]) (by first | exact Nat.le_of_ble_eq_true rfl | (simp only [lgl_rf, lgl_i, lgl_j, lgl_ref, lgl_nil]; exact Nat.le_of_ble_eq_true rfl)) (by first | rfl | (simp only [aent_rf, aent_i, aent_j, aent_ref, aent_nil]; rfl)) ?_
  unfold x_J13_equals at hq
  refine aw_aload_n (i := 0) dJ13_equals_0 rfl rfl trivial ?_
  refine aw_aload_n (i := 1) dJ13_equals_1 rfl rfl (aIsR_rf _) ?_
  refine xw_acmp_ne (v := (some x0)) (w := r1) (tgt := 7) dJ13_equals_2 (by decide) (fun c1 => ?_) (fun c1 => ?_)
  · rw [if_neg c1] at hq
    refine aw_aload_n (i := 1) dJ13_equals_7 rfl rfl (aIsR_rf _) ?_
    replace hq := obind hq
    obtain ⟨i2, e3, hq⟩ := hq
    refine xw_inst (r := r1) e3 q1253 casjava_lang_String ncajava_lang_String dJ13_equals_8 ?_
    refine aw_if_eq (tgt := 54) dJ13_equals_11 (by decide) (fun c4 => ?_) (fun c4 => ?_)
    · rw [if_pos c4] at hq
      refine aw_iconst (v := 0) dJ13_equals_54 (by decide) ?_
      cases hq
      exact aw_ireturn dJ13_equals_55 rfl rfl ⟨rfl, rfl⟩
    · rw [if_neg c4] at hq
      refine aw_aload_n (i := 1) dJ13_equals_14 rfl rfl (aIsR_rf _) ?_
      replace hq := cond_t hq
      obtain ⟨z5, hq⟩ := hq
      refine xw_cast (r := r1) z5 q1253 casjava_lang_String dJ13_equals_15 ?_
      refine aw_astore_n (i := 2) (loc' := [some (.ref x0), some (va_rf r1), some (va_rf r1)]) dJ13_equals_18 rfl (Nat.le_of_ble_eq_true rfl) (aIsR_rf _) (aset1_rf rfl) ?_
      replace hq := obind hq
      obtain ⟨i6, e7, hq⟩ := hq
      refine xw_gets (i := 16) (vI_eq e7) rfl q712 dJ13_equals_19 rfl ?_
      refine aw_if_eq (tgt := 36) dJ13_equals_22 (by decide) (fun c8 => ?_) (fun c8 => ?_)
      · rw [if_pos c8] at hq
        exact p_x_J13_equals_36 g hst N   h x0 r1 r1 _ hq
      · rw [if_neg c8] at hq
        refine aw_aload_n (i := 0) dJ13_equals_25 rfl rfl trivial ?_
        replace hq := obind hq
        obtain ⟨i18, e19, hq⟩ := hq
        refine xw_getI e19 fJ13_15 dJ13_equals_26 ?_
        refine aw_aload_n (i := 2) dJ13_equals_29 rfl rfl (aIsR_rf _) ?_
        replace hq := obind hq
        obtain ⟨a20, e21, hq⟩ := hq
        subst e21
        replace hq := obind hq
        obtain ⟨i22, e23, hq⟩ := hq
        refine xw_getI e23 fJ13_15 dJ13_equals_30 ?_
        refine aw_icmp_ne (tgt := 54) dJ13_equals_33 (by decide) (fun c24 => ?_) (fun c24 => ?_)
        · rw [if_neg c24] at hq
          refine aw_iconst (v := 0) dJ13_equals_54 (by decide) ?_
          cases hq
          exact aw_ireturn dJ13_equals_55 rfl rfl ⟨rfl, rfl⟩
        · rw [if_pos c24] at hq
          exact p_x_J13_equals_36 g hst N   h x0 (some a20) (some a20) _ hq
  · rw [if_pos c1] at hq
    refine aw_iconst (v := 1) dJ13_equals_5 (by decide) ?_
    cases hq
    exact aw_ireturn dJ13_equals_6 rfl rfl ⟨rfl, rfl⟩
abbrev YJ15_signedHashCode : YC := (yJ15_signedHashCode, cJ15_signedHashCode, 6, (some .int), [])
theorem kJ15_signedHashCode : aMk YJ15_signedHashCode 4 := ⟨rfl, q1169, q136, ⟨by decide +kernel, by decide +kernel, by decide +kernel⟩, Nat.le_of_ble_eq_true rfl⟩
def x_J15_signedHashCode_8 (g : AG) (N : Nat) : Nat → AH → Int32 → Option Nat → Int32 → Int32 → Int32 → Int32 → Option (Int32 × AH)
  | 0, _, _, _, _, _, _, _ => none
  | n9 + 1, h, x0, r1, x2, x3, x4, x5 =>
  if x4 ≤ x5 then (some (x0, h)) else ((r1).bind fun a2 => ((rdA h a2 3 x5).bind vI).bind fun i4 => x_J15_signedHashCode_8 g N n9 h (((31 : Int32) * x0) + (i4 &&& (255 : Int32))) (some a2) x2 x3 x4 (x5 + 1))
theorem p_x_J15_signedHashCode_8 (g : AG) (hst : (gL g).stackTraces = false) (N : Nat) : ∀ (n9 : Nat) (h : AH) (x0 : Int32) (r1 : Option Nat) (x2 : Int32) (x3 : Int32) (x4 : Int32) (x5 : Int32) (q : (Int32 × AH)), x_J15_signedHashCode_8 g N n9 h x0 r1 x2 x3 x4 x5 = some q → AW g YJ15_signedHashCode 1 (xI q) h [some (.int x0), some (va_rf r1), some (.int x2), some (.int x3), some (.int x4), some (.int x5)] 8 [] := by
  intro n9
  induction n9 with
  | zero =>
    intro h x0 r1 x2 x3 x4 x5 q hq
    cases hq
  | succ n9 ih =>
    intro h x0 r1 x2 x3 x4 x5 q hq
    rw [x_J15_signedHashCode_8] at hq
    refine aw_iload dJ15_signedHashCode_8 rfl ?_
    refine aw_iload dJ15_signedHashCode_10 rfl ?_
    refine aw_icmp_ge (tgt := 35) dJ15_signedHashCode_12 (by decide) (fun c1 => ?_) (fun c1 => ?_)
    · rw [if_pos c1] at hq
      refine aw_iload_n (i := 0) dJ15_signedHashCode_35 rfl rfl ?_
      cases hq
      exact aw_ireturn dJ15_signedHashCode_36 rfl rfl ⟨rfl, rfl⟩
    · rw [if_neg c1] at hq
      refine aw_bipush (v := 31) dJ15_signedHashCode_15 (by decide) ?_
      refine aw_iload_n (i := 0) dJ15_signedHashCode_17 rfl rfl ?_
      refine aw_imul dJ15_signedHashCode_18 ?_
      refine aw_aload_n (i := 1) dJ15_signedHashCode_19 rfl rfl (aIsR_rf _) ?_
      refine aw_iload dJ15_signedHashCode_20 rfl ?_
      replace hq := obind hq
      obtain ⟨a2, e3, hq⟩ := hq
      subst e3
      replace hq := obind hq
      obtain ⟨i4, e5, hq⟩ := hq
      refine xw_bald e5 dJ15_signedHashCode_22 ?_
      refine aw_sipush (v := 255) dJ15_signedHashCode_23 (by decide) ?_
      refine aw_iand dJ15_signedHashCode_26 ?_
      refine aw_iadd dJ15_signedHashCode_27 ?_
      refine aw_istore_n (i := 0) (loc' := [some (.int (((31 : Int32) * x0) + (i4 &&& (255 : Int32)))), some (.ref a2), some (.int x2), some (.int x3), some (.int x4), some (.int x5)]) dJ15_signedHashCode_28 rfl (Nat.le_of_ble_eq_true rfl) rfl ?_
      refine aw_iinc (v := x5 + 1) (loc' := [some (.int (((31 : Int32) * x0) + (i4 &&& (255 : Int32)))), some (.ref a2), some (.int x2), some (.int x3), some (.int x4), some (.int (x5 + 1))]) dJ15_signedHashCode_29 rfl rfl (Nat.le_of_ble_eq_true rfl) rfl ?_
      refine aw_goto (tgt := 8) dJ15_signedHashCode_32 (by decide) ?_
      exact ih h (((31 : Int32) * x0) + (i4 &&& (255 : Int32))) (some a2) x2 x3 x4 (x5 + 1) _ hq
def x_J15_signedHashCode (g : AG) (N : Nat) (h : AH) (x0 : Int32) (r1 : Option Nat) (x2 : Int32) (x3 : Int32) : Option (Int32 × AH) :=
  x_J15_signedHashCode_8 g N  N h x0 r1 x2 x3 (x2 + x3) x2
theorem ct_J15_signedHashCode (g : AG) (hst : (gL g).stackTraces = false) (N : Nat) : ∀ (h : AH) (x0 : Int32) (r1 : Option Nat) (x2 : Int32) (x3 : Int32) (q : (Int32 × AH)), x_J15_signedHashCode g N h x0 r1 x2 x3 = some q → CT g YJ15_signedHashCode 1 [.int x0, va_rf r1, .int x2, .int x3] h (xI q) := by
  intro h x0 r1 x2 x3 q hq
  refine CT.of rfl (by decide +kernel) (loc := [some (.int x0), some (va_rf r1), some (.int x2), some (.int x3), none, none]) (by first | exact Nat.le_of_ble_eq_true rfl | (simp only [lgl_rf, lgl_i, lgl_j, lgl_ref, lgl_nil]; exact Nat.le_of_ble_eq_true rfl)) (by first | rfl | (simp only [aent_rf, aent_i, aent_j, aent_ref, aent_nil]; rfl)) ?_
  unfold x_J15_signedHashCode at hq
  refine aw_iload_n (i := 2) dJ15_signedHashCode_0 rfl rfl ?_
  refine aw_iload_n (i := 3) dJ15_signedHashCode_1 rfl rfl ?_
  refine aw_iadd dJ15_signedHashCode_2 ?_
  refine aw_istore (loc' := [some (.int x0), some (va_rf r1), some (.int x2), some (.int x3), some (.int (x2 + x3)), none]) dJ15_signedHashCode_3 (Nat.le_of_ble_eq_true rfl) rfl ?_
  refine aw_iload_n (i := 2) dJ15_signedHashCode_5 rfl rfl ?_
  refine aw_istore (loc' := [some (.int x0), some (va_rf r1), some (.int x2), some (.int x3), some (.int (x2 + x3)), some (.int x2)]) dJ15_signedHashCode_6 (Nat.le_of_ble_eq_true rfl) rfl ?_
  exact p_x_J15_signedHashCode_8 g hst N   N h x0 r1 x2 x3 (x2 + x3) x2 _ hq
abbrev YJ15_hashCode_2 : YC := (yJ15_hashCode_2, cJ15_hashCode_2, 6, (some .int), [])
theorem kJ15_hashCode_2 : aMk YJ15_hashCode_2 4 := ⟨rfl, q1192, q136, ⟨by decide +kernel, by decide +kernel, by decide +kernel⟩, Nat.le_of_ble_eq_true rfl⟩
def x_J15_hashCode_2_8 (g : AG) (N : Nat) : Nat → AH → Int32 → Option Nat → Int32 → Int32 → Int32 → Int32 → Option (Int32 × AH)
  | 0, _, _, _, _, _, _, _ => none
  | n9 + 1, h, x0, r1, x2, x3, x4, x5 =>
  if x4 ≤ x5 then (some (x0, h)) else ((r1).bind fun a2 => ((rdA h a2 3 x5).bind vI).bind fun i4 => x_J15_hashCode_2_8 g N n9 h (((31 : Int32) * x0) + i4) (some a2) x2 x3 x4 (x5 + 1))
theorem p_x_J15_hashCode_2_8 (g : AG) (hst : (gL g).stackTraces = false) (N : Nat) : ∀ (n9 : Nat) (h : AH) (x0 : Int32) (r1 : Option Nat) (x2 : Int32) (x3 : Int32) (x4 : Int32) (x5 : Int32) (q : (Int32 × AH)), x_J15_hashCode_2_8 g N n9 h x0 r1 x2 x3 x4 x5 = some q → AW g YJ15_hashCode_2 1 (xI q) h [some (.int x0), some (va_rf r1), some (.int x2), some (.int x3), some (.int x4), some (.int x5)] 8 [] := by
  intro n9
  induction n9 with
  | zero =>
    intro h x0 r1 x2 x3 x4 x5 q hq
    cases hq
  | succ n9 ih =>
    intro h x0 r1 x2 x3 x4 x5 q hq
    rw [x_J15_hashCode_2_8] at hq
    refine aw_iload dJ15_hashCode_2_8 rfl ?_
    refine aw_iload dJ15_hashCode_2_10 rfl ?_
    refine aw_icmp_ge (tgt := 31) dJ15_hashCode_2_12 (by decide) (fun c1 => ?_) (fun c1 => ?_)
    · rw [if_pos c1] at hq
      refine aw_iload_n (i := 0) dJ15_hashCode_2_31 rfl rfl ?_
      cases hq
      exact aw_ireturn dJ15_hashCode_2_32 rfl rfl ⟨rfl, rfl⟩
    · rw [if_neg c1] at hq
      refine aw_bipush (v := 31) dJ15_hashCode_2_15 (by decide) ?_
      refine aw_iload_n (i := 0) dJ15_hashCode_2_17 rfl rfl ?_
      refine aw_imul dJ15_hashCode_2_18 ?_
      refine aw_aload_n (i := 1) dJ15_hashCode_2_19 rfl rfl (aIsR_rf _) ?_
      refine aw_iload dJ15_hashCode_2_20 rfl ?_
      replace hq := obind hq
      obtain ⟨a2, e3, hq⟩ := hq
      subst e3
      replace hq := obind hq
      obtain ⟨i4, e5, hq⟩ := hq
      refine xw_bald e5 dJ15_hashCode_2_22 ?_
      refine aw_iadd dJ15_hashCode_2_23 ?_
      refine aw_istore_n (i := 0) (loc' := [some (.int (((31 : Int32) * x0) + i4)), some (.ref a2), some (.int x2), some (.int x3), some (.int x4), some (.int x5)]) dJ15_hashCode_2_24 rfl (Nat.le_of_ble_eq_true rfl) rfl ?_
      refine aw_iinc (v := x5 + 1) (loc' := [some (.int (((31 : Int32) * x0) + i4)), some (.ref a2), some (.int x2), some (.int x3), some (.int x4), some (.int (x5 + 1))]) dJ15_hashCode_2_25 rfl rfl (Nat.le_of_ble_eq_true rfl) rfl ?_
      refine aw_goto (tgt := 8) dJ15_hashCode_2_28 (by decide) ?_
      exact ih h (((31 : Int32) * x0) + i4) (some a2) x2 x3 x4 (x5 + 1) _ hq
def x_J15_hashCode_2 (g : AG) (N : Nat) (h : AH) (x0 : Int32) (r1 : Option Nat) (x2 : Int32) (x3 : Int32) : Option (Int32 × AH) :=
  x_J15_hashCode_2_8 g N  N h x0 r1 x2 x3 (x2 + x3) x2
theorem ct_J15_hashCode_2 (g : AG) (hst : (gL g).stackTraces = false) (N : Nat) : ∀ (h : AH) (x0 : Int32) (r1 : Option Nat) (x2 : Int32) (x3 : Int32) (q : (Int32 × AH)), x_J15_hashCode_2 g N h x0 r1 x2 x3 = some q → CT g YJ15_hashCode_2 1 [.int x0, va_rf r1, .int x2, .int x3] h (xI q) := by
  intro h x0 r1 x2 x3 q hq
  refine CT.of rfl (by decide +kernel) (loc := [some (.int x0), some (va_rf r1), some (.int x2), some (.int x3), none, none]) (by first | exact Nat.le_of_ble_eq_true rfl | (simp only [lgl_rf, lgl_i, lgl_j, lgl_ref, lgl_nil]; exact Nat.le_of_ble_eq_true rfl)) (by first | rfl | (simp only [aent_rf, aent_i, aent_j, aent_ref, aent_nil]; rfl)) ?_
  unfold x_J15_hashCode_2 at hq
  refine aw_iload_n (i := 2) dJ15_hashCode_2_0 rfl rfl ?_
  refine aw_iload_n (i := 3) dJ15_hashCode_2_1 rfl rfl ?_
  refine aw_iadd dJ15_hashCode_2_2 ?_
  refine aw_istore (loc' := [some (.int x0), some (va_rf r1), some (.int x2), some (.int x3), some (.int (x2 + x3)), none]) dJ15_hashCode_2_3 (Nat.le_of_ble_eq_true rfl) rfl ?_
  refine aw_iload_n (i := 2) dJ15_hashCode_2_5 rfl rfl ?_
  refine aw_istore (loc' := [some (.int x0), some (va_rf r1), some (.int x2), some (.int x3), some (.int (x2 + x3)), some (.int x2)]) dJ15_hashCode_2_6 (Nat.le_of_ble_eq_true rfl) rfl ?_
  exact p_x_J15_hashCode_2_8 g hst N   N h x0 r1 x2 x3 (x2 + x3) x2 _ hq
abbrev YJ15_vectorizedHashCode : YC := (yJ15_vectorizedHashCode, cJ15_vectorizedHashCode, 5, (some .int), [])
theorem kJ15_vectorizedHashCode : aMk YJ15_vectorizedHashCode 5 := ⟨rfl, q1165, q136, ⟨by decide +kernel, by decide +kernel, by decide +kernel⟩, Nat.le_of_ble_eq_true rfl⟩
def x_J15_vectorizedHashCode (g : AG) (N : Nat) (h : AH) (r0 : Option Nat) (x1 : Int32) (x2 : Int32) (x3 : Int32) (x4 : Int32) : Option (Int32 × AH) :=
  if x4.toInt < 4 ∨ 10 < x4.toInt then (none) else (if x4 = 4 then ((r0).bind fun a3 => bif arB h a3 3 then ((x_J15_signedHashCode g N h x3 (some a3) x1 x2).bind fun q6 => some (q6.1, q6.2)) else none) else (if x4 = 5 then (none) else (if x4 = 6 then (none) else (if x4 = 7 then (none) else (if x4 = 8 then ((r0).bind fun a12 => bif arB h a12 3 then ((x_J15_hashCode_2 g N h x3 (some a12) x1 x2).bind fun q15 => some (q15.1, q15.2)) else none) else (if x4 = 9 then (none) else (if x4 = 10 then (none) else (none))))))))
theorem ct_J15_vectorizedHashCode (g : AG) (hst : (gL g).stackTraces = false) (N : Nat) : ∀ (h : AH) (r0 : Option Nat) (x1 : Int32) (x2 : Int32) (x3 : Int32) (x4 : Int32) (q : (Int32 × AH)), x_J15_vectorizedHashCode g N h r0 x1 x2 x3 x4 = some q → CT g YJ15_vectorizedHashCode 2 [va_rf r0, .int x1, .int x2, .int x3, .int x4] h (xI q) := by
  intro h r0 x1 x2 x3 x4 q hq
  refine CT.of rfl (by decide +kernel) (loc := [some (va_rf r0), some (.int x1), some (.int x2), some (.int x3), some (.int x4)]) (by first | exact Nat.le_of_ble_eq_true rfl | (simp only [lgl_rf, lgl_i, lgl_j, lgl_ref, lgl_nil]; exact Nat.le_of_ble_eq_true rfl)) (by first | rfl | (simp only [aent_rf, aent_i, aent_j, aent_ref, aent_nil]; rfl)) ?_
  unfold x_J15_vectorizedHashCode at hq
  refine aw_iload dJ15_vectorizedHashCode_0 rfl ?_
  by_cases c1 : x4.toInt < 4 ∨ 10 < x4.toInt
  · rw [if_pos c1] at hq
    refine aw_tableOut (tgt := 129) dJ15_vectorizedHashCode_2 c1 (by decide) ?_
    cases hq
  rw [if_neg c1] at hq
  by_cases c2 : x4 = 4
  · rw [if_pos c2] at hq
    refine aw_tableIn (off := 42) (tgt := 44) dJ15_vectorizedHashCode_2 (by rw [c2]; decide) (by rw [c2]; decide) (by rw [c2]; rfl) (by decide) ?_
    refine aw_iload_n (i := 3) dJ15_vectorizedHashCode_44 rfl rfl ?_
    refine aw_aload_n (i := 0) dJ15_vectorizedHashCode_45 rfl rfl (aIsR_rf _) ?_
    replace hq := obind hq
    obtain ⟨a3, e4, hq⟩ := hq
    subst e4
    replace hq := cond_t hq
    obtain ⟨z5, hq⟩ := hq
    refine xw_castB z5 q1166 dJ15_vectorizedHashCode_46 ?_
    refine aw_iload_n (i := 1) dJ15_vectorizedHashCode_49 rfl rfl ?_
    refine aw_iload_n (i := 2) dJ15_vectorizedHashCode_50 rfl rfl ?_
    replace hq := obind hq
    obtain ⟨q6, e7, hq⟩ := hq
    refine aw_callS (Y2 := YJ15_signedHashCode) (As := [.int x3, .ref a3, .int x1, .int x2]) (rest := []) kJ15_signedHashCode q1167 q1168 dJ15_vectorizedHashCode_51 rfl rfl (ct_J15_signedHashCode g hst N h x3 (some a3) x1 x2 _ e7) (Nat.le_of_ble_eq_true rfl) (Nat.le_of_ble_eq_true rfl) (fun v9 h9 z9 y9 => ?_)
    obtain ⟨rfl, rfl⟩ := y9
    refine aw_st (st' := [.int q6.1]) rfl ?_
    refine aw_goto (tgt := 157) dJ15_vectorizedHashCode_54 (by decide) ?_
    cases hq
    exact aw_ireturn dJ15_vectorizedHashCode_157 rfl rfl ⟨rfl, rfl⟩
  rw [if_neg c2] at hq
  by_cases c8 : x4 = 5
  · rw [if_pos c8] at hq
    refine aw_tableIn (off := 55) (tgt := 57) dJ15_vectorizedHashCode_2 (by rw [c8]; decide) (by rw [c8]; decide) (by rw [c8]; rfl) (by decide) ?_
    refine aw_aload_n (i := 0) dJ15_vectorizedHashCode_57 rfl rfl (aIsR_rf _) ?_
    cases hq
  rw [if_neg c8] at hq
  by_cases c9 : x4 = 6
  · rw [if_pos c9] at hq
    refine aw_tableIn (off := 127) (tgt := 129) dJ15_vectorizedHashCode_2 (by rw [c9]; decide) (by rw [c9]; decide) (by rw [c9]; rfl) (by decide) ?_
    cases hq
  rw [if_neg c9] at hq
  by_cases c10 : x4 = 7
  · rw [if_pos c10] at hq
    refine aw_tableIn (off := 127) (tgt := 129) dJ15_vectorizedHashCode_2 (by rw [c10]; decide) (by rw [c10]; decide) (by rw [c10]; rfl) (by decide) ?_
    cases hq
  rw [if_neg c10] at hq
  by_cases c11 : x4 = 8
  · rw [if_pos c11] at hq
    refine aw_tableIn (off := 88) (tgt := 90) dJ15_vectorizedHashCode_2 (by rw [c11]; decide) (by rw [c11]; decide) (by rw [c11]; rfl) (by decide) ?_
    refine aw_iload_n (i := 3) dJ15_vectorizedHashCode_90 rfl rfl ?_
    refine aw_aload_n (i := 0) dJ15_vectorizedHashCode_91 rfl rfl (aIsR_rf _) ?_
    replace hq := obind hq
    obtain ⟨a12, e13, hq⟩ := hq
    subst e13
    replace hq := cond_t hq
    obtain ⟨z14, hq⟩ := hq
    refine xw_castB z14 q1166 dJ15_vectorizedHashCode_92 ?_
    refine aw_iload_n (i := 1) dJ15_vectorizedHashCode_95 rfl rfl ?_
    refine aw_iload_n (i := 2) dJ15_vectorizedHashCode_96 rfl rfl ?_
    replace hq := obind hq
    obtain ⟨q15, e16, hq⟩ := hq
    refine aw_callS (Y2 := YJ15_hashCode_2) (As := [.int x3, .ref a12, .int x1, .int x2]) (rest := []) kJ15_hashCode_2 q1190 q1191 dJ15_vectorizedHashCode_97 rfl rfl (ct_J15_hashCode_2 g hst N h x3 (some a12) x1 x2 _ e16) (Nat.le_of_ble_eq_true rfl) (Nat.le_of_ble_eq_true rfl) (fun v9 h9 z9 y9 => ?_)
    obtain ⟨rfl, rfl⟩ := y9
    refine aw_st (st' := [.int q15.1]) rfl ?_
    refine aw_goto (tgt := 157) dJ15_vectorizedHashCode_100 (by decide) ?_
    cases hq
    exact aw_ireturn dJ15_vectorizedHashCode_157 rfl rfl ⟨rfl, rfl⟩
  rw [if_neg c11] at hq
  by_cases c17 : x4 = 9
  · rw [if_pos c17] at hq
    refine aw_tableIn (off := 101) (tgt := 103) dJ15_vectorizedHashCode_2 (by rw [c17]; decide) (by rw [c17]; decide) (by rw [c17]; rfl) (by decide) ?_
    refine aw_iload_n (i := 3) dJ15_vectorizedHashCode_103 rfl rfl ?_
    refine aw_aload_n (i := 0) dJ15_vectorizedHashCode_104 rfl rfl (aIsR_rf _) ?_
    cases hq
  rw [if_neg c17] at hq
  by_cases c18 : x4 = 10
  · rw [if_pos c18] at hq
    refine aw_tableIn (off := 114) (tgt := 116) dJ15_vectorizedHashCode_2 (by rw [c18]; decide) (by rw [c18]; decide) (by rw [c18]; rfl) (by decide) ?_
    refine aw_iload_n (i := 3) dJ15_vectorizedHashCode_116 rfl rfl ?_
    refine aw_aload_n (i := 0) dJ15_vectorizedHashCode_117 rfl rfl (aIsR_rf _) ?_
    cases hq
  rw [if_neg c18] at hq
  cases hq
abbrev YJ18_hashCode : YC := (yJ18_hashCode, cJ18_hashCode, 1, (some .int), [])
theorem kJ18_hashCode : aMk YJ18_hashCode 1 := ⟨rfl, q1162, q140, ⟨by decide +kernel, by decide +kernel, by decide +kernel⟩, Nat.le_of_ble_eq_true rfl⟩
def x_J18_hashCode (g : AG) (N : Nat) (h : AH) (r0 : Option Nat) : Option (Int32 × AH) :=
  (r0).bind fun a1 => (rdN h a1).bind fun i3 => if i3 = 0 then (some ((0 : Int32), h)) else (if i3 = 1 then (((rdA h a1 3 (0 : Int32)).bind vI).bind fun i7 => some ((i7 &&& (255 : Int32)), h)) else ((rdN h a1).bind fun i9 => (x_J15_vectorizedHashCode g N h (some a1) (0 : Int32) i9 (0 : Int32) (4 : Int32)).bind fun q11 => some (q11.1, q11.2)))
theorem ct_J18_hashCode (g : AG) (hst : (gL g).stackTraces = false) (N : Nat) : ∀ (h : AH) (r0 : Option Nat) (q : (Int32 × AH)), x_J18_hashCode g N h r0 = some q → CT g YJ18_hashCode 3 [va_rf r0] h (xI q) := by
  intro h r0 q hq
  refine CT.of rfl (by decide +kernel) (loc := [some (va_rf r0)]) (by first | exact Nat.le_of_ble_eq_true rfl | (simp only [lgl_rf, lgl_i, lgl_j, lgl_ref, lgl_nil]; exact Nat.le_of_ble_eq_true rfl)) (by first | rfl | (simp only [aent_rf, aent_i, aent_j, aent_ref, aent_nil]; rfl)) ?_
  unfold x_J18_hashCode at hq
  refine aw_aload_n (i := 0) dJ18_hashCode_0 rfl rfl (aIsR_rf _) ?_
  replace hq := obind hq
  obtain ⟨a1, e2, hq⟩ := hq
  subst e2
  replace hq := obind hq
  obtain ⟨i3, e4, hq⟩ := hq
  refine xw_alen e4 dJ18_hashCode_1 ?_
  by_cases c5 : i3 = 0
  · rw [if_pos c5] at hq
    refine aw_lookup (off := 26) (tgt := 28) dJ18_hashCode_2 (by decide) (by show Op.lookupswitch.offset [(0, 26), (1, 30)] 40 i3.toInt = 26; rw [c5]; rfl) (by decide) ?_
    refine aw_iconst (v := 0) dJ18_hashCode_28 (by decide) ?_
    refine aw_goto (tgt := 51) dJ18_hashCode_29 (by decide) ?_
    cases hq
    exact aw_ireturn dJ18_hashCode_51 rfl rfl ⟨rfl, rfl⟩
  rw [if_neg c5] at hq
  by_cases c6 : i3 = 1
  · rw [if_pos c6] at hq
    refine aw_lookup (off := 30) (tgt := 32) dJ18_hashCode_2 (by decide) (by show Op.lookupswitch.offset [(0, 26), (1, 30)] 40 i3.toInt = 30; rw [lv_osw (a := 0) c5 rfl]; rw [c6]; rfl) (by decide) ?_
    refine aw_aload_n (i := 0) dJ18_hashCode_32 rfl rfl trivial ?_
    refine aw_iconst (v := 0) dJ18_hashCode_33 (by decide) ?_
    replace hq := obind hq
    obtain ⟨i7, e8, hq⟩ := hq
    refine xw_bald e8 dJ18_hashCode_34 ?_
    refine aw_sipush (v := 255) dJ18_hashCode_35 (by decide) ?_
    refine aw_iand dJ18_hashCode_38 ?_
    refine aw_goto (tgt := 51) dJ18_hashCode_39 (by decide) ?_
    cases hq
    exact aw_ireturn dJ18_hashCode_51 rfl rfl ⟨rfl, rfl⟩
  rw [if_neg c6] at hq
  refine aw_lookup (off := 40) (tgt := 42) dJ18_hashCode_2 (by decide) (by show Op.lookupswitch.offset [(0, 26), (1, 30)] 40 i3.toInt = 40; rw [lv_osw (a := 0) c5 rfl, lv_osw (a := 1) c6 rfl]; rfl) (by decide) ?_
  refine aw_aload_n (i := 0) dJ18_hashCode_42 rfl rfl trivial ?_
  refine aw_iconst (v := 0) dJ18_hashCode_43 (by decide) ?_
  refine aw_aload_n (i := 0) dJ18_hashCode_44 rfl rfl trivial ?_
  replace hq := obind hq
  obtain ⟨i9, e10, hq⟩ := hq
  refine xw_alen e10 dJ18_hashCode_45 ?_
  refine aw_iconst (v := 0) dJ18_hashCode_46 (by decide) ?_
  refine aw_iconst (v := 4) dJ18_hashCode_47 (by decide) ?_
  replace hq := obind hq
  obtain ⟨q11, e12, hq⟩ := hq
  refine aw_callS (Y2 := YJ15_vectorizedHashCode) (As := [.ref a1, .int (0 : Int32), .int i9, .int (0 : Int32), .int (4 : Int32)]) (rest := []) kJ15_vectorizedHashCode q1163 q1164 dJ18_hashCode_48 rfl rfl (ct_J15_vectorizedHashCode g hst N h (some a1) (0 : Int32) i9 (0 : Int32) (4 : Int32) _ e12) (Nat.le_of_ble_eq_true rfl) (Nat.le_of_ble_eq_true rfl) (fun v9 h9 z9 y9 => ?_)
  obtain ⟨rfl, rfl⟩ := y9
  refine aw_st (st' := [.int q11.1]) rfl ?_
  cases hq
  exact aw_ireturn dJ18_hashCode_51 rfl rfl ⟨rfl, rfl⟩
abbrev YJ14_hashCode : YC := (yJ14_hashCode, cJ14_hashCode, 1, (some .int), [])
theorem kJ14_hashCode : aMk YJ14_hashCode 1 := ⟨rfl, q1211, q135, ⟨by decide +kernel, by decide +kernel, by decide +kernel⟩, Nat.le_of_ble_eq_true rfl⟩
def x_J14_hashCode (g : AG) (N : Nat) (h : AH) (r0 : Option Nat) : Option (Int32 × AH) :=
  (r0).bind fun a1 => (rdN h a1).bind fun i3 => if i3 = 0 then (some ((0 : Int32), h)) else (if i3 = 2 then ((x_J14_getChar g N h (some a1) (0 : Int32)).bind fun q7 => some (q7.1, q7.2)) else ((rdN h a1).bind fun i9 => (x_J15_vectorizedHashCode g N h (some a1) (0 : Int32) (i9 >>> ((1 : Int32) &&& 31)) (0 : Int32) (5 : Int32)).bind fun q11 => some (q11.1, q11.2)))
theorem ct_J14_hashCode (g : AG) (hst : (gL g).stackTraces = false) (N : Nat) : ∀ (h : AH) (r0 : Option Nat) (q : (Int32 × AH)), x_J14_hashCode g N h r0 = some q → CT g YJ14_hashCode 3 [va_rf r0] h (xI q) := by
  intro h r0 q hq
  refine CT.of rfl (by decide +kernel) (loc := [some (va_rf r0)]) (by first | exact Nat.le_of_ble_eq_true rfl | (simp only [lgl_rf, lgl_i, lgl_j, lgl_ref, lgl_nil]; exact Nat.le_of_ble_eq_true rfl)) (by first | rfl | (simp only [aent_rf, aent_i, aent_j, aent_ref, aent_nil]; rfl)) ?_
  unfold x_J14_hashCode at hq
  refine aw_aload_n (i := 0) dJ14_hashCode_0 rfl rfl (aIsR_rf _) ?_
  replace hq := obind hq
  obtain ⟨a1, e2, hq⟩ := hq
  subst e2
  replace hq := obind hq
  obtain ⟨i3, e4, hq⟩ := hq
  refine xw_alen e4 dJ14_hashCode_1 ?_
  by_cases c5 : i3 = 0
  · rw [if_pos c5] at hq
    refine aw_lookup (off := 26) (tgt := 28) dJ14_hashCode_2 (by decide) (by show Op.lookupswitch.offset [(0, 26), (2, 30)] 38 i3.toInt = 26; rw [c5]; rfl) (by decide) ?_
    refine aw_iconst (v := 0) dJ14_hashCode_28 (by decide) ?_
    refine aw_goto (tgt := 51) dJ14_hashCode_29 (by decide) ?_
    cases hq
    exact aw_ireturn dJ14_hashCode_51 rfl rfl ⟨rfl, rfl⟩
  rw [if_neg c5] at hq
  by_cases c6 : i3 = 2
  · rw [if_pos c6] at hq
    refine aw_lookup (off := 30) (tgt := 32) dJ14_hashCode_2 (by decide) (by show Op.lookupswitch.offset [(0, 26), (2, 30)] 38 i3.toInt = 30; rw [lv_osw (a := 0) c5 rfl]; rw [c6]; rfl) (by decide) ?_
    refine aw_aload_n (i := 0) dJ14_hashCode_32 rfl rfl trivial ?_
    refine aw_iconst (v := 0) dJ14_hashCode_33 (by decide) ?_
    replace hq := obind hq
    obtain ⟨q7, e8, hq⟩ := hq
    refine aw_callS (Y2 := YJ14_getChar) (As := [.ref a1, .int (0 : Int32)]) (rest := []) kJ14_getChar q741 q742 dJ14_hashCode_34 rfl rfl (ct_J14_getChar g hst N h (some a1) (0 : Int32) _ e8) (Nat.le_of_ble_eq_true rfl) (Nat.le_of_ble_eq_true rfl) (fun v9 h9 z9 y9 => ?_)
    obtain ⟨rfl, rfl⟩ := y9
    refine aw_st (st' := [.int q7.1]) rfl ?_
    refine aw_goto (tgt := 51) dJ14_hashCode_37 (by decide) ?_
    cases hq
    exact aw_ireturn dJ14_hashCode_51 rfl rfl ⟨rfl, rfl⟩
  rw [if_neg c6] at hq
  refine aw_lookup (off := 38) (tgt := 40) dJ14_hashCode_2 (by decide) (by show Op.lookupswitch.offset [(0, 26), (2, 30)] 38 i3.toInt = 38; rw [lv_osw (a := 0) c5 rfl, lv_osw (a := 2) c6 rfl]; rfl) (by decide) ?_
  refine aw_aload_n (i := 0) dJ14_hashCode_40 rfl rfl trivial ?_
  refine aw_iconst (v := 0) dJ14_hashCode_41 (by decide) ?_
  refine aw_aload_n (i := 0) dJ14_hashCode_42 rfl rfl trivial ?_
  replace hq := obind hq
  obtain ⟨i9, e10, hq⟩ := hq
  refine xw_alen e10 dJ14_hashCode_43 ?_
  refine aw_iconst (v := 1) dJ14_hashCode_44 (by decide) ?_
  refine aw_ishr dJ14_hashCode_45 ?_
  refine aw_iconst (v := 0) dJ14_hashCode_46 (by decide) ?_
  refine aw_iconst (v := 5) dJ14_hashCode_47 (by decide) ?_
  replace hq := obind hq
  obtain ⟨q11, e12, hq⟩ := hq
  refine aw_callS (Y2 := YJ15_vectorizedHashCode) (As := [.ref a1, .int (0 : Int32), .int (i9 >>> ((1 : Int32) &&& 31)), .int (0 : Int32), .int (5 : Int32)]) (rest := []) kJ15_vectorizedHashCode q1212 q1164 dJ14_hashCode_48 rfl rfl (ct_J15_vectorizedHashCode g hst N h (some a1) (0 : Int32) (i9 >>> ((1 : Int32) &&& 31)) (0 : Int32) (5 : Int32) _ e12) (Nat.le_of_ble_eq_true rfl) (Nat.le_of_ble_eq_true rfl) (fun v9 h9 z9 y9 => ?_)
  obtain ⟨rfl, rfl⟩ := y9
  refine aw_st (st' := [.int q11.1]) rfl ?_
  cases hq
  exact aw_ireturn dJ14_hashCode_51 rfl rfl ⟨rfl, rfl⟩
