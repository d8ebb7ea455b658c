/-! THE COMPONENT AND THE JDK as functions of the heap, and their contracts: printed by wip gen/dec2.py -/
set_option maxRecDepth 100000
abbrev YJ14_newString : YC := (yJ14_newString, cJ14_newString, 5, (some (.object "java/lang/String")), [])
theorem kJ14_newString : aMk YJ14_newString 3 := ⟨rfl, q803, q135, ⟨by decide +kernel, by decide +kernel, by decide +kernel⟩, Nat.le_of_ble_eq_true rfl⟩
def x_J14_newString (g : AG) (N : Nat) (h : AH) (r0 : Option Nat) (x1 : Int32) (x2 : Int32) : Option (Option Nat × AH) :=
  if x2 = 0 then (none) else ((vI (gV g 16)).bind fun i2 => if i2 = 0 then ((mkO g h 4 17 [.null, .int 0, .int 0, .int 0]).bind fun h5 => (x_J17_copyOfRange g N h5 r0 (x1 <<< ((1 : Int32) &&& 31)) ((x1 + x2) <<< ((1 : Int32) &&& 31))).bind fun q7 => (x_J13_init_3 g N q7.2 h.2.1 q7.1 (1 : Int32)).bind fun q9 => some ((some h.2.1), q9)) else ((x_J14_compress g N h r0 x1 x2).bind fun q11 => (x_J14_coderFromArrayLen g N q11.2 q11.1 x2).bind fun q13 => (mkO g q13.2 4 17 [.null, .int 0, .int 0, .int 0]).bind fun h15 => (x_J13_init_3 g N h15 q13.2.2.1 q11.1 q13.1).bind fun q17 => some ((some q13.2.2.1), q17)))
theorem ct_J14_newString (g : AG) (hst : (gL g).stackTraces = false) (N : Nat) : ∀ (h : AH) (r0 : Option Nat) (x1 : Int32) (x2 : Int32) (q : (Option Nat × AH)), x_J14_newString g N h r0 x1 x2 = some q → CT g YJ14_newString 6 [va_rf r0, .int x1, .int x2] h (xR q) := by
  intro h r0 x1 x2 q hq
  refine CT.of rfl (by decide +kernel) (loc := [some (va_rf r0), some (.int x1), some (.int x2), none, none]) (by first | exact Nat.le_of_ble_eq_true rfl | (simp only [lgl_rf, lgl_i, lgl_j, lgl_ref, lgl_nil]; exact Nat.le_of_ble_eq_true rfl)) (by first | rfl | (simp only [aent_rf, aent_i, aent_j, aent_ref, aent_nil]; rfl)) ?_
  unfold x_J14_newString at hq
  refine aw_iload_n (i := 2) dJ14_newString_0 rfl rfl ?_
  refine aw_if_ne (tgt := 8) dJ14_newString_1 (by decide) (fun c1 => ?_) (fun c1 => ?_)
  · rw [if_neg c1] at hq
    replace hq := obind hq
    obtain ⟨i2, e3, hq⟩ := hq
    refine xw_gets (i := 16) (vI_eq e3) rfl q805 dJ14_newString_8 rfl ?_
    refine aw_if_eq (tgt := 39) dJ14_newString_11 (by decide) (fun c4 => ?_) (fun c4 => ?_)
    · rw [if_pos c4] at hq
      refine aw_iload_n (i := 1) dJ14_newString_39 rfl rfl ?_
      refine aw_iload_n (i := 2) dJ14_newString_40 rfl rfl ?_
      refine aw_iadd dJ14_newString_41 ?_
      refine aw_istore_n (i := 3) (loc' := [some (va_rf r0), some (.int x1), some (.int x2), some (.int (x1 + x2)), none]) dJ14_newString_42 rfl (Nat.le_of_ble_eq_true rfl) rfl ?_
      replace hq := obind hq
      obtain ⟨h5, e6, hq⟩ := hq
      refine xw_new (r := (RJ13, TJ13, 4)) e6 q808 q620 q134 (by decide) rfl okJ13 rfl dfJ13 dJ14_newString_43 ?_
      refine aw_dup dJ14_newString_46 rfl ?_
      refine aw_aload_n (i := 0) dJ14_newString_47 rfl rfl (aIsR_rf _) ?_
      refine aw_iload_n (i := 1) dJ14_newString_48 rfl rfl ?_
      refine aw_iconst (v := 1) dJ14_newString_49 (by decide) ?_
      refine aw_ishl dJ14_newString_50 ?_
      refine aw_iload_n (i := 3) dJ14_newString_51 rfl rfl ?_
      refine aw_iconst (v := 1) dJ14_newString_52 (by decide) ?_
      refine aw_ishl dJ14_newString_53 ?_
      replace hq := obind hq
      obtain ⟨q7, e8, hq⟩ := hq
      refine aw_callS (Y2 := YJ17_copyOfRange) (As := [va_rf r0, .int (x1 <<< ((1 : Int32) &&& 31)), .int ((x1 + x2) <<< ((1 : Int32) &&& 31))]) (rest := [.ref h.2.1, .ref h.2.1]) kJ17_copyOfRange q744 q636 dJ14_newString_54 rfl rfl (ct_J17_copyOfRange g hst N h5 r0 (x1 <<< ((1 : Int32) &&& 31)) ((x1 + x2) <<< ((1 : Int32) &&& 31)) _ e8) (Nat.le_of_ble_eq_true rfl) (Nat.le_of_ble_eq_true rfl) (fun v9 h9 z9 y9 => ?_)
      obtain ⟨rfl, rfl⟩ := y9
      refine aw_st (st' := [va_rf q7.1, .ref h.2.1, .ref h.2.1]) rfl ?_
      refine aw_iconst (v := 1) dJ14_newString_57 (by decide) ?_
      replace hq := obind hq
      obtain ⟨q9, e10, hq⟩ := hq
      refine aw_callI (Y2 := YJ13_init_3) (As := [va_rf q7.1, .int (1 : Int32)]) (rest := [.ref h.2.1]) (b := h.2.1) kJ13_init_3 rfl rfl q809 q799 dJ14_newString_58 rfl rfl (ct_J13_init_3 g hst N q7.2 h.2.1 q7.1 (1 : Int32) _ e10) (Nat.le_of_ble_eq_true rfl) (Nat.le_of_ble_eq_true rfl) (fun v9 h9 z9 y9 => ?_)
      obtain ⟨rfl, y9⟩ := y9
      rw [y9]
      refine aw_st (st' := [.ref h.2.1]) rfl ?_
      cases hq
      exact aw_areturn dJ14_newString_61 rfl (Or.inl ⟨_, rfl⟩) trivial ⟨rfl, rfl⟩
    · rw [if_neg c4] at hq
      refine aw_aload_n (i := 0) dJ14_newString_14 rfl rfl (aIsR_rf _) ?_
      refine aw_iload_n (i := 1) dJ14_newString_15 rfl rfl ?_
      refine aw_iload_n (i := 2) dJ14_newString_16 rfl rfl ?_
      replace hq := obind hq
      obtain ⟨q11, e12, hq⟩ := hq
      refine aw_callS (Y2 := YJ14_compress) (As := [va_rf r0, .int x1, .int x2]) (rest := []) kJ14_compress q806 q736 dJ14_newString_17 rfl rfl (ct_J14_compress g hst N h r0 x1 x2 _ e12) (Nat.le_of_ble_eq_true rfl) (Nat.le_of_ble_eq_true rfl) (fun v9 h9 z9 y9 => ?_)
      obtain ⟨rfl, rfl⟩ := y9
      refine aw_st (st' := [va_rf q11.1]) rfl ?_
      refine aw_astore_n (i := 3) (loc' := [some (va_rf r0), some (.int x1), some (.int x2), some (va_rf q11.1), none]) dJ14_newString_20 rfl (Nat.le_of_ble_eq_true rfl) (aIsR_rf _) rfl ?_
      refine aw_aload_n (i := 3) dJ14_newString_21 rfl rfl (aIsR_rf _) ?_
      refine aw_iload_n (i := 2) dJ14_newString_22 rfl rfl ?_
      replace hq := obind hq
      obtain ⟨q13, e14, hq⟩ := hq
      refine aw_callS (Y2 := YJ14_coderFromArrayLen) (As := [va_rf q11.1, .int x2]) (rest := []) kJ14_coderFromArrayLen q807 q746 dJ14_newString_23 rfl rfl (ct_J14_coderFromArrayLen g hst N q11.2 q11.1 x2 _ e14) (Nat.le_of_ble_eq_true rfl) (Nat.le_of_ble_eq_true rfl) (fun v9 h9 z9 y9 => ?_)
      obtain ⟨rfl, rfl⟩ := y9
      refine aw_st (st' := [.int q13.1]) rfl ?_
      refine aw_istore (loc' := [some (va_rf r0), some (.int x1), some (.int x2), some (va_rf q11.1), some (.int q13.1)]) dJ14_newString_26 (Nat.le_of_ble_eq_true rfl) (aset1_rf rfl) ?_
      replace hq := obind hq
      obtain ⟨h15, e16, hq⟩ := hq
      refine xw_new (r := (RJ13, TJ13, 4)) e16 q808 q620 q134 (by decide) rfl okJ13 rfl dfJ13 dJ14_newString_28 ?_
      refine aw_dup dJ14_newString_31 rfl ?_
      refine aw_aload_n (i := 3) dJ14_newString_32 rfl rfl (aIsR_rf _) ?_
      refine aw_iload dJ14_newString_33 rfl ?_
      replace hq := obind hq
      obtain ⟨q17, e18, hq⟩ := hq
      refine aw_callI (Y2 := YJ13_init_3) (As := [va_rf q11.1, .int q13.1]) (rest := [.ref q13.2.2.1]) (b := q13.2.2.1) kJ13_init_3 rfl rfl q809 q799 dJ14_newString_35 rfl rfl (ct_J13_init_3 g hst N h15 q13.2.2.1 q11.1 q13.1 _ e18) (Nat.le_of_ble_eq_true rfl) (Nat.le_of_ble_eq_true rfl) (fun v9 h9 z9 y9 => ?_)
      obtain ⟨rfl, y9⟩ := y9
      rw [y9]
      refine aw_st (st' := [.ref q13.2.2.1]) rfl ?_
      cases hq
      exact aw_areturn dJ14_newString_38 rfl (Or.inl ⟨_, rfl⟩) trivial ⟨rfl, rfl⟩
  · rw [if_pos c1] at hq
    cases hq
abbrev YJ13_substring : YC := (yJ13_substring, cJ13_substring, 5, (some (.object "java/lang/String")), [])
theorem kJ13_substring : aMk YJ13_substring 2 := ⟨rfl, q789, q134, ⟨by decide +kernel, by decide +kernel, by decide +kernel⟩, Nat.le_of_ble_eq_true rfl⟩
def x_J13_substring_22 (g : AG) (N : Nat) (h : AH) (x0 : Nat) (x1 : Int32) (x2 : Int32) (x3 : Int32) : Option (Option Nat × AH) :=
  bif clB h x0 [17] then ((x_J13_isLatin1 g N h x0).bind fun q8 => if q8.1 = 0 then ((rdR q8.2 x0 [(17, 0)]).bind fun o11 => (x_J14_newString g N q8.2 o11 x1 (x2 - x1)).bind fun q13 => some (q13.1, q13.2)) else ((rdR q8.2 x0 [(17, 0)]).bind fun o15 => (x_J18_newString g N q8.2 o15 x1 (x2 - x1)).bind fun q17 => some (q17.1, q17.2))) else none
theorem p_x_J13_substring_22 (g : AG) (hst : (gL g).stackTraces = false) (N : Nat) : ∀ (h : AH) (x0 : Nat) (x1 : Int32) (x2 : Int32) (x3 : Int32) (q : (Option Nat × AH)), x_J13_substring_22 g N h x0 x1 x2 x3 = some q → AW g YJ13_substring 7 (xR q) h [some (.ref x0), some (.int x1), some (.int x2), some (.int x3), none] 22 [] := by
  intro h x0 x1 x2 x3 q hq
  unfold x_J13_substring_22 at hq
  refine aw_iload_n (i := 2) dJ13_substring_22 rfl rfl ?_
  refine aw_iload_n (i := 1) dJ13_substring_23 rfl rfl ?_
  refine aw_isub dJ13_substring_24 ?_
  refine aw_istore (loc' := [some (.ref x0), some (.int x1), some (.int x2), some (.int x3), some (.int (x2 - x1))]) dJ13_substring_25 (Nat.le_of_ble_eq_true rfl) rfl ?_
  refine aw_aload_n (i := 0) dJ13_substring_27 rfl rfl trivial ?_
  replace hq := cond_t hq
  obtain ⟨z7, hq⟩ := hq
  obtain ⟨fs9, ha9⟩ := clB1 z7
  replace hq := obind hq
  obtain ⟨q8, e9, hq⟩ := hq
  refine aw_callV (Y2 := YJ13_isLatin1) (As := []) (rest := []) (r := (RJ13, TJ13, 4)) kJ13_isLatin1 ha9 rfl rfl q770 q771 q772 dJ13_substring_28 rfl rfl (ct_J13_isLatin1 g hst N h x0 _ e9) (Nat.le_of_ble_eq_true rfl) (Nat.le_of_ble_eq_true rfl) (fun v9 h9 z9 y9 => ?_)
  obtain ⟨rfl, rfl⟩ := y9
  refine aw_st (st' := [.int q8.1]) rfl ?_
  refine aw_if_eq (tgt := 47) dJ13_substring_31 (by decide) (fun c10 => ?_) (fun c10 => ?_)
  · rw [if_pos c10] at hq
    refine aw_aload_n (i := 0) dJ13_substring_47 rfl rfl trivial ?_
    replace hq := obind hq
    obtain ⟨o11, e12, hq⟩ := hq
    refine xw_getR e12 fJ13_9 dJ13_substring_48 ?_
    refine aw_iload_n (i := 1) dJ13_substring_51 rfl rfl ?_
    refine aw_iload dJ13_substring_52 rfl ?_
    replace hq := obind hq
    obtain ⟨q13, e14, hq⟩ := hq
    refine aw_callS (Y2 := YJ14_newString) (As := [va_rf o11, .int x1, .int (x2 - x1)]) (rest := []) kJ14_newString q801 q802 dJ13_substring_54 rfl rfl (ct_J14_newString g hst N q8.2 o11 x1 (x2 - x1) _ e14) (Nat.le_of_ble_eq_true rfl) (Nat.le_of_ble_eq_true rfl) (fun v9 h9 z9 y9 => ?_)
    obtain ⟨rfl, rfl⟩ := y9
    refine aw_st (st' := [va_rf q13.1]) rfl ?_
    cases hq
    exact aw_areturn dJ13_substring_57 rfl (Or.inl ⟨_, rfl⟩) (aIsR_rf _) ⟨rfl, rfl⟩
  · rw [if_neg c10] at hq
    refine aw_aload_n (i := 0) dJ13_substring_34 rfl rfl trivial ?_
    replace hq := obind hq
    obtain ⟨o15, e16, hq⟩ := hq
    refine xw_getR e16 fJ13_9 dJ13_substring_35 ?_
    refine aw_iload_n (i := 1) dJ13_substring_38 rfl rfl ?_
    refine aw_iload dJ13_substring_39 rfl ?_
    replace hq := obind hq
    obtain ⟨q17, e18, hq⟩ := hq
    refine aw_callS (Y2 := YJ18_newString) (As := [va_rf o15, .int x1, .int (x2 - x1)]) (rest := []) kJ18_newString q792 q793 dJ13_substring_41 rfl rfl (ct_J18_newString g hst N q8.2 o15 x1 (x2 - x1) _ e18) (Nat.le_of_ble_eq_true rfl) (Nat.le_of_ble_eq_true rfl) (fun v9 h9 z9 y9 => ?_)
    obtain ⟨rfl, rfl⟩ := y9
    refine aw_st (st' := [va_rf q17.1]) rfl ?_
    refine aw_goto (tgt := 57) dJ13_substring_44 (by decide) ?_
    cases hq
    exact aw_areturn dJ13_substring_57 rfl (Or.inl ⟨_, rfl⟩) (aIsR_rf _) ⟨rfl, rfl⟩
def x_J13_substring (g : AG) (N : Nat) (h : AH) (x0 : Nat) (x1 : Int32) (x2 : Int32) : Option (Option Nat × AH) :=
  bif clB h x0 [17] then ((x_J13_length g N h x0).bind fun q2 => (x_J13_checkBoundsBeginEnd g N q2.2 x1 x2 q2.1).bind fun q4 => if x1 = 0 then (if x2 = q2.1 then (some ((some x0), q4)) else (x_J13_substring_22 g N  q4 x0 x1 x2 q2.1)) else (x_J13_substring_22 g N  q4 x0 x1 x2 q2.1)) else none
theorem ct_J13_substring (g : AG) (hst : (gL g).stackTraces = false) (N : Nat) : ∀ (h : AH) (x0 : Nat) (x1 : Int32) (x2 : Int32) (q : (Option Nat × AH)), x_J13_substring g N h x0 x1 x2 = some q → CT g YJ13_substring 7 [.ref x0, .int x1, .int x2] h (xR q) := by
  intro h x0 x1 x2 q hq
  refine CT.of rfl (by decide +kernel) (loc := [some (.ref x0), some (.int x1), some (.int x2), none, none]) (by first | exact Nat.le_of_ble_eq_true rfl | (simp only [lgl_rf, lgl_i, lgl_j, lgl_ref, lgl_nil]; exact Nat.le_of_ble_eq_true rfl)) (by first | rfl | (simp only [aent_rf, aent_i, aent_j, aent_ref, aent_nil]; rfl)) ?_
  unfold x_J13_substring at hq
  refine aw_aload_n (i := 0) dJ13_substring_0 rfl rfl trivial ?_
  replace hq := cond_t hq
  obtain ⟨z1, hq⟩ := hq
  obtain ⟨fs9, ha9⟩ := clB1 z1
  replace hq := obind hq
  obtain ⟨q2, e3, hq⟩ := hq
  refine aw_callV (Y2 := YJ13_length) (As := []) (rest := []) (r := (RJ13, TJ13, 4)) kJ13_length ha9 rfl rfl q790 q705 q706 dJ13_substring_1 rfl rfl (ct_J13_length g hst N h x0 _ e3) (Nat.le_of_ble_eq_true rfl) (Nat.le_of_ble_eq_true rfl) (fun v9 h9 z9 y9 => ?_)
  obtain ⟨rfl, rfl⟩ := y9
  refine aw_st (st' := [.int q2.1]) rfl ?_
  refine aw_istore_n (i := 3) (loc' := [some (.ref x0), some (.int x1), some (.int x2), some (.int q2.1), none]) dJ13_substring_4 rfl (Nat.le_of_ble_eq_true rfl) rfl ?_
  refine aw_iload_n (i := 1) dJ13_substring_5 rfl rfl ?_
  refine aw_iload_n (i := 2) dJ13_substring_6 rfl rfl ?_
  refine aw_iload_n (i := 3) dJ13_substring_7 rfl rfl ?_
  replace hq := obind hq
  obtain ⟨q4, e5, hq⟩ := hq
  refine aw_callS (Y2 := YJ13_checkBoundsBeginEnd) (As := [.int x1, .int x2, .int q2.1]) (rest := []) kJ13_checkBoundsBeginEnd q791 q679 dJ13_substring_8 rfl rfl (ct_J13_checkBoundsBeginEnd g hst N q2.2 x1 x2 q2.1 _ e5) (Nat.le_of_ble_eq_true rfl) (Nat.le_of_ble_eq_true rfl) (fun v9 h9 z9 y9 => ?_)
  obtain ⟨rfl, y9⟩ := y9
  rw [y9]
  refine aw_st (st' := []) rfl ?_
  refine aw_iload_n (i := 1) dJ13_substring_11 rfl rfl ?_
  refine aw_if_ne (tgt := 22) dJ13_substring_12 (by decide) (fun c6 => ?_) (fun c6 => ?_)
  · rw [if_neg c6] at hq
    exact p_x_J13_substring_22 g hst N   q4 x0 x1 x2 q2.1 _ hq
  · rw [if_pos c6] at hq
    refine aw_iload_n (i := 2) dJ13_substring_15 rfl rfl ?_
    refine aw_iload_n (i := 3) dJ13_substring_16 rfl rfl ?_
    refine aw_icmp_ne (tgt := 22) dJ13_substring_17 (by decide) (fun c19 => ?_) (fun c19 => ?_)
    · rw [if_neg c19] at hq
      exact p_x_J13_substring_22 g hst N   q4 x0 x1 x2 q2.1 _ hq
    · rw [if_pos c19] at hq
      refine aw_aload_n (i := 0) dJ13_substring_20 rfl rfl trivial ?_
      cases hq
      exact aw_areturn dJ13_substring_21 rfl (Or.inl ⟨_, rfl⟩) trivial ⟨rfl, rfl⟩
abbrev YJ17_copyOf_3 : YC := (yJ17_copyOf_3, cJ17_copyOf_3, 4, (some (.array (.object "java/lang/Object"))), [])
theorem kJ17_copyOf_3 : aMk YJ17_copyOf_3 3 := ⟨rfl, q1027, q138, ⟨by decide +kernel, by decide +kernel, by decide +kernel⟩, Nat.le_of_ble_eq_true rfl⟩
def x_J17_copyOf_3 (g : AG) (N : Nat) (h : AH) (r0 : Option Nat) (x1 : Int32) (r2 : Option Nat) : Option (Option Nat × AH) :=
  if r2 = (some (gM g 1)) then ((mkA g h 4 x1 .null).bind fun h2 => (r0).bind fun a4 => (rdN h2 a4).bind fun i6 => (cpA g h2 a4 (0 : Int32) h.2.1 (0 : Int32) (if x1 < i6 then x1 else i6)).bind fun h8 => some ((some h.2.1), h8)) else (none)
theorem ct_J17_copyOf_3 (g : AG) (hst : (gL g).stackTraces = false) (N : Nat) : ∀ (h : AH) (r0 : Option Nat) (x1 : Int32) (r2 : Option Nat) (q : (Option Nat × AH)), x_J17_copyOf_3 g N h r0 x1 r2 = some q → CT g YJ17_copyOf_3 3 [va_rf r0, .int x1, va_rf r2] h (xR q) := by
  intro h r0 x1 r2 q hq
  refine CT.of rfl (by decide +kernel) (loc := [some (va_rf r0), some (.int x1), some (va_rf r2), none]) (by first | exact Nat.le_of_ble_eq_true rfl | (simp only [lgl_rf, lgl_i, lgl_j, lgl_ref, lgl_nil]; exact Nat.le_of_ble_eq_true rfl)) (by first | rfl | (simp only [aent_rf, aent_i, aent_j, aent_ref, aent_nil]; rfl)) ?_
  unfold x_J17_copyOf_3 at hq
  refine aw_aload_n (i := 2) dJ17_copyOf_3_0 rfl rfl (aIsR_rf _) ?_
  refine aw_ldcM (i := 1) rfl q1028 dJ17_copyOf_3_1 ?_
  refine xw_acmp_ne (v := r2) (w := (some (gM g 1))) (tgt := 13) dJ17_copyOf_3_3 (by decide) (fun c1 => ?_) (fun c1 => ?_)
  · rw [if_neg c1] at hq
    refine aw_aload_n (i := 2) dJ17_copyOf_3_13 rfl rfl (aIsR_rf _) ?_
    cases hq
  · rw [if_pos c1] at hq
    refine aw_iload_n (i := 1) dJ17_copyOf_3_6 rfl rfl ?_
    replace hq := obind hq
    obtain ⟨h2, e3, hq⟩ := hq
    refine xw_anew e3 q1029 q882 rfl (by decide) dJ17_copyOf_3_7 ?_
    refine aw_goto (tgt := 24) dJ17_copyOf_3_10 (by decide) ?_
    refine aw_astore_n (i := 3) (loc' := [some (va_rf r0), some (.int x1), some (va_rf r2), some (.ref h.2.1)]) dJ17_copyOf_3_24 rfl (Nat.le_of_ble_eq_true rfl) trivial (aset1_rf rfl) ?_
    refine aw_aload_n (i := 0) dJ17_copyOf_3_25 rfl rfl (aIsR_rf _) ?_
    refine aw_iconst (v := 0) dJ17_copyOf_3_26 (by decide) ?_
    refine aw_aload_n (i := 3) dJ17_copyOf_3_27 rfl rfl trivial ?_
    refine aw_iconst (v := 0) dJ17_copyOf_3_28 (by decide) ?_
    refine aw_aload_n (i := 0) dJ17_copyOf_3_29 rfl rfl (aIsR_rf _) ?_
    replace hq := obind hq
    obtain ⟨a4, e5, hq⟩ := hq
    subst e5
    replace hq := obind hq
    obtain ⟨i6, e7, hq⟩ := hq
    refine xw_alen e7 dJ17_copyOf_3_30 ?_
    refine aw_iload_n (i := 1) dJ17_copyOf_3_31 rfl rfl ?_
    refine aw_mmin q556 (by omega) (Nat.le_of_ble_eq_true rfl) dJ17_copyOf_3_32 ?_
    replace hq := obind hq
    obtain ⟨h8, e9, hq⟩ := hq
    refine xw_copy e9 q559 (by omega) (Nat.le_of_ble_eq_true rfl) dJ17_copyOf_3_35 ?_
    refine aw_aload_n (i := 3) dJ17_copyOf_3_38 rfl rfl trivial ?_
    cases hq
    exact aw_areturn dJ17_copyOf_3_39 rfl (Or.inr ⟨_, rfl⟩) trivial ⟨rfl, rfl⟩
abbrev YJ17_copyOf_2 : YC := (yJ17_copyOf_2, cJ17_copyOf_2, 2, (some (.array (.object "java/lang/Object"))), [])
theorem kJ17_copyOf_2 : aMk YJ17_copyOf_2 2 := ⟨rfl, q994, q138, ⟨by decide +kernel, by decide +kernel, by decide +kernel⟩, Nat.le_of_ble_eq_true rfl⟩
def x_J17_copyOf_2 (g : AG) (N : Nat) (h : AH) (r0 : Option Nat) (x1 : Int32) : Option (Option Nat × AH) :=
  (r0).bind fun a1 => (gcA g h a1).bind fun a3 => (x_J17_copyOf_3 g N h (some a1) x1 (some a3)).bind fun q5 => some (q5.1, q5.2)
theorem ct_J17_copyOf_2 (g : AG) (hst : (gL g).stackTraces = false) (N : Nat) : ∀ (h : AH) (r0 : Option Nat) (x1 : Int32) (q : (Option Nat × AH)), x_J17_copyOf_2 g N h r0 x1 = some q → CT g YJ17_copyOf_2 4 [va_rf r0, .int x1] h (xR q) := by
  intro h r0 x1 q hq
  refine CT.of rfl (by decide +kernel) (loc := [some (va_rf r0), some (.int x1)]) (by first | exact Nat.le_of_ble_eq_true rfl | (simp only [lgl_rf, lgl_i, lgl_j, lgl_ref, lgl_nil]; exact Nat.le_of_ble_eq_true rfl)) (by first | rfl | (simp only [aent_rf, aent_i, aent_j, aent_ref, aent_nil]; rfl)) ?_
  unfold x_J17_copyOf_2 at hq
  refine aw_aload_n (i := 0) dJ17_copyOf_2_0 rfl rfl (aIsR_rf _) ?_
  refine aw_iload_n (i := 1) dJ17_copyOf_2_1 rfl rfl ?_
  refine aw_aload_n (i := 0) dJ17_copyOf_2_2 rfl rfl (aIsR_rf _) ?_
  replace hq := obind hq
  obtain ⟨a1, e2, hq⟩ := hq
  subst e2
  replace hq := obind hq
  obtain ⟨a3, e4, hq⟩ := hq
  refine xw_getC e4 q995 (by omega) (Nat.le_of_ble_eq_true rfl) dJ17_copyOf_2_3 ?_
  replace hq := obind hq
  obtain ⟨q5, e6, hq⟩ := hq
  refine aw_callS (Y2 := YJ17_copyOf_3) (As := [.ref a1, .int x1, .ref a3]) (rest := []) kJ17_copyOf_3 q1025 q1026 dJ17_copyOf_2_6 rfl rfl (ct_J17_copyOf_3 g hst N h (some a1) x1 (some a3) _ e6) (Nat.le_of_ble_eq_true rfl) (Nat.le_of_ble_eq_true rfl) (fun v9 h9 z9 y9 => ?_)
  obtain ⟨rfl, rfl⟩ := y9
  refine aw_st (st' := [va_rf q5.1]) rfl ?_
  cases hq
  exact aw_areturn dJ17_copyOf_2_9 rfl (Or.inr ⟨_, rfl⟩) (aIsR_rf _) ⟨rfl, rfl⟩
abbrev YJ1_afterNodeAccess : YC := (yJ1_afterNodeAccess, cJ1_afterNodeAccess, 2, none, [])
theorem kJ1_afterNodeAccess : aMk YJ1_afterNodeAccess 1 := ⟨rfl, q1663, q120, ⟨by decide +kernel, by decide +kernel, by decide +kernel⟩, Nat.le_of_ble_eq_true rfl⟩
def x_J1_afterNodeAccess (g : AG) (N : Nat) (h : AH) (x0 : Nat) (r1 : Option Nat) : Option AH :=
  some h
theorem ct_J1_afterNodeAccess (g : AG) (hst : (gL g).stackTraces = false) (N : Nat) : ∀ (h : AH) (x0 : Nat) (r1 : Option Nat) (q : AH), x_J1_afterNodeAccess g N h x0 r1 = some q → CT g YJ1_afterNodeAccess 1 [.ref x0, va_rf r1] h (xV q) := by
  intro h x0 r1 q hq
  refine CT.of rfl (by decide +kernel) (loc := [some (.ref x0), some (va_rf r1)]) (by first | exact Nat.le_of_ble_eq_true rfl | (simp only [lgl_rf, lgl_i, lgl_j, lgl_ref, lgl_nil]; exact Nat.le_of_ble_eq_true rfl)) (by first | rfl | (simp only [aent_rf, aent_i, aent_j, aent_ref, aent_nil]; rfl)) ?_
  unfold x_J1_afterNodeAccess at hq
  cases hq
  exact aw_vret dJ1_afterNodeAccess_0 rfl ⟨rfl, rfl⟩
abbrev YJ1_afterNodeInsertion : YC := (yJ1_afterNodeInsertion, cJ1_afterNodeInsertion, 2, none, [])
theorem kJ1_afterNodeInsertion : aMk YJ1_afterNodeInsertion 1 := ⟨rfl, q1667, q120, ⟨by decide +kernel, by decide +kernel, by decide +kernel⟩, Nat.le_of_ble_eq_true rfl⟩
def x_J1_afterNodeInsertion (g : AG) (N : Nat) (h : AH) (x0 : Nat) (x1 : Int32) : Option AH :=
  some h
theorem ct_J1_afterNodeInsertion (g : AG) (hst : (gL g).stackTraces = false) (N : Nat) : ∀ (h : AH) (x0 : Nat) (x1 : Int32) (q : AH), x_J1_afterNodeInsertion g N h x0 x1 = some q → CT g YJ1_afterNodeInsertion 1 [.ref x0, .int x1] h (xV q) := by
  intro h x0 x1 q hq
  refine CT.of rfl (by decide +kernel) (loc := [some (.ref x0), some (.int x1)]) (by first | exact Nat.le_of_ble_eq_true rfl | (simp only [lgl_rf, lgl_i, lgl_j, lgl_ref, lgl_nil]; exact Nat.le_of_ble_eq_true rfl)) (by first | rfl | (simp only [aent_rf, aent_i, aent_j, aent_ref, aent_nil]; rfl)) ?_
  unfold x_J1_afterNodeInsertion at hq
  cases hq
  exact aw_vret dJ1_afterNodeInsertion_0 rfl ⟨rfl, rfl⟩
theorem casjava_lang_Comparable : ∀ c ∈ ([16, 17, 18, 19] : List Nat), ∃ r : vw_C, aCl[c]? = some r ∧ (r.1 = "java/lang/Comparable" ∨ Cond.castable r.1 "java/lang/Comparable" ∈ lw_tbl) := by
  intro c hc
  simp only [List.mem_cons, List.not_mem_nil, or_false] at hc
  rcases hc with rfl | rfl | rfl | rfl
  · exact ⟨(RJ12, TJ12, 4), rfl, Or.inr q1463⟩
  · exact ⟨(RJ13, TJ13, 4), rfl, Or.inr q1319⟩
  · exact ⟨(RJ21, TJ21, 1), rfl, Or.inr q1306⟩
  · exact ⟨(RX7, TX7, 1), rfl, Or.inr q1288⟩
theorem ncajava_lang_Comparable : ∀ c ∈ ([] : List Nat), ∃ r : vw_C, aCl[c]? = some r ∧ (r.1, "java/lang/Comparable") ∈ aNc := by
  intro c hc
  simp only [List.mem_cons, List.not_mem_nil, or_false] at hc

abbrev YJ1_comparableClassFor : YC := (yJ1_comparableClassFor, cJ1_comparableClassFor, 9, (some (.object "java/lang/Class")), [])
theorem kJ1_comparableClassFor : aMk YJ1_comparableClassFor 1 := ⟨rfl, q1277, q120, ⟨by decide +kernel, by decide +kernel, by decide +kernel⟩, Nat.le_of_ble_eq_true rfl⟩
def x_J1_comparableClassFor (g : AG) (N : Nat) (h : AH) (r0 : Option Nat) : Option (Option Nat × AH) :=
  (insI h r0 [16, 17, 18, 19] []).bind fun i1 => if i1 = 0 then (some ((none), h)) else ((r0).bind fun a4 => (gcA g h a4).bind fun a6 => if (some a6) = (some (gM g 0)) then (some ((some a6), h)) else (none))
theorem ct_J1_comparableClassFor (g : AG) (hst : (gL g).stackTraces = false) (N : Nat) : ∀ (h : AH) (r0 : Option Nat) (q : (Option Nat × AH)), x_J1_comparableClassFor g N h r0 = some q → CT g YJ1_comparableClassFor 3 [va_rf r0] h (xR q) := by
  intro h r0 q hq
  refine CT.of rfl (by decide +kernel) (loc := [some (va_rf r0), none, none, none, none, none, none, none, none]) (by first | exact Nat.le_of_ble_eq_true rfl | (simp only [lgl_rf, lgl_i, lgl_j, lgl_ref, lgl_nil]; exact Nat.le_of_ble_eq_true rfl)) (by first | rfl | (simp only [aent_rf, aent_i, aent_j, aent_ref, aent_nil]; rfl)) ?_
  unfold x_J1_comparableClassFor at hq
  refine aw_aload_n (i := 0) dJ1_comparableClassFor_0 rfl rfl (aIsR_rf _) ?_
  replace hq := obind hq
  obtain ⟨i1, e2, hq⟩ := hq
  refine xw_inst (r := r0) e2 q1278 casjava_lang_Comparable ncajava_lang_Comparable dJ1_comparableClassFor_1 ?_
  refine aw_if_eq (tgt := 113) dJ1_comparableClassFor_4 (by decide) (fun c3 => ?_) (fun c3 => ?_)
  · rw [if_pos c3] at hq
    refine aw_null dJ1_comparableClassFor_113 ?_
    cases hq
    exact aw_areturn dJ1_comparableClassFor_114 rfl (Or.inl ⟨_, rfl⟩) trivial ⟨rfl, rfl⟩
  · rw [if_neg c3] at hq
    refine aw_aload_n (i := 0) dJ1_comparableClassFor_7 rfl rfl (aIsR_rf _) ?_
    replace hq := obind hq
    obtain ⟨a4, e5, hq⟩ := hq
    subst e5
    replace hq := obind hq
    obtain ⟨a6, e7, hq⟩ := hq
    refine xw_getC e7 q1279 (by omega) (Nat.le_of_ble_eq_true rfl) dJ1_comparableClassFor_8 ?_
    refine aw_dup dJ1_comparableClassFor_11 rfl ?_
    refine aw_astore_n (i := 1) (loc' := [some (.ref a4), some (.ref a6), none, none, none, none, none, none, none]) dJ1_comparableClassFor_12 rfl (Nat.le_of_ble_eq_true rfl) trivial rfl ?_
    refine aw_ldcM (i := 0) rfl q1280 dJ1_comparableClassFor_13 ?_
    refine xw_acmp_ne (v := (some a6)) (w := (some (gM g 0))) (tgt := 20) dJ1_comparableClassFor_15 (by decide) (fun c8 => ?_) (fun c8 => ?_)
    · rw [if_neg c8] at hq
      refine aw_aload_n (i := 1) dJ1_comparableClassFor_20 rfl rfl trivial ?_
      cases hq
    · rw [if_pos c8] at hq
      refine aw_aload_n (i := 1) dJ1_comparableClassFor_18 rfl rfl trivial ?_
      cases hq
      exact aw_areturn dJ1_comparableClassFor_19 rfl (Or.inl ⟨_, rfl⟩) trivial ⟨rfl, rfl⟩
abbrev YJ1_compareComparables : YC := (yJ1_compareComparables, cJ1_compareComparables, 3, (some .int), [])
theorem kJ1_compareComparables : aMk YJ1_compareComparables 3 := ⟨rfl, q1283, q120, ⟨by decide +kernel, by decide +kernel, by decide +kernel⟩, Nat.le_of_ble_eq_true rfl⟩
def x_J1_compareComparables_12 (g : AG) (N : Nat) (h : AH) (r0 : Option Nat) (r1 : Option Nat) (r2 : Option Nat) : Option (Int32 × AH) :=
  some ((0 : Int32), h)
theorem p_x_J1_compareComparables_12 (g : AG) (hst : (gL g).stackTraces = false) (N : Nat) : ∀ (h : AH) (r0 : Option Nat) (r1 : Option Nat) (r2 : Option Nat) (q : (Int32 × AH)), x_J1_compareComparables_12 g N h r0 r1 r2 = some q → AW g YJ1_compareComparables 9 (xI q) h [some (va_rf r0), some (va_rf r1), some (va_rf r2)] 12 [] := by
  intro h r0 r1 r2 q hq
  unfold x_J1_compareComparables_12 at hq
  refine aw_iconst (v := 0) dJ1_compareComparables_12 (by decide) ?_
  refine aw_goto (tgt := 26) dJ1_compareComparables_13 (by decide) ?_
  cases hq
  exact aw_ireturn dJ1_compareComparables_26 rfl rfl ⟨rfl, rfl⟩
def x_J1_compareComparables (g : AG) (N : Nat) (h : AH) (r0 : Option Nat) (r1 : Option Nat) (r2 : Option Nat) : Option (Int32 × AH) :=
  ocase r2 (x_J1_compareComparables_12 g N  h r0 r1 (none)) (fun a1 => (gcA g h a1).bind fun a2 => if (some a2) = r0 then (bif casB h r1 [16, 17, 18, 19] then ((r1).bind fun a6 => bif clB h a6 [17] then ((x_J13_compareTo g N h a6 (some a1)).bind fun q9 => some (q9.1, q9.2)) else none) else none) else (x_J1_compareComparables_12 g N  h r0 r1 (some a1)))
theorem ct_J1_compareComparables (g : AG) (hst : (gL g).stackTraces = false) (N : Nat) : ∀ (h : AH) (r0 : Option Nat) (r1 : Option Nat) (r2 : Option Nat) (q : (Int32 × AH)), x_J1_compareComparables g N h r0 r1 r2 = some q → CT g YJ1_compareComparables 9 [va_rf r0, va_rf r1, va_rf r2] h (xI q) := by
  intro h r0 r1 r2 q hq
  refine CT.of rfl (by decide +kernel) (loc := [some (va_rf r0), some (va_rf r1), some (va_rf r2)]) (by first | exact Nat.le_of_ble_eq_true rfl | (simp only [lgl_rf, lgl_i, lgl_j, lgl_ref, lgl_nil]; exact Nat.le_of_ble_eq_true rfl)) (by first | rfl | (simp only [aent_rf, aent_i, aent_j, aent_ref, aent_nil]; rfl)) ?_
  unfold x_J1_compareComparables at hq
  refine aw_aload_n (i := 2) dJ1_compareComparables_0 rfl rfl (aIsR_rf _) ?_
  rcases r2 with _ | a1
  · replace hq := ocase_n hq
    refine xw_ifnullN (tgt := 12) dJ1_compareComparables_1 (by decide) ?_
    exact p_x_J1_compareComparables_12 g hst N   h r0 r1 (none) _ hq
  · replace hq := ocase_s hq
    refine xw_ifnullS (tgt := 12) dJ1_compareComparables_1 (by decide) ?_
    refine aw_aload_n (i := 2) dJ1_compareComparables_4 rfl rfl trivial ?_
    replace hq := obind hq
    obtain ⟨a2, e3, hq⟩ := hq
    refine xw_getC e3 q1279 (by omega) (Nat.le_of_ble_eq_true rfl) dJ1_compareComparables_5 ?_
    refine aw_aload_n (i := 0) dJ1_compareComparables_8 rfl rfl (aIsR_rf _) ?_
    refine xw_acmp_eq (v := (some a2)) (w := r0) (tgt := 16) dJ1_compareComparables_9 (by decide) (fun c4 => ?_) (fun c4 => ?_)
    · rw [if_pos c4] at hq
      refine aw_aload_n (i := 1) dJ1_compareComparables_16 rfl rfl (aIsR_rf _) ?_
      replace hq := cond_t hq
      obtain ⟨z5, hq⟩ := hq
      refine xw_cast (r := r1) z5 q1278 casjava_lang_Comparable dJ1_compareComparables_17 ?_
      refine aw_aload_n (i := 2) dJ1_compareComparables_20 rfl rfl trivial ?_
      replace hq := obind hq
      obtain ⟨a6, e7, hq⟩ := hq
      subst e7
      replace hq := cond_t hq
      obtain ⟨z8, hq⟩ := hq
      obtain ⟨fs9, ha9⟩ := clB1 z8
      replace hq := obind hq
      obtain ⟨q9, e10, hq⟩ := hq
      refine aw_callF (Y2 := YJ13_compareTo) (As := [.ref a1]) (rest := []) (r := (RJ13, TJ13, 4)) (x := ⟨"java/lang/Comparable", "compareTo", "(Ljava/lang/Object;)I"⟩) kJ13_compareTo ha9 rfl (by decide) (by decide) ⟨by decide +kernel, by decide +kernel, by decide +kernel⟩ q1285 q1322 q1320 dJ1_compareComparables_21 rfl rfl (ct_J13_compareTo g hst N h a6 (some a1) _ e10) (Nat.le_of_ble_eq_true rfl) (Nat.le_of_ble_eq_true rfl) (fun v9 h9 z9 y9 => ?_)
      obtain ⟨rfl, rfl⟩ := y9
      refine aw_st (st' := [.int q9.1]) rfl ?_
      cases hq
      exact aw_ireturn dJ1_compareComparables_26 rfl rfl ⟨rfl, rfl⟩
    · rw [if_neg c4] at hq
      exact p_x_J1_compareComparables_12 g hst N   h r0 r1 (some a1) _ hq
abbrev YJ1_hash : YC := (yJ1_hash, cJ1_hash, 2, (some .int), [])
theorem kJ1_hash : aMk YJ1_hash 1 := ⟨rfl, q1122, q120, ⟨by decide +kernel, by decide +kernel, by decide +kernel⟩, Nat.le_of_ble_eq_true rfl⟩
def x_J1_hash (g : AG) (N : Nat) (h : AH) (r0 : Option Nat) : Option (Int32 × AH) :=
  ocase r0 (some ((0 : Int32), h)) (fun a1 => bif clB h a1 [17] then ((x_J13_hashCode g N h a1).bind fun q3 => some ((q3.1 ^^^ ((q3.1.toUInt32 >>> ((16 : Int32).toUInt32 &&& Int32.toUInt32 31)).toInt32)), q3.2)) else none)
theorem ct_J1_hash (g : AG) (hst : (gL g).stackTraces = false) (N : Nat) : ∀ (h : AH) (r0 : Option Nat) (q : (Int32 × AH)), x_J1_hash g N h r0 = some q → CT g YJ1_hash 5 [va_rf r0] h (xI q) := by
  intro h r0 q hq
  refine CT.of rfl (by decide +kernel) (loc := [some (va_rf r0), none]) (by first | exact Nat.le_of_ble_eq_true rfl | (simp only [lgl_rf, lgl_i, lgl_j, lgl_ref, lgl_nil]; exact Nat.le_of_ble_eq_true rfl)) (by first | rfl | (simp only [aent_rf, aent_i, aent_j, aent_ref, aent_nil]; rfl)) ?_
  unfold x_J1_hash at hq
  refine aw_aload_n (i := 0) dJ1_hash_0 rfl rfl (aIsR_rf _) ?_
  rcases r0 with _ | a1
  · replace hq := ocase_n hq
    refine xw_ifnonN (tgt := 8) dJ1_hash_1 (by decide) ?_
    refine aw_iconst (v := 0) dJ1_hash_4 (by decide) ?_
    refine aw_goto (tgt := 19) dJ1_hash_5 (by decide) ?_
    cases hq
    exact aw_ireturn dJ1_hash_19 rfl rfl ⟨rfl, rfl⟩
  · replace hq := ocase_s hq
    refine xw_ifnonS (tgt := 8) dJ1_hash_1 (by decide) ?_
    refine aw_aload_n (i := 0) dJ1_hash_8 rfl rfl trivial ?_
    replace hq := cond_t hq
    obtain ⟨z2, hq⟩ := hq
    obtain ⟨fs9, ha9⟩ := clB1 z2
    replace hq := obind hq
    obtain ⟨q3, e4, hq⟩ := hq
    refine aw_callO (Y2 := YJ13_hashCode) (As := []) (rest := []) (r := (RJ13, TJ13, 4)) (x := ⟨"java/lang/Object", "hashCode", "()I"⟩) (o := "java/lang/Object") kJ13_hashCode ha9 rfl ⟨by decide +kernel, by decide +kernel, by decide +kernel⟩ q1124 q1126 q1123 q1158 q1157 dJ1_hash_9 rfl rfl (ct_J13_hashCode g hst N h a1 _ e4) (Nat.le_of_ble_eq_true rfl) (Nat.le_of_ble_eq_true rfl) (fun v9 h9 z9 y9 => ?_)
    obtain ⟨rfl, rfl⟩ := y9
    refine aw_st (st' := [.int q3.1]) rfl ?_
    refine aw_dup dJ1_hash_12 rfl ?_
    refine aw_istore_n (i := 1) (loc' := [some (.ref a1), some (.int q3.1)]) dJ1_hash_13 rfl (Nat.le_of_ble_eq_true rfl) rfl ?_
    refine aw_iload_n (i := 1) dJ1_hash_14 rfl rfl ?_
    refine aw_bipush (v := 16) dJ1_hash_15 (by decide) ?_
    refine aw_iushr dJ1_hash_17 ?_
    refine aw_ixor dJ1_hash_18 ?_
    cases hq
    exact aw_ireturn dJ1_hash_19 rfl rfl ⟨rfl, rfl⟩
theorem fJ29_9 : ∀ q ∈ ([(12, 6)] : List (Nat × Nat)), aFl RJ29 9 q.1 q.2 := by
  intro q hq
  simp only [List.mem_cons, List.not_mem_nil, or_false] at hq
  subst hq
  exact aFl.of (RJ29, TJ29, 11) rfl (Nat.le_of_ble_eq_true rfl) q1626
abbrev YJ29_root : YC := (yJ29_root, cJ29_root, 3, (some (.object "java/util/HashMap$TreeNode")), [])
theorem kJ29_root : aMk YJ29_root 0 := ⟨rfl, q1269, q156, ⟨by decide +kernel, by decide +kernel, by decide +kernel⟩, Nat.le_of_ble_eq_true rfl⟩
def x_J29_root_2 (g : AG) (N : Nat) : Nat → AH → Nat → Option Nat → Option (Option Nat × AH)
  | 0, _, _, _ => none
  | n9 + 1, h, x0, r1 =>
  (r1).bind fun a1 => (rdR h a1 [(12, 6)]).bind fun o3 => ocase o3 (some ((some a1), h)) (fun a5 => x_J29_root_2 g N n9 h x0 (some a5))
theorem p_x_J29_root_2 (g : AG) (hst : (gL g).stackTraces = false) (N : Nat) : ∀ (n9 : Nat) (h : AH) (x0 : Nat) (r1 : Option Nat) (q : (Option Nat × AH)), x_J29_root_2 g N n9 h x0 r1 = some q → AW g YJ29_root 1 (xR q) h [some (.ref x0), some (va_rf r1), none] 2 [] := by
  intro n9
  induction n9 with
  | zero =>
    intro h x0 r1 q hq
    cases hq
  | succ n9 ih =>
    intro h x0 r1 q hq
    rw [x_J29_root_2] at hq
    refine aw_aload_n (i := 1) dJ29_root_2 rfl rfl (aIsR_rf _) ?_
    replace hq := obind hq
    obtain ⟨a1, e2, hq⟩ := hq
    subst e2
    replace hq := obind hq
    obtain ⟨o3, e4, hq⟩ := hq
    refine xw_getR e4 fJ29_9 dJ29_root_3 ?_
    refine aw_dup dJ29_root_6 (cat_rf _) ?_
    refine aw_astore_n (i := 2) (loc' := [some (.ref x0), some (.ref a1), some (va_rf o3)]) dJ29_root_7 rfl (Nat.le_of_ble_eq_true rfl) (aIsR_rf _) rfl ?_
    rcases o3 with _ | a5
    · replace hq := ocase_n hq
      refine xw_ifnonN (tgt := 13) dJ29_root_8 (by decide) ?_
      refine aw_aload_n (i := 1) dJ29_root_11 rfl rfl trivial ?_
      cases hq
      exact aw_areturn dJ29_root_12 rfl (Or.inl ⟨_, rfl⟩) trivial ⟨rfl, rfl⟩
    · replace hq := ocase_s hq
      refine xw_ifnonS (tgt := 13) dJ29_root_8 (by decide) ?_
      refine aw_aload_n (i := 2) dJ29_root_13 rfl rfl trivial ?_
      refine aw_astore_n (i := 1) (loc' := [some (.ref x0), some (.ref a5), some (.ref a5)]) dJ29_root_14 rfl (Nat.le_of_ble_eq_true rfl) trivial rfl ?_
      refine aw_goto (tgt := 2) dJ29_root_15 (by decide) ?_
      refine aw_subl (loc' := [some (.ref x0), some (.ref a5), none]) ⟨Or.inr rfl, Or.inr rfl, Or.inl rfl, trivial⟩ ?_
      exact ih h x0 (some a5) _ hq
def x_J29_root (g : AG) (N : Nat) (h : AH) (x0 : Nat) : Option (Option Nat × AH) :=
  x_J29_root_2 g N  N h x0 (some x0)
theorem ct_J29_root (g : AG) (hst : (gL g).stackTraces = false) (N : Nat) : ∀ (h : AH) (x0 : Nat) (q : (Option Nat × AH)), x_J29_root g N h x0 = some q → CT g YJ29_root 1 [.ref x0] h (xR q) := by
  intro h x0 q hq
  refine CT.of rfl (by decide +kernel) (loc := [some (.ref x0), none, none]) (by first | exact Nat.le_of_ble_eq_true rfl | (simp only [lgl_rf, lgl_i, lgl_j, lgl_ref, lgl_nil]; exact Nat.le_of_ble_eq_true rfl)) (by first | rfl | (simp only [aent_rf, aent_i, aent_j, aent_ref, aent_nil]; rfl)) ?_
  unfold x_J29_root at hq
  refine aw_aload_n (i := 0) dJ29_root_0 rfl rfl trivial ?_
  refine aw_astore_n (i := 1) (loc' := [some (.ref x0), some (.ref x0), none]) dJ29_root_1 rfl (Nat.le_of_ble_eq_true rfl) trivial rfl ?_
  exact p_x_J29_root_2 g hst N   N h x0 (some x0) _ hq
