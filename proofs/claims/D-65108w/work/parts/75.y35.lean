/-! THE COMPONENT AND THE JDK as functions of the heap, and their contracts: printed by wip gen/dec2.py -/
set_option maxRecDepth 100000
theorem fX1_68 : ∀ q ∈ ([(6, 1)] : List (Nat × Nat)), aFl RX1 68 q.1 q.2 := by
  intro q hq
  simp only [List.mem_cons, List.not_mem_nil, or_false] at hq
  subst hq
  exact aFl.ofN (RX8, TX8, 4) rfl (Nat.le_of_ble_eq_true rfl) q1083
theorem fX1_74 : ∀ q ∈ ([(6, 2)] : List (Nat × Nat)), aFl RX1 74 q.1 q.2 := by
  intro q hq
  simp only [List.mem_cons, List.not_mem_nil, or_false] at hq
  subst hq
  exact aFl.ofN (RX8, TX8, 4) rfl (Nat.le_of_ble_eq_true rfl) q1086
theorem fX1_81 : ∀ q ∈ ([(2, 0)] : List (Nat × Nat)), aFl RX1 81 q.1 q.2 := by
  intro q hq
  simp only [List.mem_cons, List.not_mem_nil, or_false] at hq
  subst hq
  exact aFl.ofN (RX3, TX3, 10) rfl (Nat.le_of_ble_eq_true rfl) q316
abbrev YX1_method : YC := (yX1_method, cX1_method, 4, (some .int), [])
theorem kX1_method : aMk YX1_method 0 := ⟨rfl, q376, q116, ⟨by decide +kernel, by decide +kernel, by decide +kernel⟩, Nat.le_of_ble_eq_true rfl⟩
def x_X1_method_72 (g : AG) (N : Nat) (h : AH) (x0 : Nat) (x1 : Int32) (r2 : Option Nat) (r3 : Option Nat) (s1 : Int32) : Option (Int32 × AH) :=
  bif clB h x0 [0] then ((x_X1_atEnd g N h x0 s1).bind fun q30 => if q30.1 = 0 then (some ((-1 : Int32), q30.2)) else ((rdR q30.2 x0 [(0, 3)]).bind fun o33 => (o33).bind fun a35 => (rdR q30.2 a35 [(2, 0)]).bind fun o37 => (o37).bind fun a39 => bif clB q30.2 a39 [10] then ((x_J1_put g N q30.2 a39 r3 r2).bind fun q42 => (rdR q42.2 x0 [(0, 3)]).bind fun o44 => (o44).bind fun a46 => (rdR q42.2 a46 [(2, 1)]).bind fun o48 => (o48).bind fun a50 => bif clB q42.2 a50 [13] then ((x_J4_add g N q42.2 a50 r2).bind fun q53 => some (x1, q53.2)) else none) else none)) else none
theorem p_x_X1_method_72 (g : AG) (hst : (gL g).stackTraces = false) (N : Nat) : ∀ (h : AH) (x0 : Nat) (x1 : Int32) (r2 : Option Nat) (r3 : Option Nat) (s1 : Int32) (q : (Int32 × AH)), x_X1_method_72 g N h x0 x1 r2 r3 s1 = some q → AW g YX1_method 516 (xI q) h [some (.ref x0), some (.int x1), some (va_rf r2), some (va_rf r3)] 72 [.int s1, .ref x0] := by
  intro h x0 x1 r2 r3 s1 q hq
  unfold x_X1_method_72 at hq
  replace hq := cond_t hq
  obtain ⟨z29, hq⟩ := hq
  obtain ⟨fs9, ha9⟩ := clB1 z29
  replace hq := obind hq
  obtain ⟨q30, e31, hq⟩ := hq
  refine aw_callV (Y2 := YX1_atEnd) (As := [.int s1]) (rest := []) (r := (RX1, TX1, 5)) kX1_atEnd ha9 rfl rfl q1519 q1521 qs24 dX1_method_72 rfl rfl (ct_X1_atEnd g hst N h x0 s1 _ e31) (Nat.le_of_ble_eq_true rfl) (Nat.le_of_ble_eq_true rfl) (fun v9 h9 z9 y9 => ?_)
  obtain ⟨rfl, rfl⟩ := y9
  refine aw_st (st' := [.int q30.1]) rfl ?_
  refine aw_if_ne (tgt := 80) dX1_method_75 (by decide) (fun c32 => ?_) (fun c32 => ?_)
  · rw [if_neg c32] at hq
    refine aw_aload_n (i := 0) dX1_method_80 rfl rfl trivial ?_
    replace hq := obind hq
    obtain ⟨o33, e34, hq⟩ := hq
    refine xw_getR e34 fX1_25 dX1_method_81 ?_
    replace hq := obind hq
    obtain ⟨a35, e36, hq⟩ := hq
    subst e36
    replace hq := obind hq
    obtain ⟨o37, e38, hq⟩ := hq
    refine xw_getR e38 fX1_81 dX1_method_84 ?_
    refine aw_aload_n (i := 3) dX1_method_87 rfl rfl (aIsR_rf _) ?_
    refine aw_aload_n (i := 2) dX1_method_88 rfl rfl (aIsR_rf _) ?_
    replace hq := obind hq
    obtain ⟨a39, e40, hq⟩ := hq
    subst e40
    replace hq := cond_t hq
    obtain ⟨z41, hq⟩ := hq
    obtain ⟨fs9, ha9⟩ := clB1 z41
    replace hq := obind hq
    obtain ⟨q42, e43, hq⟩ := hq
    refine aw_callF (Y2 := YJ1_put) (As := [va_rf r3, va_rf r2]) (rest := []) (r := (RJ1, TJ1, 8)) (x := ⟨"java/util/Map", "put", "(Ljava/lang/Object;Ljava/lang/Object;)Ljava/lang/Object;"⟩) kJ1_put ha9 rfl (by decide) (by decide) ⟨by decide +kernel, by decide +kernel, by decide +kernel⟩ q1524 q1529 q1527 dX1_method_89 rfl rfl (ct_J1_put g hst N q30.2 a39 r3 r2 _ e43) (Nat.le_of_ble_eq_true rfl) (Nat.le_of_ble_eq_true rfl) (fun v9 h9 z9 y9 => ?_)
    obtain ⟨rfl, rfl⟩ := y9
    refine aw_st (st' := [va_rf q42.1]) rfl ?_
    refine aw_pop dX1_method_94 (cat_rf _) ?_
    refine aw_aload_n (i := 0) dX1_method_95 rfl rfl trivial ?_
    replace hq := obind hq
    obtain ⟨o44, e45, hq⟩ := hq
    refine xw_getR e45 fX1_25 dX1_method_96 ?_
    replace hq := obind hq
    obtain ⟨a46, e47, hq⟩ := hq
    subst e47
    replace hq := obind hq
    obtain ⟨o48, e49, hq⟩ := hq
    refine xw_getR e49 fX1_55 dX1_method_99 ?_
    refine aw_aload_n (i := 2) dX1_method_102 rfl rfl (aIsR_rf _) ?_
    replace hq := obind hq
    obtain ⟨a50, e51, hq⟩ := hq
    subst e51
    replace hq := cond_t hq
    obtain ⟨z52, hq⟩ := hq
    obtain ⟨fs9, ha9⟩ := clB1 z52
    replace hq := obind hq
    obtain ⟨q53, e54, hq⟩ := hq
    refine aw_callF (Y2 := YJ4_add) (As := [va_rf r2]) (rest := []) (r := (RJ4, TJ4, 3)) (x := ⟨"java/util/List", "add", "(Ljava/lang/Object;)Z"⟩) kJ4_add ha9 rfl (by decide) (by decide) ⟨by decide +kernel, by decide +kernel, by decide +kernel⟩ q1746 q976 q974 dX1_method_103 rfl rfl (ct_J4_add g hst N q42.2 a50 r2 _ e54) (Nat.le_of_ble_eq_true rfl) (Nat.le_of_ble_eq_true rfl) (fun v9 h9 z9 y9 => ?_)
    obtain ⟨rfl, rfl⟩ := y9
    refine aw_st (st' := [.int q53.1]) rfl ?_
    refine aw_pop dX1_method_108 rfl ?_
    refine aw_iload_n (i := 1) dX1_method_109 rfl rfl ?_
    cases hq
    exact aw_ireturn dX1_method_110 rfl rfl ⟨rfl, rfl⟩
  · rw [if_pos c32] at hq
    refine aw_iconst (v := (-1)) dX1_method_78 (by decide) ?_
    cases hq
    exact aw_ireturn dX1_method_79 rfl rfl ⟨rfl, rfl⟩
def x_X1_method_71 (g : AG) (N : Nat) (h : AH) (x0 : Nat) (x1 : Int32) (r2 : Option Nat) (r3 : Option Nat) : Option (Int32 × AH) :=
  x_X1_method_72 g N  h x0 x1 r2 r3 (0 : Int32)
theorem p_x_X1_method_71 (g : AG) (hst : (gL g).stackTraces = false) (N : Nat) : ∀ (h : AH) (x0 : Nat) (x1 : Int32) (r2 : Option Nat) (r3 : Option Nat) (q : (Int32 × AH)), x_X1_method_71 g N h x0 x1 r2 r3 = some q → AW g YX1_method 516 (xI q) h [some (.ref x0), some (.int x1), some (va_rf r2), some (va_rf r3)] 71 [.ref x0] := by
  intro h x0 x1 r2 r3 q hq
  unfold x_X1_method_71 at hq
  refine aw_iconst (v := 0) dX1_method_71 (by decide) ?_
  exact p_x_X1_method_72 g hst N   h x0 x1 r2 r3 (0 : Int32) _ hq
def x_X1_method (g : AG) (N : Nat) (h : AH) (x0 : Nat) : Option (Int32 × AH) :=
  (rdR h x0 [(0, 3)]).bind fun o1 => (o1).bind fun a3 => (rdR h a3 [(2, 1)]).bind fun o5 => (o5).bind fun a7 => bif clB h a7 [13] then ((x_J4_size g N h a7).bind fun q10 => (rdR q10.2 x0 [(0, 2)]).bind fun o12 => (rdI q10.2 x0 [(0, 1)]).bind fun i14 => (o12).bind fun a16 => bif clB q10.2 a16 [1] then ((x_X2_method g N q10.2 a16 i14 q10.1).bind fun q19 => ocase q19.1 (some ((-1 : Int32), q19.2)) (fun a21 => (rdR q19.2 a21 [(6, 1)]).bind fun o22 => (rdI q19.2 a21 [(6, 2)]).bind fun i24 => (x_X3_key g N q19.2 o22 i24).bind fun q26 => if (16 : Int32) ≤ q10.1 then (x_X1_method_71 g N  q26.2 x0 q10.1 (some a21) q26.1) else ((rdR q26.2 x0 [(0, 3)]).bind fun o55 => (o55).bind fun a57 => (rdR q26.2 a57 [(2, 0)]).bind fun o59 => (o59).bind fun a61 => bif clB q26.2 a61 [10] then ((x_J1_containsKey g N q26.2 a61 q26.1).bind fun q64 => if q64.1 = 0 then (x_X1_method_72 g N  q64.2 x0 q10.1 (some a21) q26.1 (1 : Int32)) else (x_X1_method_71 g N  q64.2 x0 q10.1 (some a21) q26.1)) else none))) else none) else none
theorem ct_X1_method (g : AG) (hst : (gL g).stackTraces = false) (N : Nat) : ∀ (h : AH) (x0 : Nat) (q : (Int32 × AH)), x_X1_method g N h x0 = some q → CT g YX1_method 516 [.ref x0] h (xI q) := by
  intro h x0 q hq
  refine CT.of rfl (by decide +kernel) (loc := [some (.ref x0), none, none, none]) (by first | exact Nat.le_of_ble_eq_true rfl | (simp only [lgl_rf, lgl_i, lgl_j, lgl_ref, lgl_nil]; exact Nat.le_of_ble_eq_true rfl)) (by first | rfl | (simp only [aent_rf, aent_i, aent_j, aent_ref, aent_nil]; rfl)) ?_
  unfold x_X1_method at hq
  refine aw_aload_n (i := 0) dX1_method_0 rfl rfl trivial ?_
  replace hq := obind hq
  obtain ⟨o1, e2, hq⟩ := hq
  refine xw_getR e2 fX1_25 dX1_method_1 ?_
  replace hq := obind hq
  obtain ⟨a3, e4, hq⟩ := hq
  subst e4
  replace hq := obind hq
  obtain ⟨o5, e6, hq⟩ := hq
  refine xw_getR e6 fX1_55 dX1_method_4 ?_
  replace hq := obind hq
  obtain ⟨a7, e8, hq⟩ := hq
  subst e8
  replace hq := cond_t hq
  obtain ⟨z9, hq⟩ := hq
  obtain ⟨fs9, ha9⟩ := clB1 z9
  replace hq := obind hq
  obtain ⟨q10, e11, hq⟩ := hq
  refine aw_callF (Y2 := YJ4_size) (As := []) (rest := []) (r := (RJ4, TJ4, 3)) (x := ⟨"java/util/List", "size", "()I"⟩) kJ4_size ha9 rfl (by decide) (by decide) ⟨by decide +kernel, by decide +kernel, by decide +kernel⟩ q378 q384 q382 dX1_method_7 rfl rfl (ct_J4_size g hst N h a7 _ e11) (Nat.le_of_ble_eq_true rfl) (Nat.le_of_ble_eq_true rfl) (fun v9 h9 z9 y9 => ?_)
  obtain ⟨rfl, rfl⟩ := y9
  refine aw_st (st' := [.int q10.1]) rfl ?_
  refine aw_istore_n (i := 1) (loc' := [some (.ref x0), some (.int q10.1), none, none]) dX1_method_12 rfl (Nat.le_of_ble_eq_true rfl) rfl ?_
  refine aw_aload_n (i := 0) dX1_method_13 rfl rfl trivial ?_
  replace hq := obind hq
  obtain ⟨o12, e13, hq⟩ := hq
  refine xw_getR e13 fX1_18 dX1_method_14 ?_
  refine aw_aload_n (i := 0) dX1_method_17 rfl rfl trivial ?_
  replace hq := obind hq
  obtain ⟨i14, e15, hq⟩ := hq
  refine xw_getI e15 fX1_45 dX1_method_18 ?_
  refine aw_iload_n (i := 1) dX1_method_21 rfl rfl ?_
  replace hq := obind hq
  obtain ⟨a16, e17, hq⟩ := hq
  subst e17
  replace hq := cond_t hq
  obtain ⟨z18, hq⟩ := hq
  obtain ⟨fs9, ha9⟩ := clB1 z18
  replace hq := obind hq
  obtain ⟨q19, e20, hq⟩ := hq
  refine aw_callW (Y2 := YX2_method) (As := [.int i14, .int q10.1]) (rest := []) (r := (RX2, TX2, 9)) kX2_method ha9 rfl rfl q387 q388 q389 dX1_method_22 rfl rfl (ct_X2_method g hst N q10.2 a16 i14 q10.1 _ e20) (Nat.le_of_ble_eq_true rfl) (Nat.le_of_ble_eq_true rfl) (fun v9 h9 z9 y9 => ?_)
  obtain ⟨rfl, rfl⟩ := y9
  refine aw_st (st' := [va_rf q19.1]) rfl ?_
  refine aw_astore_n (i := 2) (loc' := [some (.ref x0), some (.int q10.1), some (va_rf q19.1), none]) dX1_method_25 rfl (Nat.le_of_ble_eq_true rfl) (aIsR_rf _) rfl ?_
  refine aw_aload_n (i := 2) dX1_method_26 rfl rfl (aIsR_rf _) ?_
  generalize q19.1 = v9 at hq ⊢
  rcases v9 with _ | a21
  · replace hq := ocase_n hq
    refine xw_ifnonN (tgt := 32) dX1_method_27 (by decide) ?_
    refine aw_iconst (v := (-1)) dX1_method_30 (by decide) ?_
    cases hq
    exact aw_ireturn dX1_method_31 rfl rfl ⟨rfl, rfl⟩
  · replace hq := ocase_s hq
    refine xw_ifnonS (tgt := 32) dX1_method_27 (by decide) ?_
    refine aw_aload_n (i := 2) dX1_method_32 rfl rfl trivial ?_
    replace hq := obind hq
    obtain ⟨o22, e23, hq⟩ := hq
    refine xw_getR e23 fX1_68 dX1_method_33 ?_
    refine aw_aload_n (i := 2) dX1_method_36 rfl rfl trivial ?_
    replace hq := obind hq
    obtain ⟨i24, e25, hq⟩ := hq
    refine xw_getI e25 fX1_74 dX1_method_37 ?_
    replace hq := obind hq
    obtain ⟨q26, e27, hq⟩ := hq
    refine aw_callS (Y2 := YX3_key) (As := [va_rf o22, .int i24]) (rest := []) kX3_key q1098 q1099 dX1_method_40 rfl rfl (ct_X3_key g hst N q19.2 o22 i24 _ e27) (Nat.le_of_ble_eq_true rfl) (Nat.le_of_ble_eq_true rfl) (fun v9 h9 z9 y9 => ?_)
    obtain ⟨rfl, rfl⟩ := y9
    refine aw_st (st' := [va_rf q26.1]) rfl ?_
    refine aw_astore_n (i := 3) (loc' := [some (.ref x0), some (.int q10.1), some (.ref a21), some (va_rf q26.1)]) dX1_method_43 rfl (Nat.le_of_ble_eq_true rfl) (aIsR_rf _) rfl ?_
    refine aw_aload_n (i := 0) dX1_method_44 rfl rfl trivial ?_
    refine aw_iload_n (i := 1) dX1_method_45 rfl rfl ?_
    refine aw_bipush (v := 16) dX1_method_46 (by decide) ?_
    refine aw_icmp_ge (tgt := 71) dX1_method_48 (by decide) (fun c28 => ?_) (fun c28 => ?_)
    · rw [if_pos c28] at hq
      exact p_x_X1_method_71 g hst N   q26.2 x0 q10.1 (some a21) q26.1 _ hq
    · rw [if_neg c28] at hq
      refine aw_aload_n (i := 0) dX1_method_51 rfl rfl trivial ?_
      replace hq := obind hq
      obtain ⟨o55, e56, hq⟩ := hq
      refine xw_getR e56 fX1_25 dX1_method_52 ?_
      replace hq := obind hq
      obtain ⟨a57, e58, hq⟩ := hq
      subst e58
      replace hq := obind hq
      obtain ⟨o59, e60, hq⟩ := hq
      refine xw_getR e60 fX1_81 dX1_method_55 ?_
      refine aw_aload_n (i := 3) dX1_method_58 rfl rfl (aIsR_rf _) ?_
      replace hq := obind hq
      obtain ⟨a61, e62, hq⟩ := hq
      subst e62
      replace hq := cond_t hq
      obtain ⟨z63, hq⟩ := hq
      obtain ⟨fs9, ha9⟩ := clB1 z63
      replace hq := obind hq
      obtain ⟨q64, e65, hq⟩ := hq
      refine aw_callF (Y2 := YJ1_containsKey) (As := [va_rf q26.1]) (rest := [.ref x0]) (r := (RJ1, TJ1, 8)) (x := ⟨"java/util/Map", "containsKey", "(Ljava/lang/Object;)Z"⟩) kJ1_containsKey ha9 rfl (by decide) (by decide) ⟨by decide +kernel, by decide +kernel, by decide +kernel⟩ q1107 q1113 q1111 dX1_method_59 rfl rfl (ct_J1_containsKey g hst N q26.2 a61 q26.1 _ e65) (Nat.le_of_ble_eq_true rfl) (Nat.le_of_ble_eq_true rfl) (fun v9 h9 z9 y9 => ?_)
      obtain ⟨rfl, rfl⟩ := y9
      refine aw_st (st' := [.int q64.1, .ref x0]) rfl ?_
      refine aw_if_ne (tgt := 71) dX1_method_64 (by decide) (fun c66 => ?_) (fun c66 => ?_)
      · rw [if_neg c66] at hq
        exact p_x_X1_method_71 g hst N   q64.2 x0 q10.1 (some a21) q26.1 _ hq
      · rw [if_pos c66] at hq
        refine aw_iconst (v := 1) dX1_method_67 (by decide) ?_
        refine aw_goto (tgt := 72) dX1_method_68 (by decide) ?_
        exact p_x_X1_method_72 g hst N   q64.2 x0 q10.1 (some a21) q26.1 (1 : Int32) _ hq
abbrev YX1_place : YC := (yX1_place, cX1_place, 1, (some .int), [])
theorem kX1_place : aMk YX1_place 0 := ⟨rfl, q1912, q116, ⟨by decide +kernel, by decide +kernel, by decide +kernel⟩, Nat.le_of_ble_eq_true rfl⟩
def x_X1_place (g : AG) (N : Nat) (h : AH) (x0 : Nat) : Option (Int32 × AH) :=
  (rdR h x0 [(0, 2)]).bind fun o1 => (o1).bind fun a3 => (rdI h a3 [(1, 4)]).bind fun i5 => some (i5, h)
theorem ct_X1_place (g : AG) (hst : (gL g).stackTraces = false) (N : Nat) : ∀ (h : AH) (x0 : Nat) (q : (Int32 × AH)), x_X1_place g N h x0 = some q → CT g YX1_place 1 [.ref x0] h (xI q) := by
  intro h x0 q hq
  refine CT.of rfl (by decide +kernel) (loc := [some (.ref x0)]) (by first | exact Nat.le_of_ble_eq_true rfl | (simp only [lgl_rf, lgl_i, lgl_j, lgl_ref, lgl_nil]; exact Nat.le_of_ble_eq_true rfl)) (by first | rfl | (simp only [aent_rf, aent_i, aent_j, aent_ref, aent_nil]; rfl)) ?_
  unfold x_X1_place at hq
  refine aw_aload_n (i := 0) dX1_place_0 rfl rfl trivial ?_
  replace hq := obind hq
  obtain ⟨o1, e2, hq⟩ := hq
  refine xw_getR e2 fX1_18 dX1_place_1 ?_
  replace hq := obind hq
  obtain ⟨a3, e4, hq⟩ := hq
  subst e4
  replace hq := obind hq
  obtain ⟨i5, e6, hq⟩ := hq
  refine xw_getI e6 fX1_52 dX1_place_4 ?_
  cases hq
  exact aw_ireturn dX1_place_7 rfl rfl ⟨rfl, rfl⟩
abbrev YX1_records : YC := (yX1_records, cX1_records, 1, (some .int), [])
theorem kX1_records : aMk YX1_records 0 := ⟨rfl, q1924, q116, ⟨by decide +kernel, by decide +kernel, by decide +kernel⟩, Nat.le_of_ble_eq_true rfl⟩
def x_X1_records (g : AG) (N : Nat) (h : AH) (x0 : Nat) : Option (Int32 × AH) :=
  (rdR h x0 [(0, 3)]).bind fun o1 => (o1).bind fun a3 => (rdR h a3 [(2, 3)]).bind fun o5 => (o5).bind fun a7 => bif clB h a7 [13] then ((x_J4_size g N h a7).bind fun q10 => some (q10.1, q10.2)) else none
theorem ct_X1_records (g : AG) (hst : (gL g).stackTraces = false) (N : Nat) : ∀ (h : AH) (x0 : Nat) (q : (Int32 × AH)), x_X1_records g N h x0 = some q → CT g YX1_records 2 [.ref x0] h (xI q) := by
  intro h x0 q hq
  refine CT.of rfl (by decide +kernel) (loc := [some (.ref x0)]) (by first | exact Nat.le_of_ble_eq_true rfl | (simp only [lgl_rf, lgl_i, lgl_j, lgl_ref, lgl_nil]; exact Nat.le_of_ble_eq_true rfl)) (by first | rfl | (simp only [aent_rf, aent_i, aent_j, aent_ref, aent_nil]; rfl)) ?_
  unfold x_X1_records at hq
  refine aw_aload_n (i := 0) dX1_records_0 rfl rfl trivial ?_
  replace hq := obind hq
  obtain ⟨o1, e2, hq⟩ := hq
  refine xw_getR e2 fX1_25 dX1_records_1 ?_
  replace hq := obind hq
  obtain ⟨a3, e4, hq⟩ := hq
  subst e4
  replace hq := obind hq
  obtain ⟨o5, e6, hq⟩ := hq
  refine xw_getR e6 fX1_188 dX1_records_4 ?_
  replace hq := obind hq
  obtain ⟨a7, e8, hq⟩ := hq
  subst e8
  replace hq := cond_t hq
  obtain ⟨z9, hq⟩ := hq
  obtain ⟨fs9, ha9⟩ := clB1 z9
  replace hq := obind hq
  obtain ⟨q10, e11, hq⟩ := hq
  refine aw_callF (Y2 := YJ4_size) (As := []) (rest := []) (r := (RJ4, TJ4, 3)) (x := ⟨"java/util/List", "size", "()I"⟩) kJ4_size ha9 rfl (by decide) (by decide) ⟨by decide +kernel, by decide +kernel, by decide +kernel⟩ q378 q384 q382 dX1_records_7 rfl rfl (ct_J4_size g hst N h a7 _ e11) (Nat.le_of_ble_eq_true rfl) (Nat.le_of_ble_eq_true rfl) (fun v9 h9 z9 y9 => ?_)
  obtain ⟨rfl, rfl⟩ := y9
  refine aw_st (st' := [.int q10.1]) rfl ?_
  cases hq
  exact aw_ireturn dX1_records_12 rfl rfl ⟨rfl, rfl⟩
abbrev YX1_value : YC := (yX1_value, cX1_value, 1, (some .int), [])
theorem kX1_value : aMk YX1_value 0 := ⟨rfl, q1916, q116, ⟨by decide +kernel, by decide +kernel, by decide +kernel⟩, Nat.le_of_ble_eq_true rfl⟩
def x_X1_value (g : AG) (N : Nat) (h : AH) (x0 : Nat) : Option (Int32 × AH) :=
  (rdI h x0 [(0, 4)]).bind fun i1 => some (i1, h)
theorem ct_X1_value (g : AG) (hst : (gL g).stackTraces = false) (N : Nat) : ∀ (h : AH) (x0 : Nat) (q : (Int32 × AH)), x_X1_value g N h x0 = some q → CT g YX1_value 1 [.ref x0] h (xI q) := by
  intro h x0 q hq
  refine CT.of rfl (by decide +kernel) (loc := [some (.ref x0)]) (by first | exact Nat.le_of_ble_eq_true rfl | (simp only [lgl_rf, lgl_i, lgl_j, lgl_ref, lgl_nil]; exact Nat.le_of_ble_eq_true rfl)) (by first | rfl | (simp only [aent_rf, aent_i, aent_j, aent_ref, aent_nil]; rfl)) ?_
  unfold x_X1_value at hq
  refine aw_aload_n (i := 0) dX1_value_0 rfl rfl trivial ?_
  replace hq := obind hq
  obtain ⟨i1, e2, hq⟩ := hq
  refine xw_getI e2 fX1_169 dX1_value_1 ?_
  cases hq
  exact aw_ireturn dX1_value_4 rfl rfl ⟨rfl, rfl⟩
abbrev YX1_wipe : YC := (yX1_wipe, cX1_wipe, 2, (some .int), [])
theorem kX1_wipe : aMk YX1_wipe 0 := ⟨rfl, q372, q116, ⟨by decide +kernel, by decide +kernel, by decide +kernel⟩, Nat.le_of_ble_eq_true rfl⟩
def x_X1_wipe (g : AG) (N : Nat) (h : AH) (x0 : Nat) : Option (Int32 × AH) :=
  (rdI h x0 [(0, 1)]).bind fun i1 => (wrV g h x0 [(0, 1)] (.int (0 : Int32))).bind fun h3 => some (i1, h3)
theorem ct_X1_wipe (g : AG) (hst : (gL g).stackTraces = false) (N : Nat) : ∀ (h : AH) (x0 : Nat) (q : (Int32 × AH)), x_X1_wipe g N h x0 = some q → CT g YX1_wipe 1 [.ref x0] h (xI q) := by
  intro h x0 q hq
  refine CT.of rfl (by decide +kernel) (loc := [some (.ref x0), none]) (by first | exact Nat.le_of_ble_eq_true rfl | (simp only [lgl_rf, lgl_i, lgl_j, lgl_ref, lgl_nil]; exact Nat.le_of_ble_eq_true rfl)) (by first | rfl | (simp only [aent_rf, aent_i, aent_j, aent_ref, aent_nil]; rfl)) ?_
  unfold x_X1_wipe at hq
  refine aw_aload_n (i := 0) dX1_wipe_0 rfl rfl trivial ?_
  replace hq := obind hq
  obtain ⟨i1, e2, hq⟩ := hq
  refine xw_getI e2 fX1_45 dX1_wipe_1 ?_
  refine aw_istore_n (i := 1) (loc' := [some (.ref x0), some (.int i1)]) dX1_wipe_4 rfl (Nat.le_of_ble_eq_true rfl) rfl ?_
  refine aw_aload_n (i := 0) dX1_wipe_5 rfl rfl trivial ?_
  refine aw_iconst (v := 0) dX1_wipe_6 (by decide) ?_
  replace hq := obind hq
  obtain ⟨h3, e4, hq⟩ := hq
  refine xw_put e4 fX1_45 tX1_1 ⟨rfl, rfl⟩ dX1_wipe_7 ?_
  refine aw_iload_n (i := 1) dX1_wipe_10 rfl rfl ?_
  cases hq
  exact aw_ireturn dX1_wipe_11 rfl rfl ⟨rfl, rfl⟩
