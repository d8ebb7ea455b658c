/-! THE COMPONENT AND THE JDK as functions of the heap, and their contracts: printed by wip gen/dec2.py -/
set_option maxRecDepth 100000
abbrev YJ11_append_2 : YC := (yJ11_append_2, cJ11_append_2, 4, (some (.object "java/lang/AbstractStringBuilder")), [])
theorem kJ11_append_2 : aMk YJ11_append_2 1 := ⟨rfl, q661, q132, ⟨by decide +kernel, by decide +kernel, by decide +kernel⟩, Nat.le_of_ble_eq_true rfl⟩
def x_J11_append_2_48 (g : AG) (N : Nat) (h : AH) (x0 : Nat) (x1 : Int32) (x2 : Int32) (x3 : Int32) : Option (Option Nat × AH) :=
  (wrV g h x0 [(16, 3)] (.int x3)).bind fun h16 => some ((some x0), h16)
theorem p_x_J11_append_2_48 (g : AG) (hst : (gL g).stackTraces = false) (N : Nat) : ∀ (h : AH) (x0 : Nat) (x1 : Int32) (x2 : Int32) (x3 : Int32) (q : (Option Nat × AH)), x_J11_append_2_48 g N h x0 x1 x2 x3 = some q → AW g YJ11_append_2 6 (xR q) h [some (.ref x0), some (.int x1), some (.int x2), some (.int x3)] 48 [] := by
  intro h x0 x1 x2 x3 q hq
  unfold x_J11_append_2_48 at hq
  refine aw_aload_n (i := 0) dJ11_append_2_48 rfl rfl trivial ?_
  refine aw_iload_n (i := 3) dJ11_append_2_49 rfl rfl ?_
  replace hq := obind hq
  obtain ⟨h16, e17, hq⟩ := hq
  refine xw_put e17 fJ11_79 tJ12_3 ⟨rfl, rfl⟩ dJ11_append_2_50 ?_
  refine aw_aload_n (i := 0) dJ11_append_2_53 rfl rfl trivial ?_
  cases hq
  exact aw_areturn dJ11_append_2_54 rfl (Or.inl ⟨_, rfl⟩) trivial ⟨rfl, rfl⟩
def x_J11_append_2 (g : AG) (N : Nat) (h : AH) (x0 : Nat) (x1 : Int32) : Option (Option Nat × AH) :=
  (rdI h x0 [(16, 3)]).bind fun i1 => (x_J21_stringSize g N h x1).bind fun q3 => bif clB q3.2 x0 [16] then ((x_J11_ensureCapacityInternal g N q3.2 x0 (i1 + q3.1)).bind fun q6 => bif clB q6 x0 [16] then ((x_J11_isLatin1 g N q6 x0).bind fun q9 => if q9.1 = 0 then ((rdR q9.2 x0 [(16, 0)]).bind fun o12 => (x_J14_getChars g N q9.2 x1 i1 (i1 + q3.1) o12).bind fun q14 => x_J11_append_2_48 g N  q14.2 x0 x1 i1 (i1 + q3.1)) else ((rdR q9.2 x0 [(16, 0)]).bind fun o18 => (x_J21_getChars g N q9.2 x1 (i1 + q3.1) o18).bind fun q20 => x_J11_append_2_48 g N  q20.2 x0 x1 i1 (i1 + q3.1))) else none) else none
theorem ct_J11_append_2 (g : AG) (hst : (gL g).stackTraces = false) (N : Nat) : ∀ (h : AH) (x0 : Nat) (x1 : Int32) (q : (Option Nat × AH)), x_J11_append_2 g N h x0 x1 = some q → CT g YJ11_append_2 6 [.ref x0, .int x1] h (xR q) := by
  intro h x0 x1 q hq
  refine CT.of rfl (by decide +kernel) (loc := [some (.ref x0), some (.int x1), none, none]) (by first | exact Nat.le_of_ble_eq_true rfl | (simp only [lgl_rf, lgl_i, lgl_j, lgl_ref, lgl_nil]; exact Nat.le_of_ble_eq_true rfl)) (by first | rfl | (simp only [aent_rf, aent_i, aent_j, aent_ref, aent_nil]; rfl)) ?_
  unfold x_J11_append_2 at hq
  refine aw_aload_n (i := 0) dJ11_append_2_0 rfl rfl trivial ?_
  replace hq := obind hq
  obtain ⟨i1, e2, hq⟩ := hq
  refine xw_getI e2 fJ11_79 dJ11_append_2_1 ?_
  refine aw_istore_n (i := 2) (loc' := [some (.ref x0), some (.int x1), some (.int i1), none]) dJ11_append_2_4 rfl (Nat.le_of_ble_eq_true rfl) rfl ?_
  refine aw_iload_n (i := 2) dJ11_append_2_5 rfl rfl ?_
  refine aw_iload_n (i := 1) dJ11_append_2_6 rfl rfl ?_
  replace hq := obind hq
  obtain ⟨q3, e4, hq⟩ := hq
  refine aw_callS (Y2 := YJ21_stringSize) (As := [.int x1]) (rest := [.int i1]) kJ21_stringSize q662 q663 dJ11_append_2_7 rfl rfl (ct_J21_stringSize g hst N h x1 _ e4) (Nat.le_of_ble_eq_true rfl) (Nat.le_of_ble_eq_true rfl) (fun v9 h9 z9 y9 => ?_)
  obtain ⟨rfl, rfl⟩ := y9
  refine aw_st (st' := [.int q3.1, .int i1]) rfl ?_
  refine aw_iadd dJ11_append_2_10 ?_
  refine aw_istore_n (i := 3) (loc' := [some (.ref x0), some (.int x1), some (.int i1), some (.int (i1 + q3.1))]) dJ11_append_2_11 rfl (Nat.le_of_ble_eq_true rfl) rfl ?_
  refine aw_aload_n (i := 0) dJ11_append_2_12 rfl rfl trivial ?_
  refine aw_iload_n (i := 3) dJ11_append_2_13 rfl rfl ?_
  replace hq := cond_t hq
  obtain ⟨z5, hq⟩ := hq
  obtain ⟨fs9, ha9⟩ := clB1 z5
  replace hq := obind hq
  obtain ⟨q6, e7, hq⟩ := hq
  refine aw_callP (Y2 := YJ11_ensureCapacityInternal) (As := [.int (i1 + q3.1)]) (rest := []) (r := (RJ12, TJ12, 4)) kJ11_ensureCapacityInternal ha9 rfl q527 q2772 q529 q483 q528 qSBsel rfl dJ11_append_2_14 rfl rfl (ct_J11_ensureCapacityInternal g hst N q3.2 x0 (i1 + q3.1) _ e7) (Nat.le_of_ble_eq_true rfl) (Nat.le_of_ble_eq_true rfl) (fun v9 h9 z9 y9 => ?_)
  obtain ⟨rfl, y9⟩ := y9
  rw [y9]
  refine aw_st (st' := []) rfl ?_
  refine aw_aload_n (i := 0) dJ11_append_2_17 rfl rfl trivial ?_
  replace hq := cond_t hq
  obtain ⟨z8, hq⟩ := hq
  obtain ⟨fs9, ha9⟩ := clB1 z8
  replace hq := obind hq
  obtain ⟨q9, e10, hq⟩ := hq
  refine aw_callU (Y2 := YJ11_isLatin1) (As := []) (rest := []) (r := (RJ12, TJ12, 4)) (x := ⟨"java/lang/AbstractStringBuilder", "isLatin1", "()Z"⟩) kJ11_isLatin1 ha9 rfl rfl q562 q564 q563 q565 dJ11_append_2_18 rfl rfl (ct_J11_isLatin1 g hst N q6 x0 _ e10) (Nat.le_of_ble_eq_true rfl) (Nat.le_of_ble_eq_true rfl) (fun v9 h9 z9 y9 => ?_)
  obtain ⟨rfl, rfl⟩ := y9
  refine aw_st (st' := [.int q9.1]) rfl ?_
  refine aw_if_eq (tgt := 37) dJ11_append_2_21 (by decide) (fun c11 => ?_) (fun c11 => ?_)
  · rw [if_pos c11] at hq
    refine aw_iload_n (i := 1) dJ11_append_2_37 rfl rfl ?_
    refine aw_iload_n (i := 2) dJ11_append_2_38 rfl rfl ?_
    refine aw_iload_n (i := 3) dJ11_append_2_39 rfl rfl ?_
    refine aw_aload_n (i := 0) dJ11_append_2_40 rfl rfl trivial ?_
    replace hq := obind hq
    obtain ⟨o12, e13, hq⟩ := hq
    refine xw_getR e13 fJ11_15 dJ11_append_2_41 ?_
    replace hq := obind hq
    obtain ⟨q14, e15, hq⟩ := hq
    refine aw_callS (Y2 := YJ14_getChars) (As := [.int x1, .int i1, .int (i1 + q3.1), va_rf o12]) (rest := []) kJ14_getChars q672 q673 dJ11_append_2_44 rfl rfl (ct_J14_getChars g hst N q9.2 x1 i1 (i1 + q3.1) o12 _ e15) (Nat.le_of_ble_eq_true rfl) (Nat.le_of_ble_eq_true rfl) (fun v9 h9 z9 y9 => ?_)
    obtain ⟨rfl, rfl⟩ := y9
    refine aw_st (st' := [.int q14.1]) rfl ?_
    refine aw_pop dJ11_append_2_47 rfl ?_
    exact p_x_J11_append_2_48 g hst N   q14.2 x0 x1 i1 (i1 + q3.1) _ hq
  · rw [if_neg c11] at hq
    refine aw_iload_n (i := 1) dJ11_append_2_24 rfl rfl ?_
    refine aw_iload_n (i := 3) dJ11_append_2_25 rfl rfl ?_
    refine aw_aload_n (i := 0) dJ11_append_2_26 rfl rfl trivial ?_
    replace hq := obind hq
    obtain ⟨o18, e19, hq⟩ := hq
    refine xw_getR e19 fJ11_15 dJ11_append_2_27 ?_
    replace hq := obind hq
    obtain ⟨q20, e21, hq⟩ := hq
    refine aw_callS (Y2 := YJ21_getChars) (As := [.int x1, .int (i1 + q3.1), va_rf o18]) (rest := []) kJ21_getChars q665 q666 dJ11_append_2_30 rfl rfl (ct_J21_getChars g hst N q9.2 x1 (i1 + q3.1) o18 _ e21) (Nat.le_of_ble_eq_true rfl) (Nat.le_of_ble_eq_true rfl) (fun v9 h9 z9 y9 => ?_)
    obtain ⟨rfl, rfl⟩ := y9
    refine aw_st (st' := [.int q20.1]) rfl ?_
    refine aw_pop dJ11_append_2_33 rfl ?_
    refine aw_goto (tgt := 48) dJ11_append_2_34 (by decide) ?_
    exact p_x_J11_append_2_48 g hst N   q20.2 x0 x1 i1 (i1 + q3.1) _ hq
theorem fJ13_15 : ∀ q ∈ ([(17, 1)] : List (Nat × Nat)), aFl RJ13 15 q.1 q.2 := by
  intro q hq
  simp only [List.mem_cons, List.not_mem_nil, or_false] at hq
  subst hq
  exact aFl.of (RJ13, TJ13, 4) rfl (Nat.le_of_ble_eq_true rfl) q749
abbrev YJ13_coder : YC := (yJ13_coder, cJ13_coder, 1, (some .byte), [])
theorem kJ13_coder : aMk YJ13_coder 0 := ⟨rfl, q711, q134, ⟨by decide +kernel, by decide +kernel, by decide +kernel⟩, Nat.le_of_ble_eq_true rfl⟩
def x_J13_coder (g : AG) (N : Nat) (h : AH) (x0 : Nat) : Option (Int32 × AH) :=
  (vI (gV g 16)).bind fun i1 => if i1 = 0 then (some ((1 : Int32), h)) else ((rdI h x0 [(17, 1)]).bind fun i4 => bif isy i4 then (some (i4, h)) else none)
theorem ct_J13_coder (g : AG) (hst : (gL g).stackTraces = false) (N : Nat) : ∀ (h : AH) (x0 : Nat) (q : (Int32 × AH)), x_J13_coder g N h x0 = some q → CT g YJ13_coder 1 [.ref x0] h (xI q) := by
  intro h x0 q hq
  refine CT.of rfl (by decide +kernel) (loc := [some (.ref x0)]) (by first | exact Nat.le_of_ble_eq_true rfl | (simp only [lgl_rf, lgl_i, lgl_j, lgl_ref, lgl_nil]; exact Nat.le_of_ble_eq_true rfl)) (by first | rfl | (simp only [aent_rf, aent_i, aent_j, aent_ref, aent_nil]; rfl)) ?_
  unfold x_J13_coder at hq
  replace hq := obind hq
  obtain ⟨i1, e2, hq⟩ := hq
  refine xw_gets (i := 16) (vI_eq e2) rfl q712 dJ13_coder_0 rfl ?_
  refine aw_if_eq (tgt := 13) dJ13_coder_3 (by decide) (fun c3 => ?_) (fun c3 => ?_)
  · rw [if_pos c3] at hq
    refine aw_iconst (v := 1) dJ13_coder_13 (by decide) ?_
    cases hq
    exact aw_ireturn dJ13_coder_14 rfl rfl ⟨rfl, rfl⟩
  · rw [if_neg c3] at hq
    refine aw_aload_n (i := 0) dJ13_coder_6 rfl rfl trivial ?_
    replace hq := obind hq
    obtain ⟨i4, e5, hq⟩ := hq
    refine xw_getI e5 fJ13_15 dJ13_coder_7 ?_
    refine aw_goto (tgt := 14) dJ13_coder_10 (by decide) ?_
    replace hq := cond_t hq
    obtain ⟨z6, hq⟩ := hq
    cases hq
    exact aw_ireturn dJ13_coder_14 rfl (isy_ok z6).1 ⟨rfl, rfl⟩
theorem fJ13_9 : ∀ q ∈ ([(17, 0)] : List (Nat × Nat)), aFl RJ13 9 q.1 q.2 := by
  intro q hq
  simp only [List.mem_cons, List.not_mem_nil, or_false] at hq
  subst hq
  exact aFl.of (RJ13, TJ13, 4) rfl (Nat.le_of_ble_eq_true rfl) q748
abbrev YJ13_length : YC := (yJ13_length, cJ13_length, 1, (some .int), [])
theorem kJ13_length : aMk YJ13_length 0 := ⟨rfl, q707, q134, ⟨by decide +kernel, by decide +kernel, by decide +kernel⟩, Nat.le_of_ble_eq_true rfl⟩
def x_J13_length (g : AG) (N : Nat) (h : AH) (x0 : Nat) : Option (Int32 × AH) :=
  (rdR h x0 [(17, 0)]).bind fun o1 => (o1).bind fun a3 => (rdN h a3).bind fun i5 => bif clB h x0 [17] then ((x_J13_coder g N h x0).bind fun q8 => some ((i5 >>> (q8.1 &&& 31)), q8.2)) else none
theorem ct_J13_length (g : AG) (hst : (gL g).stackTraces = false) (N : Nat) : ∀ (h : AH) (x0 : Nat) (q : (Int32 × AH)), x_J13_length g N h x0 = some q → CT g YJ13_length 2 [.ref x0] h (xI q) := by
  intro h x0 q hq
  refine CT.of rfl (by decide +kernel) (loc := [some (.ref x0)]) (by first | exact Nat.le_of_ble_eq_true rfl | (simp only [lgl_rf, lgl_i, lgl_j, lgl_ref, lgl_nil]; exact Nat.le_of_ble_eq_true rfl)) (by first | rfl | (simp only [aent_rf, aent_i, aent_j, aent_ref, aent_nil]; rfl)) ?_
  unfold x_J13_length at hq
  refine aw_aload_n (i := 0) dJ13_length_0 rfl rfl trivial ?_
  replace hq := obind hq
  obtain ⟨o1, e2, hq⟩ := hq
  refine xw_getR e2 fJ13_9 dJ13_length_1 ?_
  replace hq := obind hq
  obtain ⟨a3, e4, hq⟩ := hq
  subst e4
  replace hq := obind hq
  obtain ⟨i5, e6, hq⟩ := hq
  refine xw_alen e6 dJ13_length_4 ?_
  refine aw_aload_n (i := 0) dJ13_length_5 rfl rfl trivial ?_
  replace hq := cond_t hq
  obtain ⟨z7, hq⟩ := hq
  obtain ⟨fs9, ha9⟩ := clB1 z7
  replace hq := obind hq
  obtain ⟨q8, e9, hq⟩ := hq
  refine aw_callV (Y2 := YJ13_coder) (As := []) (rest := [.int i5]) (r := (RJ13, TJ13, 4)) kJ13_coder ha9 rfl rfl q708 q709 q710 dJ13_length_6 rfl rfl (ct_J13_coder g hst N h x0 _ e9) (Nat.le_of_ble_eq_true rfl) (Nat.le_of_ble_eq_true rfl) (fun v9 h9 z9 y9 => ?_)
  obtain ⟨rfl, rfl⟩ := y9
  refine aw_st (st' := [.int q8.1, .int i5]) rfl ?_
  refine aw_ishr dJ13_length_9 ?_
  cases hq
  exact aw_ireturn dJ13_length_10 rfl rfl ⟨rfl, rfl⟩
abbrev YJ11_inflateIfNeededFor : YC := (yJ11_inflateIfNeededFor, cJ11_inflateIfNeededFor, 2, none, [])
theorem kJ11_inflateIfNeededFor : aMk YJ11_inflateIfNeededFor 1 := ⟨rfl, q720, q132, ⟨by decide +kernel, by decide +kernel, by decide +kernel⟩, Nat.le_of_ble_eq_true rfl⟩
def x_J11_inflateIfNeededFor (g : AG) (N : Nat) (h : AH) (x0 : Nat) (r1 : Option Nat) : Option AH :=
  (vI (gV g 16)).bind fun i1 => if i1 = 0 then (some h) else ((rdI h x0 [(16, 1)]).bind fun i4 => (r1).bind fun a6 => bif clB h a6 [17] then ((x_J13_coder g N h a6).bind fun q9 => if i4 = q9.1 then (some q9.2) else (bif clB q9.2 x0 [16] then ((x_J11_inflate g N q9.2 x0).bind fun q13 => some q13) else none)) else none)
theorem ct_J11_inflateIfNeededFor (g : AG) (hst : (gL g).stackTraces = false) (N : Nat) : ∀ (h : AH) (x0 : Nat) (r1 : Option Nat) (q : AH), x_J11_inflateIfNeededFor g N h x0 r1 = some q → CT g YJ11_inflateIfNeededFor 7 [.ref x0, va_rf r1] h (xV q) := by
  intro h x0 r1 q hq
  refine CT.of rfl (by decide +kernel) (loc := [some (.ref x0), some (va_rf r1)]) (by first | exact Nat.le_of_ble_eq_true rfl | (simp only [lgl_rf, lgl_i, lgl_j, lgl_ref, lgl_nil]; exact Nat.le_of_ble_eq_true rfl)) (by first | rfl | (simp only [aent_rf, aent_i, aent_j, aent_ref, aent_nil]; rfl)) ?_
  unfold x_J11_inflateIfNeededFor at hq
  replace hq := obind hq
  obtain ⟨i1, e2, hq⟩ := hq
  refine xw_gets (i := 16) (vI_eq e2) rfl q491 dJ11_inflateIfNeededFor_0 rfl ?_
  refine aw_if_eq (tgt := 21) dJ11_inflateIfNeededFor_3 (by decide) (fun c3 => ?_) (fun c3 => ?_)
  · rw [if_pos c3] at hq
    cases hq
    exact aw_vret dJ11_inflateIfNeededFor_21 rfl ⟨rfl, rfl⟩
  · rw [if_neg c3] at hq
    refine aw_aload_n (i := 0) dJ11_inflateIfNeededFor_6 rfl rfl trivial ?_
    replace hq := obind hq
    obtain ⟨i4, e5, hq⟩ := hq
    refine xw_getI e5 fJ11_22 dJ11_inflateIfNeededFor_7 ?_
    refine aw_aload_n (i := 1) dJ11_inflateIfNeededFor_10 rfl rfl (aIsR_rf _) ?_
    replace hq := obind hq
    obtain ⟨a6, e7, hq⟩ := hq
    subst e7
    replace hq := cond_t hq
    obtain ⟨z8, hq⟩ := hq
    obtain ⟨fs9, ha9⟩ := clB1 z8
    replace hq := obind hq
    obtain ⟨q9, e10, hq⟩ := hq
    refine aw_callV (Y2 := YJ13_coder) (As := []) (rest := [.int i4]) (r := (RJ13, TJ13, 4)) kJ13_coder ha9 rfl rfl q721 q709 q710 dJ11_inflateIfNeededFor_11 rfl rfl (ct_J13_coder g hst N h a6 _ e10) (Nat.le_of_ble_eq_true rfl) (Nat.le_of_ble_eq_true rfl) (fun v9 h9 z9 y9 => ?_)
    obtain ⟨rfl, rfl⟩ := y9
    refine aw_st (st' := [.int q9.1, .int i4]) rfl ?_
    refine aw_icmp_eq (tgt := 21) dJ11_inflateIfNeededFor_14 (by decide) (fun c11 => ?_) (fun c11 => ?_)
    · rw [if_pos c11] at hq
      cases hq
      exact aw_vret dJ11_inflateIfNeededFor_21 rfl ⟨rfl, rfl⟩
    · rw [if_neg c11] at hq
      refine aw_aload_n (i := 0) dJ11_inflateIfNeededFor_17 rfl rfl trivial ?_
      replace hq := cond_t hq
      obtain ⟨z12, hq⟩ := hq
      obtain ⟨fs9, ha9⟩ := clB1 z12
      replace hq := obind hq
      obtain ⟨q13, e14, hq⟩ := hq
      refine aw_callP (Y2 := YJ11_inflate) (As := []) (rest := []) (r := (RJ12, TJ12, 4)) kJ11_inflate ha9 rfl q570 q2774 q572 q483 q571 qSBsel rfl dJ11_inflateIfNeededFor_18 rfl rfl (ct_J11_inflate g hst N q9.2 x0 _ e14) (Nat.le_of_ble_eq_true rfl) (Nat.le_of_ble_eq_true rfl) (fun v9 h9 z9 y9 => ?_)
      obtain ⟨rfl, y9⟩ := y9
      rw [y9]
      refine aw_st (st' := []) rfl ?_
      cases hq
      exact aw_vret dJ11_inflateIfNeededFor_21 rfl ⟨rfl, rfl⟩
abbrev YJ13_getBytes : YC := (yJ13_getBytes, cJ13_getBytes, 4, none, [])
theorem kJ13_getBytes : aMk YJ13_getBytes 3 := ⟨rfl, q725, q134, ⟨by decide +kernel, by decide +kernel, by decide +kernel⟩, Nat.le_of_ble_eq_true rfl⟩
def x_J13_getBytes (g : AG) (N : Nat) (h : AH) (x0 : Nat) (r1 : Option Nat) (x2 : Int32) (x3 : Int32) : Option AH :=
  bif clB h x0 [17] then ((x_J13_coder g N h x0).bind fun q2 => if q2.1 = x3 then ((rdR q2.2 x0 [(17, 0)]).bind fun o15 => (rdR q2.2 x0 [(17, 0)]).bind fun o17 => (o17).bind fun a19 => (rdN q2.2 a19).bind fun i21 => (r1).bind fun a23 => (o15).bind fun a25 => (cpA g q2.2 a25 (0 : Int32) a23 (x2 <<< (x3 &&& 31)) i21).bind fun h27 => some h27) else ((rdR q2.2 x0 [(17, 0)]).bind fun o5 => (rdR q2.2 x0 [(17, 0)]).bind fun o7 => (o7).bind fun a9 => (rdN q2.2 a9).bind fun i11 => (x_J18_inflate g N q2.2 o5 (0 : Int32) r1 x2 i11).bind fun q13 => some q13)) else none
theorem ct_J13_getBytes (g : AG) (hst : (gL g).stackTraces = false) (N : Nat) : ∀ (h : AH) (x0 : Nat) (r1 : Option Nat) (x2 : Int32) (x3 : Int32) (q : AH), x_J13_getBytes g N h x0 r1 x2 x3 = some q → CT g YJ13_getBytes 6 [.ref x0, va_rf r1, .int x2, .int x3] h (xV q) := by
  intro h x0 r1 x2 x3 q hq
  refine CT.of rfl (by decide +kernel) (loc := [some (.ref x0), some (va_rf r1), some (.int x2), some (.int x3)]) (by first | exact Nat.le_of_ble_eq_true rfl | (simp only [lgl_rf, lgl_i, lgl_j, lgl_ref, lgl_nil]; exact Nat.le_of_ble_eq_true rfl)) (by first | rfl | (simp only [aent_rf, aent_i, aent_j, aent_ref, aent_nil]; rfl)) ?_
  unfold x_J13_getBytes at hq
  refine aw_aload_n (i := 0) dJ13_getBytes_0 rfl rfl trivial ?_
  replace hq := cond_t hq
  obtain ⟨z1, hq⟩ := hq
  obtain ⟨fs9, ha9⟩ := clB1 z1
  replace hq := obind hq
  obtain ⟨q2, e3, hq⟩ := hq
  refine aw_callV (Y2 := YJ13_coder) (As := []) (rest := []) (r := (RJ13, TJ13, 4)) kJ13_coder ha9 rfl rfl q708 q709 q710 dJ13_getBytes_1 rfl rfl (ct_J13_coder g hst N h x0 _ e3) (Nat.le_of_ble_eq_true rfl) (Nat.le_of_ble_eq_true rfl) (fun v9 h9 z9 y9 => ?_)
  obtain ⟨rfl, rfl⟩ := y9
  refine aw_st (st' := [.int q2.1]) rfl ?_
  refine aw_iload_n (i := 3) dJ13_getBytes_4 rfl rfl ?_
  refine aw_icmp_ne (tgt := 28) dJ13_getBytes_5 (by decide) (fun c4 => ?_) (fun c4 => ?_)
  · rw [if_neg c4] at hq
    refine aw_aload_n (i := 0) dJ13_getBytes_28 rfl rfl trivial ?_
    replace hq := obind hq
    obtain ⟨o5, e6, hq⟩ := hq
    refine xw_getR e6 fJ13_9 dJ13_getBytes_29 ?_
    refine aw_iconst (v := 0) dJ13_getBytes_32 (by decide) ?_
    refine aw_aload_n (i := 1) dJ13_getBytes_33 rfl rfl (aIsR_rf _) ?_
    refine aw_iload_n (i := 2) dJ13_getBytes_34 rfl rfl ?_
    refine aw_aload_n (i := 0) dJ13_getBytes_35 rfl rfl trivial ?_
    replace hq := obind hq
    obtain ⟨o7, e8, hq⟩ := hq
    refine xw_getR e8 fJ13_9 dJ13_getBytes_36 ?_
    replace hq := obind hq
    obtain ⟨a9, e10, hq⟩ := hq
    subst e10
    replace hq := obind hq
    obtain ⟨i11, e12, hq⟩ := hq
    refine xw_alen e12 dJ13_getBytes_39 ?_
    replace hq := obind hq
    obtain ⟨q13, e14, hq⟩ := hq
    refine aw_callS (Y2 := YJ18_inflate) (As := [va_rf o5, .int (0 : Int32), va_rf r1, .int x2, .int i11]) (rest := []) kJ18_inflate q727 q575 dJ13_getBytes_40 rfl rfl (ct_J18_inflate g hst N q2.2 o5 (0 : Int32) r1 x2 i11 _ e14) (Nat.le_of_ble_eq_true rfl) (Nat.le_of_ble_eq_true rfl) (fun v9 h9 z9 y9 => ?_)
    obtain ⟨rfl, y9⟩ := y9
    rw [y9]
    refine aw_st (st' := []) rfl ?_
    cases hq
    exact aw_vret dJ13_getBytes_43 rfl ⟨rfl, rfl⟩
  · rw [if_pos c4] at hq
    refine aw_aload_n (i := 0) dJ13_getBytes_8 rfl rfl trivial ?_
    replace hq := obind hq
    obtain ⟨o15, e16, hq⟩ := hq
    refine xw_getR e16 fJ13_9 dJ13_getBytes_9 ?_
    refine aw_iconst (v := 0) dJ13_getBytes_12 (by decide) ?_
    refine aw_aload_n (i := 1) dJ13_getBytes_13 rfl rfl (aIsR_rf _) ?_
    refine aw_iload_n (i := 2) dJ13_getBytes_14 rfl rfl ?_
    refine aw_iload_n (i := 3) dJ13_getBytes_15 rfl rfl ?_
    refine aw_ishl dJ13_getBytes_16 ?_
    refine aw_aload_n (i := 0) dJ13_getBytes_17 rfl rfl trivial ?_
    replace hq := obind hq
    obtain ⟨o17, e18, hq⟩ := hq
    refine xw_getR e18 fJ13_9 dJ13_getBytes_18 ?_
    replace hq := obind hq
    obtain ⟨a19, e20, hq⟩ := hq
    subst e20
    replace hq := obind hq
    obtain ⟨i21, e22, hq⟩ := hq
    refine xw_alen e22 dJ13_getBytes_21 ?_
    replace hq := obind hq
    obtain ⟨a23, e24, hq⟩ := hq
    subst e24
    replace hq := obind hq
    obtain ⟨a25, e26, hq⟩ := hq
    subst e26
    replace hq := obind hq
    obtain ⟨h27, e28, hq⟩ := hq
    refine xw_copy e28 q726 (by omega) (Nat.le_of_ble_eq_true rfl) dJ13_getBytes_22 ?_
    refine aw_goto (tgt := 43) dJ13_getBytes_25 (by decide) ?_
    cases hq
    exact aw_vret dJ13_getBytes_43 rfl ⟨rfl, rfl⟩
abbrev YJ11_putStringAt : YC := (yJ11_putStringAt, cJ11_putStringAt, 3, none, [])
theorem kJ11_putStringAt : aMk YJ11_putStringAt 2 := ⟨rfl, q716, q132, ⟨by decide +kernel, by decide +kernel, by decide +kernel⟩, Nat.le_of_ble_eq_true rfl⟩
def x_J11_putStringAt (g : AG) (N : Nat) (h : AH) (x0 : Nat) (x1 : Int32) (r2 : Option Nat) : Option AH :=
  bif clB h x0 [16] then ((x_J11_inflateIfNeededFor g N h x0 r2).bind fun q2 => (rdR q2 x0 [(16, 0)]).bind fun o4 => (rdI q2 x0 [(16, 1)]).bind fun i6 => (r2).bind fun a8 => bif clB q2 a8 [17] then ((x_J13_getBytes g N q2 a8 o4 x1 i6).bind fun q11 => some q11) else none) else none
theorem ct_J11_putStringAt (g : AG) (hst : (gL g).stackTraces = false) (N : Nat) : ∀ (h : AH) (x0 : Nat) (x1 : Int32) (r2 : Option Nat) (q : AH), x_J11_putStringAt g N h x0 x1 r2 = some q → CT g YJ11_putStringAt 8 [.ref x0, .int x1, va_rf r2] h (xV q) := by
  intro h x0 x1 r2 q hq
  refine CT.of rfl (by decide +kernel) (loc := [some (.ref x0), some (.int x1), some (va_rf r2)]) (by first | exact Nat.le_of_ble_eq_true rfl | (simp only [lgl_rf, lgl_i, lgl_j, lgl_ref, lgl_nil]; exact Nat.le_of_ble_eq_true rfl)) (by first | rfl | (simp only [aent_rf, aent_i, aent_j, aent_ref, aent_nil]; rfl)) ?_
  unfold x_J11_putStringAt at hq
  refine aw_aload_n (i := 0) dJ11_putStringAt_0 rfl rfl trivial ?_
  refine aw_aload_n (i := 2) dJ11_putStringAt_1 rfl rfl (aIsR_rf _) ?_
  replace hq := cond_t hq
  obtain ⟨z1, hq⟩ := hq
  obtain ⟨fs9, ha9⟩ := clB1 z1
  replace hq := obind hq
  obtain ⟨q2, e3, hq⟩ := hq
  refine aw_callP (Y2 := YJ11_inflateIfNeededFor) (As := [va_rf r2]) (rest := []) (r := (RJ12, TJ12, 4)) kJ11_inflateIfNeededFor ha9 rfl q717 q2780 q719 q483 q718 qSBsel rfl dJ11_putStringAt_2 rfl rfl (ct_J11_inflateIfNeededFor g hst N h x0 r2 _ e3) (Nat.le_of_ble_eq_true rfl) (Nat.le_of_ble_eq_true rfl) (fun v9 h9 z9 y9 => ?_)
  obtain ⟨rfl, y9⟩ := y9
  rw [y9]
  refine aw_st (st' := []) rfl ?_
  refine aw_aload_n (i := 2) dJ11_putStringAt_5 rfl rfl (aIsR_rf _) ?_
  refine aw_aload_n (i := 0) dJ11_putStringAt_6 rfl rfl trivial ?_
  replace hq := obind hq
  obtain ⟨o4, e5, hq⟩ := hq
  refine xw_getR e5 fJ11_15 dJ11_putStringAt_7 ?_
  refine aw_iload_n (i := 1) dJ11_putStringAt_10 rfl rfl ?_
  refine aw_aload_n (i := 0) dJ11_putStringAt_11 rfl rfl trivial ?_
  replace hq := obind hq
  obtain ⟨i6, e7, hq⟩ := hq
  refine xw_getI e7 fJ11_22 dJ11_putStringAt_12 ?_
  replace hq := obind hq
  obtain ⟨a8, e9, hq⟩ := hq
  subst e9
  replace hq := cond_t hq
  obtain ⟨z10, hq⟩ := hq
  obtain ⟨fs9, ha9⟩ := clB1 z10
  replace hq := obind hq
  obtain ⟨q11, e12, hq⟩ := hq
  refine aw_callV (Y2 := YJ13_getBytes) (As := [va_rf o4, .int x1, .int i6]) (rest := []) (r := (RJ13, TJ13, 4)) kJ13_getBytes ha9 rfl rfl q722 q723 q724 dJ11_putStringAt_15 rfl rfl (ct_J13_getBytes g hst N q2 a8 o4 x1 i6 _ e12) (Nat.le_of_ble_eq_true rfl) (Nat.le_of_ble_eq_true rfl) (fun v9 h9 z9 y9 => ?_)
  obtain ⟨rfl, y9⟩ := y9
  rw [y9]
  refine aw_st (st' := []) rfl ?_
  cases hq
  exact aw_vret dJ11_putStringAt_18 rfl ⟨rfl, rfl⟩
abbrev YJ11_append_3 : YC := (yJ11_append_3, cJ11_append_3, 3, (some (.object "java/lang/AbstractStringBuilder")), [])
theorem kJ11_append_3 : aMk YJ11_append_3 1 := ⟨rfl, q696, q132, ⟨by decide +kernel, by decide +kernel, by decide +kernel⟩, Nat.le_of_ble_eq_true rfl⟩
def x_J11_append_3 (g : AG) (N : Nat) (h : AH) (x0 : Nat) (r1 : Option Nat) : Option (Option Nat × AH) :=
  ocase r1 (bif clB h x0 [16] then ((x_J11_appendNull g N h x0).bind fun q3 => some (q3.1, q3.2)) else none) (fun a1 => bif clB h a1 [17] then ((x_J13_length g N h a1).bind fun q6 => (rdI q6.2 x0 [(16, 3)]).bind fun i8 => bif clB q6.2 x0 [16] then ((x_J11_ensureCapacityInternal g N q6.2 x0 (i8 + q6.1)).bind fun q11 => (rdI q11 x0 [(16, 3)]).bind fun i13 => bif clB q11 x0 [16] then ((x_J11_putStringAt g N q11 x0 i13 (some a1)).bind fun q16 => (rdI q16 x0 [(16, 3)]).bind fun i18 => (wrV g q16 x0 [(16, 3)] (.int (i18 + q6.1))).bind fun h20 => some ((some x0), h20)) else none) else none) else none)
theorem ct_J11_append_3 (g : AG) (hst : (gL g).stackTraces = false) (N : Nat) : ∀ (h : AH) (x0 : Nat) (r1 : Option Nat) (q : (Option Nat × AH)), x_J11_append_3 g N h x0 r1 = some q → CT g YJ11_append_3 9 [.ref x0, va_rf r1] h (xR q) := by
  intro h x0 r1 q hq
  refine CT.of rfl (by decide +kernel) (loc := [some (.ref x0), some (va_rf r1), none]) (by first | exact Nat.le_of_ble_eq_true rfl | (simp only [lgl_rf, lgl_i, lgl_j, lgl_ref, lgl_nil]; exact Nat.le_of_ble_eq_true rfl)) (by first | rfl | (simp only [aent_rf, aent_i, aent_j, aent_ref, aent_nil]; rfl)) ?_
  unfold x_J11_append_3 at hq
  refine aw_aload_n (i := 1) dJ11_append_3_0 rfl rfl (aIsR_rf _) ?_
  rcases r1 with _ | a1
  · replace hq := ocase_n hq
    refine xw_ifnonN (tgt := 9) dJ11_append_3_1 (by decide) ?_
    refine aw_aload_n (i := 0) dJ11_append_3_4 rfl rfl trivial ?_
    replace hq := cond_t hq
    obtain ⟨z2, hq⟩ := hq
    obtain ⟨fs9, ha9⟩ := clB1 z2
    replace hq := obind hq
    obtain ⟨q3, e4, hq⟩ := hq
    refine aw_callP (Y2 := YJ11_appendNull) (As := []) (rest := []) (r := (RJ12, TJ12, 4)) kJ11_appendNull ha9 rfl q697 q2778 q699 q483 q698 qSBsel rfl dJ11_append_3_5 rfl rfl (ct_J11_appendNull g hst N h x0 _ e4) (Nat.le_of_ble_eq_true rfl) (Nat.le_of_ble_eq_true rfl) (fun v9 h9 z9 y9 => ?_)
    obtain ⟨rfl, rfl⟩ := y9
    refine aw_st (st' := [va_rf q3.1]) rfl ?_
    cases hq
    exact aw_areturn dJ11_append_3_8 rfl (Or.inl ⟨_, rfl⟩) (aIsR_rf _) ⟨rfl, rfl⟩
  · replace hq := ocase_s hq
    refine xw_ifnonS (tgt := 9) dJ11_append_3_1 (by decide) ?_
    refine aw_aload_n (i := 1) dJ11_append_3_9 rfl rfl trivial ?_
    replace hq := cond_t hq
    obtain ⟨z5, hq⟩ := hq
    obtain ⟨fs9, ha9⟩ := clB1 z5
    replace hq := obind hq
    obtain ⟨q6, e7, hq⟩ := hq
    refine aw_callV (Y2 := YJ13_length) (As := []) (rest := []) (r := (RJ13, TJ13, 4)) kJ13_length ha9 rfl rfl q704 q705 q706 dJ11_append_3_10 rfl rfl (ct_J13_length g hst N h a1 _ e7) (Nat.le_of_ble_eq_true rfl) (Nat.le_of_ble_eq_true rfl) (fun v9 h9 z9 y9 => ?_)
    obtain ⟨rfl, rfl⟩ := y9
    refine aw_st (st' := [.int q6.1]) rfl ?_
    refine aw_istore_n (i := 2) (loc' := [some (.ref x0), some (.ref a1), some (.int q6.1)]) dJ11_append_3_13 rfl (Nat.le_of_ble_eq_true rfl) rfl ?_
    refine aw_aload_n (i := 0) dJ11_append_3_14 rfl rfl trivial ?_
    refine aw_aload_n (i := 0) dJ11_append_3_15 rfl rfl trivial ?_
    replace hq := obind hq
    obtain ⟨i8, e9, hq⟩ := hq
    refine xw_getI e9 fJ11_79 dJ11_append_3_16 ?_
    refine aw_iload_n (i := 2) dJ11_append_3_19 rfl rfl ?_
    refine aw_iadd dJ11_append_3_20 ?_
    replace hq := cond_t hq
    obtain ⟨z10, hq⟩ := hq
    obtain ⟨fs9, ha9⟩ := clB1 z10
    replace hq := obind hq
    obtain ⟨q11, e12, hq⟩ := hq
    refine aw_callP (Y2 := YJ11_ensureCapacityInternal) (As := [.int (i8 + q6.1)]) (rest := []) (r := (RJ12, TJ12, 4)) kJ11_ensureCapacityInternal ha9 rfl q527 q2772 q529 q483 q528 qSBsel rfl dJ11_append_3_21 rfl rfl (ct_J11_ensureCapacityInternal g hst N q6.2 x0 (i8 + q6.1) _ e12) (Nat.le_of_ble_eq_true rfl) (Nat.le_of_ble_eq_true rfl) (fun v9 h9 z9 y9 => ?_)
    obtain ⟨rfl, y9⟩ := y9
    rw [y9]
    refine aw_st (st' := []) rfl ?_
    refine aw_aload_n (i := 0) dJ11_append_3_24 rfl rfl trivial ?_
    refine aw_aload_n (i := 0) dJ11_append_3_25 rfl rfl trivial ?_
    replace hq := obind hq
    obtain ⟨i13, e14, hq⟩ := hq
    refine xw_getI e14 fJ11_79 dJ11_append_3_26 ?_
    refine aw_aload_n (i := 1) dJ11_append_3_29 rfl rfl trivial ?_
    replace hq := cond_t hq
    obtain ⟨z15, hq⟩ := hq
    obtain ⟨fs9, ha9⟩ := clB1 z15
    replace hq := obind hq
    obtain ⟨q16, e17, hq⟩ := hq
    refine aw_callP (Y2 := YJ11_putStringAt) (As := [.int i13, .ref a1]) (rest := []) (r := (RJ12, TJ12, 4)) kJ11_putStringAt ha9 rfl q713 q2779 q715 q483 q714 qSBsel rfl dJ11_append_3_30 rfl rfl (ct_J11_putStringAt g hst N q11 x0 i13 (some a1) _ e17) (Nat.le_of_ble_eq_true rfl) (Nat.le_of_ble_eq_true rfl) (fun v9 h9 z9 y9 => ?_)
    obtain ⟨rfl, y9⟩ := y9
    rw [y9]
    refine aw_st (st' := []) rfl ?_
    refine aw_aload_n (i := 0) dJ11_append_3_33 rfl rfl trivial ?_
    refine aw_dup dJ11_append_3_34 rfl ?_
    replace hq := obind hq
    obtain ⟨i18, e19, hq⟩ := hq
    refine xw_getI e19 fJ11_79 dJ11_append_3_35 ?_
    refine aw_iload_n (i := 2) dJ11_append_3_38 rfl rfl ?_
    refine aw_iadd dJ11_append_3_39 ?_
    replace hq := obind hq
    obtain ⟨h20, e21, hq⟩ := hq
    refine xw_put e21 fJ11_79 tJ12_3 ⟨rfl, rfl⟩ dJ11_append_3_40 ?_
    refine aw_aload_n (i := 0) dJ11_append_3_43 rfl rfl trivial ?_
    cases hq
    exact aw_areturn dJ11_append_3_44 rfl (Or.inl ⟨_, rfl⟩) trivial ⟨rfl, rfl⟩
abbrev YJ11_getValue : YC := (yJ11_getValue, cJ11_getValue, 1, (some (.array .byte)), [])
theorem kJ11_getValue : aMk YJ11_getValue 0 := ⟨rfl, q632, q132, ⟨by decide +kernel, by decide +kernel, by decide +kernel⟩, Nat.le_of_ble_eq_true rfl⟩
def x_J11_getValue (g : AG) (N : Nat) (h : AH) (x0 : Nat) : Option (Option Nat × AH) :=
  (rdR h x0 [(16, 0)]).bind fun o1 => some (o1, h)
theorem ct_J11_getValue (g : AG) (hst : (gL g).stackTraces = false) (N : Nat) : ∀ (h : AH) (x0 : Nat) (q : (Option Nat × AH)), x_J11_getValue g N h x0 = some q → CT g YJ11_getValue 1 [.ref x0] h (xR q) := by
  intro h x0 q hq
  refine CT.of rfl (by decide +kernel) (loc := [some (.ref x0)]) (by first | exact Nat.le_of_ble_eq_true rfl | (simp only [lgl_rf, lgl_i, lgl_j, lgl_ref, lgl_nil]; exact Nat.le_of_ble_eq_true rfl)) (by first | rfl | (simp only [aent_rf, aent_i, aent_j, aent_ref, aent_nil]; rfl)) ?_
  unfold x_J11_getValue at hq
  refine aw_aload_n (i := 0) dJ11_getValue_0 rfl rfl trivial ?_
  replace hq := obind hq
  obtain ⟨o1, e2, hq⟩ := hq
  refine xw_getR e2 fJ11_15 dJ11_getValue_1 ?_
  cases hq
  exact aw_areturn dJ11_getValue_4 rfl (Or.inr ⟨_, rfl⟩) (aIsR_rf _) ⟨rfl, rfl⟩
abbrev YJ11_init : YC := (yJ11_init, cJ11_init, 2, none, [])
theorem kJ11_init : aMk YJ11_init 1 := ⟨rfl, q489, q132, ⟨by decide +kernel, by decide +kernel, by decide +kernel⟩, Nat.le_of_ble_eq_true rfl⟩
def x_J11_init (g : AG) (N : Nat) (h : AH) (x0 : Nat) (x1 : Int32) : Option AH :=
  (vI (gV g 16)).bind fun i1 => if i1 = 0 then ((x_J14_newBytesFor g N h x1).bind fun q4 => (wrV g q4.2 x0 [(16, 0)] (va_rf q4.1)).bind fun h6 => (wrV g h6 x0 [(16, 1)] (.int (1 : Int32))).bind fun h8 => some h8) else ((mkA g h 3 x1 (.int 0)).bind fun h10 => (wrV g h10 x0 [(16, 0)] (.ref h.2.1)).bind fun h12 => (wrV g h12 x0 [(16, 1)] (.int (0 : Int32))).bind fun h14 => some h14)
theorem ct_J11_init (g : AG) (hst : (gL g).stackTraces = false) (N : Nat) : ∀ (h : AH) (x0 : Nat) (x1 : Int32) (q : AH), x_J11_init g N h x0 x1 = some q → CT g YJ11_init 3 [.ref x0, .int x1] h (xV q) := by
  intro h x0 x1 q hq
  refine CT.of rfl (by decide +kernel) (loc := [some (.ref x0), some (.int x1)]) (by first | exact Nat.le_of_ble_eq_true rfl | (simp only [lgl_rf, lgl_i, lgl_j, lgl_ref, lgl_nil]; exact Nat.le_of_ble_eq_true rfl)) (by first | rfl | (simp only [aent_rf, aent_i, aent_j, aent_ref, aent_nil]; rfl)) ?_
  unfold x_J11_init at hq
  refine aw_aload_n (i := 0) dJ11_init_0 rfl rfl trivial ?_
  refine aw_objInit q490 qObjI qObjC (by omega) (Nat.le_of_ble_eq_true rfl) dJ11_init_1 ?_
  replace hq := obind hq
  obtain ⟨i1, e2, hq⟩ := hq
  refine xw_gets (i := 16) (vI_eq e2) rfl q491 dJ11_init_4 rfl ?_
  refine aw_if_eq (tgt := 25) dJ11_init_7 (by decide) (fun c3 => ?_) (fun c3 => ?_)
  · rw [if_pos c3] at hq
    refine aw_aload_n (i := 0) dJ11_init_25 rfl rfl trivial ?_
    refine aw_iload_n (i := 1) dJ11_init_26 rfl rfl ?_
    replace hq := obind hq
    obtain ⟨q4, e5, hq⟩ := hq
    refine aw_callS (Y2 := YJ14_newBytesFor) (As := [.int x1]) (rest := [.ref x0]) kJ14_newBytesFor q493 q494 dJ11_init_27 rfl rfl (ct_J14_newBytesFor g hst N h x1 _ e5) (Nat.le_of_ble_eq_true rfl) (Nat.le_of_ble_eq_true rfl) (fun v9 h9 z9 y9 => ?_)
    obtain ⟨rfl, rfl⟩ := y9
    refine aw_st (st' := [va_rf q4.1, .ref x0]) rfl ?_
    replace hq := obind hq
    obtain ⟨h6, e7, hq⟩ := hq
    refine xw_put e7 fJ11_15 tJ12_0 (fits_rfA _ q4.1) dJ11_init_30 ?_
    refine aw_aload_n (i := 0) dJ11_init_33 rfl rfl trivial ?_
    refine aw_iconst (v := 1) dJ11_init_34 (by decide) ?_
    replace hq := obind hq
    obtain ⟨h8, e9, hq⟩ := hq
    refine xw_put e9 fJ11_22 tJ12_1 (isy_ok (by decide)) dJ11_init_35 ?_
    cases hq
    exact aw_vret dJ11_init_38 rfl ⟨rfl, rfl⟩
  · rw [if_neg c3] at hq
    refine aw_aload_n (i := 0) dJ11_init_10 rfl rfl trivial ?_
    refine aw_iload_n (i := 1) dJ11_init_11 rfl rfl ?_
    replace hq := obind hq
    obtain ⟨h10, e11, hq⟩ := hq
    refine xw_newa (atype := .byte) e11 q210 rfl (by decide) rfl (by decide) dJ11_init_12 ?_
    replace hq := obind hq
    obtain ⟨h12, e13, hq⟩ := hq
    refine xw_put e13 fJ11_15 tJ12_0 (fits_rfA _ (some h.2.1)) dJ11_init_14 ?_
    refine aw_aload_n (i := 0) dJ11_init_17 rfl rfl trivial ?_
    refine aw_iconst (v := 0) dJ11_init_18 (by decide) ?_
    replace hq := obind hq
    obtain ⟨h14, e15, hq⟩ := hq
    refine xw_put e15 fJ11_22 tJ12_1 (isy_ok (by decide)) dJ11_init_19 ?_
    refine aw_goto (tgt := 38) dJ11_init_22 (by decide) ?_
    cases hq
    exact aw_vret dJ11_init_38 rfl ⟨rfl, rfl⟩
abbrev YJ11_length : YC := (yJ11_length, cJ11_length, 1, (some .int), [])
theorem kJ11_length : aMk YJ11_length 0 := ⟨rfl, q519, q132, ⟨by decide +kernel, by decide +kernel, by decide +kernel⟩, Nat.le_of_ble_eq_true rfl⟩
def x_J11_length (g : AG) (N : Nat) (h : AH) (x0 : Nat) : Option (Int32 × AH) :=
  (rdI h x0 [(16, 3)]).bind fun i1 => some (i1, h)
theorem ct_J11_length (g : AG) (hst : (gL g).stackTraces = false) (N : Nat) : ∀ (h : AH) (x0 : Nat) (q : (Int32 × AH)), x_J11_length g N h x0 = some q → CT g YJ11_length 1 [.ref x0] h (xI q) := by
  intro h x0 q hq
  refine CT.of rfl (by decide +kernel) (loc := [some (.ref x0)]) (by first | exact Nat.le_of_ble_eq_true rfl | (simp only [lgl_rf, lgl_i, lgl_j, lgl_ref, lgl_nil]; exact Nat.le_of_ble_eq_true rfl)) (by first | rfl | (simp only [aent_rf, aent_i, aent_j, aent_ref, aent_nil]; rfl)) ?_
  unfold x_J11_length at hq
  refine aw_aload_n (i := 0) dJ11_length_0 rfl rfl trivial ?_
  replace hq := obind hq
  obtain ⟨i1, e2, hq⟩ := hq
  refine xw_getI e2 fJ11_79 dJ11_length_1 ?_
  cases hq
  exact aw_ireturn dJ11_length_4 rfl rfl ⟨rfl, rfl⟩
abbrev YJ12_append : YC := (yJ12_append, cJ12_append, 2, (some (.object "java/lang/StringBuilder")), [])
theorem kJ12_append : aMk YJ12_append 1 := ⟨rfl, q523, q133, ⟨by decide +kernel, by decide +kernel, by decide +kernel⟩, Nat.le_of_ble_eq_true rfl⟩
def x_J12_append (g : AG) (N : Nat) (h : AH) (x0 : Nat) (x1 : Int32) : Option (Option Nat × AH) :=
  bif clB h x0 [16] then ((x_J11_append g N h x0 x1).bind fun q2 => some ((some x0), q2.2)) else none
theorem ct_J12_append (g : AG) (hst : (gL g).stackTraces = false) (N : Nat) : ∀ (h : AH) (x0 : Nat) (x1 : Int32) (q : (Option Nat × AH)), x_J12_append g N h x0 x1 = some q → CT g YJ12_append 8 [.ref x0, .int x1] h (xR q) := by
  intro h x0 x1 q hq
  refine CT.of rfl (by decide +kernel) (loc := [some (.ref x0), some (.int x1)]) (by first | exact Nat.le_of_ble_eq_true rfl | (simp only [lgl_rf, lgl_i, lgl_j, lgl_ref, lgl_nil]; exact Nat.le_of_ble_eq_true rfl)) (by first | rfl | (simp only [aent_rf, aent_i, aent_j, aent_ref, aent_nil]; rfl)) ?_
  unfold x_J12_append at hq
  refine aw_aload_n (i := 0) dJ12_append_0 rfl rfl trivial ?_
  refine aw_iload_n (i := 1) dJ12_append_1 rfl rfl ?_
  replace hq := cond_t hq
  obtain ⟨z1, hq⟩ := hq
  obtain ⟨fs9, ha9⟩ := clB1 z1
  replace hq := obind hq
  obtain ⟨q2, e3, hq⟩ := hq
  refine aw_callSU (Y2 := YJ11_append) (As := [.int x1]) (rest := []) (r := (RJ12, TJ12, 4)) kJ11_append ha9 rfl (by decide) q524 q2771 q512 q525 (by decide) dJ12_append_2 rfl rfl (ct_J11_append g hst N h x0 x1 _ e3) (Nat.le_of_ble_eq_true rfl) (Nat.le_of_ble_eq_true rfl) (fun v9 h9 z9 y9 => ?_)
  obtain ⟨rfl, rfl⟩ := y9
  refine aw_st (st' := [va_rf q2.1]) rfl ?_
  refine aw_pop dJ12_append_5 (cat_rf _) ?_
  refine aw_aload_n (i := 0) dJ12_append_6 rfl rfl trivial ?_
  cases hq
  exact aw_areturn dJ12_append_7 rfl (Or.inl ⟨_, rfl⟩) trivial ⟨rfl, rfl⟩
abbrev YJ12_append_2 : YC := (yJ12_append_2, cJ12_append_2, 2, (some (.object "java/lang/StringBuilder")), [])
theorem kJ12_append_2 : aMk YJ12_append_2 1 := ⟨rfl, q658, q133, ⟨by decide +kernel, by decide +kernel, by decide +kernel⟩, Nat.le_of_ble_eq_true rfl⟩
def x_J12_append_2 (g : AG) (N : Nat) (h : AH) (x0 : Nat) (x1 : Int32) : Option (Option Nat × AH) :=
  bif clB h x0 [16] then ((x_J11_append_2 g N h x0 x1).bind fun q2 => some ((some x0), q2.2)) else none
theorem ct_J12_append_2 (g : AG) (hst : (gL g).stackTraces = false) (N : Nat) : ∀ (h : AH) (x0 : Nat) (x1 : Int32) (q : (Option Nat × AH)), x_J12_append_2 g N h x0 x1 = some q → CT g YJ12_append_2 7 [.ref x0, .int x1] h (xR q) := by
  intro h x0 x1 q hq
  refine CT.of rfl (by decide +kernel) (loc := [some (.ref x0), some (.int x1)]) (by first | exact Nat.le_of_ble_eq_true rfl | (simp only [lgl_rf, lgl_i, lgl_j, lgl_ref, lgl_nil]; exact Nat.le_of_ble_eq_true rfl)) (by first | rfl | (simp only [aent_rf, aent_i, aent_j, aent_ref, aent_nil]; rfl)) ?_
  unfold x_J12_append_2 at hq
  refine aw_aload_n (i := 0) dJ12_append_2_0 rfl rfl trivial ?_
  refine aw_iload_n (i := 1) dJ12_append_2_1 rfl rfl ?_
  replace hq := cond_t hq
  obtain ⟨z1, hq⟩ := hq
  obtain ⟨fs9, ha9⟩ := clB1 z1
  replace hq := obind hq
  obtain ⟨q2, e3, hq⟩ := hq
  refine aw_callSU (Y2 := YJ11_append_2) (As := [.int x1]) (rest := []) (r := (RJ12, TJ12, 4)) kJ11_append_2 ha9 rfl (by decide) q659 q2776 q512 q660 (by decide) dJ12_append_2_2 rfl rfl (ct_J11_append_2 g hst N h x0 x1 _ e3) (Nat.le_of_ble_eq_true rfl) (Nat.le_of_ble_eq_true rfl) (fun v9 h9 z9 y9 => ?_)
  obtain ⟨rfl, rfl⟩ := y9
  refine aw_st (st' := [va_rf q2.1]) rfl ?_
  refine aw_pop dJ12_append_2_5 (cat_rf _) ?_
  refine aw_aload_n (i := 0) dJ12_append_2_6 rfl rfl trivial ?_
  cases hq
  exact aw_areturn dJ12_append_2_7 rfl (Or.inl ⟨_, rfl⟩) trivial ⟨rfl, rfl⟩
abbrev YJ12_append_3 : YC := (yJ12_append_3, cJ12_append_3, 2, (some (.object "java/lang/StringBuilder")), [])
theorem kJ12_append_3 : aMk YJ12_append_3 1 := ⟨rfl, q693, q133, ⟨by decide +kernel, by decide +kernel, by decide +kernel⟩, Nat.le_of_ble_eq_true rfl⟩
def x_J12_append_3 (g : AG) (N : Nat) (h : AH) (x0 : Nat) (r1 : Option Nat) : Option (Option Nat × AH) :=
  bif clB h x0 [16] then ((x_J11_append_3 g N h x0 r1).bind fun q2 => some ((some x0), q2.2)) else none
theorem ct_J12_append_3 (g : AG) (hst : (gL g).stackTraces = false) (N : Nat) : ∀ (h : AH) (x0 : Nat) (r1 : Option Nat) (q : (Option Nat × AH)), x_J12_append_3 g N h x0 r1 = some q → CT g YJ12_append_3 10 [.ref x0, va_rf r1] h (xR q) := by
  intro h x0 r1 q hq
  refine CT.of rfl (by decide +kernel) (loc := [some (.ref x0), some (va_rf r1)]) (by first | exact Nat.le_of_ble_eq_true rfl | (simp only [lgl_rf, lgl_i, lgl_j, lgl_ref, lgl_nil]; exact Nat.le_of_ble_eq_true rfl)) (by first | rfl | (simp only [aent_rf, aent_i, aent_j, aent_ref, aent_nil]; rfl)) ?_
  unfold x_J12_append_3 at hq
  refine aw_aload_n (i := 0) dJ12_append_3_0 rfl rfl trivial ?_
  refine aw_aload_n (i := 1) dJ12_append_3_1 rfl rfl (aIsR_rf _) ?_
  replace hq := cond_t hq
  obtain ⟨z1, hq⟩ := hq
  obtain ⟨fs9, ha9⟩ := clB1 z1
  replace hq := obind hq
  obtain ⟨q2, e3, hq⟩ := hq
  refine aw_callSU (Y2 := YJ11_append_3) (As := [va_rf r1]) (rest := []) (r := (RJ12, TJ12, 4)) kJ11_append_3 ha9 rfl (by decide) q694 q2777 q512 q695 (by decide) dJ12_append_3_2 rfl rfl (ct_J11_append_3 g hst N h x0 r1 _ e3) (Nat.le_of_ble_eq_true rfl) (Nat.le_of_ble_eq_true rfl) (fun v9 h9 z9 y9 => ?_)
  obtain ⟨rfl, rfl⟩ := y9
  refine aw_st (st' := [va_rf q2.1]) rfl ?_
  refine aw_pop dJ12_append_3_5 (cat_rf _) ?_
  refine aw_aload_n (i := 0) dJ12_append_3_6 rfl rfl trivial ?_
  cases hq
  exact aw_areturn dJ12_append_3_7 rfl (Or.inl ⟨_, rfl⟩) trivial ⟨rfl, rfl⟩
abbrev YJ12_init : YC := (yJ12_init, cJ12_init, 1, none, [])
theorem kJ12_init : aMk YJ12_init 0 := ⟨rfl, q486, q133, ⟨by decide +kernel, by decide +kernel, by decide +kernel⟩, Nat.le_of_ble_eq_true rfl⟩
def x_J12_init (g : AG) (N : Nat) (h : AH) (x0 : Nat) : Option AH :=
  (x_J11_init g N h x0 (16 : Int32)).bind fun q1 => some q1
theorem ct_J12_init (g : AG) (hst : (gL g).stackTraces = false) (N : Nat) : ∀ (h : AH) (x0 : Nat) (q : AH), x_J12_init g N h x0 = some q → CT g YJ12_init 4 [.ref x0] h (xV q) := by
  intro h x0 q hq
  refine CT.of rfl (by decide +kernel) (loc := [some (.ref x0)]) (by first | exact Nat.le_of_ble_eq_true rfl | (simp only [lgl_rf, lgl_i, lgl_j, lgl_ref, lgl_nil]; exact Nat.le_of_ble_eq_true rfl)) (by first | rfl | (simp only [aent_rf, aent_i, aent_j, aent_ref, aent_nil]; rfl)) ?_
  unfold x_J12_init at hq
  refine aw_aload_n (i := 0) dJ12_init_0 rfl rfl trivial ?_
  refine aw_bipush (v := 16) dJ12_init_1 (by decide) ?_
  replace hq := obind hq
  obtain ⟨q1, e2, hq⟩ := hq
  refine aw_callI (Y2 := YJ11_init) (As := [.int (16 : Int32)]) (rest := []) (b := x0) kJ11_init rfl rfl q487 q488 dJ12_init_3 rfl rfl (ct_J11_init g hst N h x0 (16 : Int32) _ e2) (Nat.le_of_ble_eq_true rfl) (Nat.le_of_ble_eq_true rfl) (fun v9 h9 z9 y9 => ?_)
  obtain ⟨rfl, y9⟩ := y9
  rw [y9]
  refine aw_st (st' := []) rfl ?_
  cases hq
  exact aw_vret dJ12_init_6 rfl ⟨rfl, rfl⟩
abbrev YJ12_length : YC := (yJ12_length, cJ12_length, 1, (some .int), [])
theorem kJ12_length : aMk YJ12_length 0 := ⟨rfl, q516, q133, ⟨by decide +kernel, by decide +kernel, by decide +kernel⟩, Nat.le_of_ble_eq_true rfl⟩
def x_J12_length (g : AG) (N : Nat) (h : AH) (x0 : Nat) : Option (Int32 × AH) :=
  bif clB h x0 [16] then ((x_J11_length g N h x0).bind fun q2 => some (q2.1, q2.2)) else none
theorem ct_J12_length (g : AG) (hst : (gL g).stackTraces = false) (N : Nat) : ∀ (h : AH) (x0 : Nat) (q : (Int32 × AH)), x_J12_length g N h x0 = some q → CT g YJ12_length 2 [.ref x0] h (xI q) := by
  intro h x0 q hq
  refine CT.of rfl (by decide +kernel) (loc := [some (.ref x0)]) (by first | exact Nat.le_of_ble_eq_true rfl | (simp only [lgl_rf, lgl_i, lgl_j, lgl_ref, lgl_nil]; exact Nat.le_of_ble_eq_true rfl)) (by first | rfl | (simp only [aent_rf, aent_i, aent_j, aent_ref, aent_nil]; rfl)) ?_
  unfold x_J12_length at hq
  refine aw_aload_n (i := 0) dJ12_length_0 rfl rfl trivial ?_
  replace hq := cond_t hq
  obtain ⟨z1, hq⟩ := hq
  obtain ⟨fs9, ha9⟩ := clB1 z1
  replace hq := obind hq
  obtain ⟨q2, e3, hq⟩ := hq
  refine aw_callSU (Y2 := YJ11_length) (As := []) (rest := []) (r := (RJ12, TJ12, 4)) kJ11_length ha9 rfl (by decide) q517 q2770 q512 q518 (by decide) dJ12_length_1 rfl rfl (ct_J11_length g hst N h x0 _ e3) (Nat.le_of_ble_eq_true rfl) (Nat.le_of_ble_eq_true rfl) (fun v9 h9 z9 y9 => ?_)
  obtain ⟨rfl, rfl⟩ := y9
  refine aw_st (st' := [.int q2.1]) rfl ?_
  cases hq
  exact aw_ireturn dJ12_length_4 rfl rfl ⟨rfl, rfl⟩
abbrev YJ17_checkLength : YC := (yJ17_checkLength, cJ17_checkLength, 2, none, [])
theorem kJ17_checkLength : aMk YJ17_checkLength 2 := ⟨rfl, q643, q138, ⟨by decide +kernel, by decide +kernel, by decide +kernel⟩, Nat.le_of_ble_eq_true rfl⟩
def x_J17_checkLength (g : AG) (N : Nat) (h : AH) (x0 : Int32) (x1 : Int32) : Option AH :=
  if x0 ≤ x1 then (some h) else (none)
theorem ct_J17_checkLength (g : AG) (hst : (gL g).stackTraces = false) (N : Nat) : ∀ (h : AH) (x0 : Int32) (x1 : Int32) (q : AH), x_J17_checkLength g N h x0 x1 = some q → CT g YJ17_checkLength 1 [.int x0, .int x1] h (xV q) := by
  intro h x0 x1 q hq
  refine CT.of rfl (by decide +kernel) (loc := [some (.int x0), some (.int x1)]) (by first | exact Nat.le_of_ble_eq_true rfl | (simp only [lgl_rf, lgl_i, lgl_j, lgl_ref, lgl_nil]; exact Nat.le_of_ble_eq_true rfl)) (by first | rfl | (simp only [aent_rf, aent_i, aent_j, aent_ref, aent_nil]; rfl)) ?_
  unfold x_J17_checkLength at hq
  refine aw_iload_n (i := 1) dJ17_checkLength_0 rfl rfl ?_
  refine aw_iload_n (i := 0) dJ17_checkLength_1 rfl rfl ?_
  refine aw_icmp_ge (tgt := 37) dJ17_checkLength_2 (by decide) (fun c1 => ?_) (fun c1 => ?_)
  · rw [if_pos c1] at hq
    cases hq
    exact aw_vret dJ17_checkLength_37 rfl ⟨rfl, rfl⟩
  · rw [if_neg c1] at hq
    cases hq
abbrev YJ17_copyOfRangeByte : YC := (yJ17_copyOfRangeByte, cJ17_copyOfRangeByte, 5, (some (.array .byte)), [])
theorem kJ17_copyOfRangeByte : aMk YJ17_copyOfRangeByte 3 := ⟨rfl, q640, q138, ⟨by decide +kernel, by decide +kernel, by decide +kernel⟩, Nat.le_of_ble_eq_true rfl⟩
def x_J17_copyOfRangeByte (g : AG) (N : Nat) (h : AH) (r0 : Option Nat) (x1 : Int32) (x2 : Int32) : Option (Option Nat × AH) :=
  (x_J17_checkLength g N h x1 x2).bind fun q1 => (mkA g q1 3 (x2 - x1) (.int 0)).bind fun h3 => (r0).bind fun a5 => (rdN h3 a5).bind fun i7 => (cpA g h3 a5 x1 q1.2.1 (0 : Int32) (if (x2 - x1) < (i7 - x1) then (x2 - x1) else (i7 - x1))).bind fun h9 => some ((some q1.2.1), h9)
theorem ct_J17_copyOfRangeByte (g : AG) (hst : (gL g).stackTraces = false) (N : Nat) : ∀ (h : AH) (r0 : Option Nat) (x1 : Int32) (x2 : Int32) (q : (Option Nat × AH)), x_J17_copyOfRangeByte g N h r0 x1 x2 = some q → CT g YJ17_copyOfRangeByte 3 [va_rf r0, .int x1, .int x2] h (xR q) := by
  intro h r0 x1 x2 q hq
  refine CT.of rfl (by decide +kernel) (loc := [some (va_rf r0), some (.int x1), some (.int x2), none, none]) (by first | exact Nat.le_of_ble_eq_true rfl | (simp only [lgl_rf, lgl_i, lgl_j, lgl_ref, lgl_nil]; exact Nat.le_of_ble_eq_true rfl)) (by first | rfl | (simp only [aent_rf, aent_i, aent_j, aent_ref, aent_nil]; rfl)) ?_
  unfold x_J17_copyOfRangeByte at hq
  refine aw_iload_n (i := 1) dJ17_copyOfRangeByte_0 rfl rfl ?_
  refine aw_iload_n (i := 2) dJ17_copyOfRangeByte_1 rfl rfl ?_
  replace hq := obind hq
  obtain ⟨q1, e2, hq⟩ := hq
  refine aw_callS (Y2 := YJ17_checkLength) (As := [.int x1, .int x2]) (rest := []) kJ17_checkLength q641 q642 dJ17_copyOfRangeByte_2 rfl rfl (ct_J17_checkLength g hst N h x1 x2 _ e2) (Nat.le_of_ble_eq_true rfl) (Nat.le_of_ble_eq_true rfl) (fun v9 h9 z9 y9 => ?_)
  obtain ⟨rfl, y9⟩ := y9
  rw [y9]
  refine aw_st (st' := []) rfl ?_
  refine aw_iload_n (i := 2) dJ17_copyOfRangeByte_5 rfl rfl ?_
  refine aw_iload_n (i := 1) dJ17_copyOfRangeByte_6 rfl rfl ?_
  refine aw_isub dJ17_copyOfRangeByte_7 ?_
  refine aw_istore_n (i := 3) (loc' := [some (va_rf r0), some (.int x1), some (.int x2), some (.int (x2 - x1)), none]) dJ17_copyOfRangeByte_8 rfl (Nat.le_of_ble_eq_true rfl) rfl ?_
  refine aw_iload_n (i := 3) dJ17_copyOfRangeByte_9 rfl rfl ?_
  replace hq := obind hq
  obtain ⟨h3, e4, hq⟩ := hq
  refine xw_newa (atype := .byte) e4 q210 rfl (by decide) rfl (by decide) dJ17_copyOfRangeByte_10 ?_
  refine aw_astore (loc' := [some (va_rf r0), some (.int x1), some (.int x2), some (.int (x2 - x1)), some (.ref q1.2.1)]) dJ17_copyOfRangeByte_12 (Nat.le_of_ble_eq_true rfl) trivial rfl ?_
  refine aw_aload_n (i := 0) dJ17_copyOfRangeByte_14 rfl rfl (aIsR_rf _) ?_
  refine aw_iload_n (i := 1) dJ17_copyOfRangeByte_15 rfl rfl ?_
  refine aw_aload dJ17_copyOfRangeByte_16 rfl trivial ?_
  refine aw_iconst (v := 0) dJ17_copyOfRangeByte_18 (by decide) ?_
  refine aw_aload_n (i := 0) dJ17_copyOfRangeByte_19 rfl rfl (aIsR_rf _) ?_
  replace hq := obind hq
  obtain ⟨a5, e6, hq⟩ := hq
  subst e6
  replace hq := obind hq
  obtain ⟨i7, e8, hq⟩ := hq
  refine xw_alen e8 dJ17_copyOfRangeByte_20 ?_
  refine aw_iload_n (i := 1) dJ17_copyOfRangeByte_21 rfl rfl ?_
  refine aw_isub dJ17_copyOfRangeByte_22 ?_
  refine aw_iload_n (i := 3) dJ17_copyOfRangeByte_23 rfl rfl ?_
  refine aw_mmin q556 (by omega) (Nat.le_of_ble_eq_true rfl) dJ17_copyOfRangeByte_24 ?_
  replace hq := obind hq
  obtain ⟨h9, e10, hq⟩ := hq
  refine xw_copy e10 q559 (by omega) (Nat.le_of_ble_eq_true rfl) dJ17_copyOfRangeByte_27 ?_
  refine aw_aload dJ17_copyOfRangeByte_30 rfl trivial ?_
  cases hq
  exact aw_areturn dJ17_copyOfRangeByte_32 rfl (Or.inr ⟨_, rfl⟩) trivial ⟨rfl, rfl⟩
abbrev YJ17_copyOfRange : YC := (yJ17_copyOfRange, cJ17_copyOfRange, 3, (some (.array .byte)), [])
theorem kJ17_copyOfRange : aMk YJ17_copyOfRange 3 := ⟨rfl, q637, q138, ⟨by decide +kernel, by decide +kernel, by decide +kernel⟩, Nat.le_of_ble_eq_true rfl⟩
def x_J17_copyOfRange_10 (g : AG) (N : Nat) (h : AH) (r0 : Option Nat) (x1 : Int32) (x2 : Int32) : Option (Option Nat × AH) :=
  (x_J17_copyOfRangeByte g N h r0 x1 x2).bind fun q2 => some (q2.1, q2.2)
theorem p_x_J17_copyOfRange_10 (g : AG) (hst : (gL g).stackTraces = false) (N : Nat) : ∀ (h : AH) (r0 : Option Nat) (x1 : Int32) (x2 : Int32) (q : (Option Nat × AH)), x_J17_copyOfRange_10 g N h r0 x1 x2 = some q → AW g YJ17_copyOfRange 4 (xR q) h [some (va_rf r0), some (.int x1), some (.int x2)] 10 [] := by
  intro h r0 x1 x2 q hq
  unfold x_J17_copyOfRange_10 at hq
  refine aw_aload_n (i := 0) dJ17_copyOfRange_10 rfl rfl (aIsR_rf _) ?_
  refine aw_iload_n (i := 1) dJ17_copyOfRange_11 rfl rfl ?_
  refine aw_iload_n (i := 2) dJ17_copyOfRange_12 rfl rfl ?_
  replace hq := obind hq
  obtain ⟨q2, e3, hq⟩ := hq
  refine aw_callS (Y2 := YJ17_copyOfRangeByte) (As := [va_rf r0, .int x1, .int x2]) (rest := []) kJ17_copyOfRangeByte q638 q639 dJ17_copyOfRange_13 rfl rfl (ct_J17_copyOfRangeByte g hst N h r0 x1 x2 _ e3) (Nat.le_of_ble_eq_true rfl) (Nat.le_of_ble_eq_true rfl) (fun v9 h9 z9 y9 => ?_)
  obtain ⟨rfl, rfl⟩ := y9
  refine aw_st (st' := [va_rf q2.1]) rfl ?_
  cases hq
  exact aw_areturn dJ17_copyOfRange_16 rfl (Or.inr ⟨_, rfl⟩) (aIsR_rf _) ⟨rfl, rfl⟩
def x_J17_copyOfRange (g : AG) (N : Nat) (h : AH) (r0 : Option Nat) (x1 : Int32) (x2 : Int32) : Option (Option Nat × AH) :=
  if x1 = 0 then ((r0).bind fun a4 => (rdN h a4).bind fun i6 => if x2 = i6 then ((clA g h a4 3).bind fun h9 => bif arB h9 h.2.1 3 then (some ((some h.2.1), h9)) else none) else (x_J17_copyOfRange_10 g N  h (some a4) x1 x2)) else (x_J17_copyOfRange_10 g N  h r0 x1 x2)
theorem ct_J17_copyOfRange (g : AG) (hst : (gL g).stackTraces = false) (N : Nat) : ∀ (h : AH) (r0 : Option Nat) (x1 : Int32) (x2 : Int32) (q : (Option Nat × AH)), x_J17_copyOfRange g N h r0 x1 x2 = some q → CT g YJ17_copyOfRange 4 [va_rf r0, .int x1, .int x2] h (xR q) := by
  intro h r0 x1 x2 q hq
  refine CT.of rfl (by decide +kernel) (loc := [some (va_rf r0), some (.int x1), some (.int x2)]) (by first | exact Nat.le_of_ble_eq_true rfl | (simp only [lgl_rf, lgl_i, lgl_j, lgl_ref, lgl_nil]; exact Nat.le_of_ble_eq_true rfl)) (by first | rfl | (simp only [aent_rf, aent_i, aent_j, aent_ref, aent_nil]; rfl)) ?_
  unfold x_J17_copyOfRange at hq
  refine aw_iload_n (i := 1) dJ17_copyOfRange_0 rfl rfl ?_
  refine aw_if_ne (tgt := 10) dJ17_copyOfRange_1 (by decide) (fun c1 => ?_) (fun c1 => ?_)
  · rw [if_neg c1] at hq
    exact p_x_J17_copyOfRange_10 g hst N   h r0 x1 x2 _ hq
  · rw [if_pos c1] at hq
    refine aw_iload_n (i := 2) dJ17_copyOfRange_4 rfl rfl ?_
    refine aw_aload_n (i := 0) dJ17_copyOfRange_5 rfl rfl (aIsR_rf _) ?_
    replace hq := obind hq
    obtain ⟨a4, e5, hq⟩ := hq
    subst e5
    replace hq := obind hq
    obtain ⟨i6, e7, hq⟩ := hq
    refine xw_alen e7 dJ17_copyOfRange_6 ?_
    refine aw_icmp_eq (tgt := 17) dJ17_copyOfRange_7 (by decide) (fun c8 => ?_) (fun c8 => ?_)
    · rw [if_pos c8] at hq
      refine aw_aload_n (i := 0) dJ17_copyOfRange_17 rfl rfl trivial ?_
      replace hq := obind hq
      obtain ⟨h9, e10, hq⟩ := hq
      refine xw_clone3 e10 q549 (by omega) (Nat.le_of_ble_eq_true rfl) dJ17_copyOfRange_18 ?_
      replace hq := cond_t hq
      obtain ⟨z11, hq⟩ := hq
      refine xw_castB z11 q555 dJ17_copyOfRange_21 ?_
      cases hq
      exact aw_areturn dJ17_copyOfRange_24 rfl (Or.inr ⟨_, rfl⟩) trivial ⟨rfl, rfl⟩
    · rw [if_neg c8] at hq
      exact p_x_J17_copyOfRange_10 g hst N   h (some a4) x1 x2 _ hq
abbrev YJ14_getChar : YC := (yJ14_getChar, cJ14_getChar, 2, (some .char), [])
theorem kJ14_getChar : aMk YJ14_getChar 2 := ⟨rfl, q743, q135, ⟨by decide +kernel, by decide +kernel, by decide +kernel⟩, Nat.le_of_ble_eq_true rfl⟩
def x_J14_getChar (g : AG) (N : Nat) (h : AH) (r0 : Option Nat) (x1 : Int32) : Option (Int32 × AH) :=
  none
theorem ct_J14_getChar (g : AG) (hst : (gL g).stackTraces = false) (N : Nat) : ∀ (h : AH) (r0 : Option Nat) (x1 : Int32) (q : (Int32 × AH)), x_J14_getChar g N h r0 x1 = some q → CT g YJ14_getChar 1 [va_rf r0, .int x1] h (xI q) := by
  intro h r0 x1 q hq
  refine CT.of rfl (by decide +kernel) (loc := [some (va_rf r0), some (.int x1)]) (by first | exact Nat.le_of_ble_eq_true rfl | (simp only [lgl_rf, lgl_i, lgl_j, lgl_ref, lgl_nil]; exact Nat.le_of_ble_eq_true rfl)) (by first | rfl | (simp only [aent_rf, aent_i, aent_j, aent_ref, aent_nil]; rfl)) ?_
  unfold x_J14_getChar at hq
  cases hq
abbrev YJ14_compress_2 : YC := (yJ14_compress_2, cJ14_compress_2, 7, (some .int), [])
theorem kJ14_compress_2 : aMk YJ14_compress_2 5 := ⟨rfl, q740, q135, ⟨by decide +kernel, by decide +kernel, by decide +kernel⟩, Nat.le_of_ble_eq_true rfl⟩
def x_J14_compress_2_10 (g : AG) (N : Nat) : Nat → AH → Option Nat → Int32 → Option Nat → Int32 → Int32 → Int32 → Option (Int32 × AH)
  | 0, _, _, _, _, _, _, _ => none
  | n9 + 1, h, r0, x1, r2, x3, x4, x5 =>
  if x4 ≤ x5 then (some (x4, h)) else ((x_J14_getChar g N h r0 x1).bind fun q4 => if q4.1 ≤ (255 : Int32) then ((r2).bind fun a7 => (wrA g q4.2 a7 3 x3 (.int q4.1.toInt8.toInt32.toInt8.toInt32)).bind fun h9 => x_J14_compress_2_10 g N n9 h9 r0 (x1 + 1) (some a7) (x3 + 1) x4 (x5 + 1)) else (some (x5, q4.2)))
theorem p_x_J14_compress_2_10 (g : AG) (hst : (gL g).stackTraces = false) (N : Nat) : ∀ (n9 : Nat) (h : AH) (r0 : Option Nat) (x1 : Int32) (r2 : Option Nat) (x3 : Int32) (x4 : Int32) (x5 : Int32) (q : (Int32 × AH)), x_J14_compress_2_10 g N n9 h r0 x1 r2 x3 x4 x5 = some q → AW g YJ14_compress_2 4 (xI q) h [some (va_rf r0), some (.int x1), some (va_rf r2), some (.int x3), some (.int x4), some (.int x5), none] 10 [] := by
  intro n9
  induction n9 with
  | zero =>
    intro h r0 x1 r2 x3 x4 x5 q hq
    cases hq
  | succ n9 ih =>
    intro h r0 x1 r2 x3 x4 x5 q hq
    rw [x_J14_compress_2_10] at hq
    refine aw_iload dJ14_compress_2_10 rfl ?_
    refine aw_iload dJ14_compress_2_12 rfl ?_
    refine aw_icmp_ge (tgt := 53) dJ14_compress_2_14 (by decide) (fun c3 => ?_) (fun c3 => ?_)
    · rw [if_pos c3] at hq
      refine aw_iload dJ14_compress_2_53 rfl ?_
      cases hq
      exact aw_ireturn dJ14_compress_2_55 rfl rfl ⟨rfl, rfl⟩
    · rw [if_neg c3] at hq
      refine aw_aload_n (i := 0) dJ14_compress_2_17 rfl rfl (aIsR_rf _) ?_
      refine aw_iload_n (i := 1) dJ14_compress_2_18 rfl rfl ?_
      replace hq := obind hq
      obtain ⟨q4, e5, hq⟩ := hq
      refine aw_callS (Y2 := YJ14_getChar) (As := [va_rf r0, .int x1]) (rest := []) kJ14_getChar q741 q742 dJ14_compress_2_19 rfl rfl (ct_J14_getChar g hst N h r0 x1 _ e5) (Nat.le_of_ble_eq_true rfl) (Nat.le_of_ble_eq_true rfl) (fun v9 h9 z9 y9 => ?_)
      obtain ⟨rfl, rfl⟩ := y9
      refine aw_st (st' := [.int q4.1]) rfl ?_
      refine aw_istore (loc' := [some (va_rf r0), some (.int x1), some (va_rf r2), some (.int x3), some (.int x4), some (.int x5), some (.int q4.1)]) dJ14_compress_2_22 (Nat.le_of_ble_eq_true rfl) rfl ?_
      refine aw_iload dJ14_compress_2_24 rfl ?_
      refine aw_sipush (v := 255) dJ14_compress_2_26 (by decide) ?_
      refine aw_icmp_le (tgt := 35) dJ14_compress_2_29 (by decide) (fun c6 => ?_) (fun c6 => ?_)
      · rw [if_pos c6] at hq
        refine aw_aload_n (i := 2) dJ14_compress_2_35 rfl rfl (aIsR_rf _) ?_
        refine aw_iload_n (i := 3) dJ14_compress_2_36 rfl rfl ?_
        refine aw_iload dJ14_compress_2_37 rfl ?_
        refine aw_i2b dJ14_compress_2_39 ?_
        replace hq := obind hq
        obtain ⟨a7, e8, hq⟩ := hq
        subst e8
        replace hq := obind hq
        obtain ⟨h9, e10, hq⟩ := hq
        refine xw_bast e10 dJ14_compress_2_40 ?_
        refine aw_iinc (v := x1 + 1) (loc' := [some (va_rf r0), some (.int (x1 + 1)), some (.ref a7), some (.int x3), some (.int x4), some (.int x5), some (.int q4.1)]) dJ14_compress_2_41 rfl rfl (Nat.le_of_ble_eq_true rfl) (aset1_rf rfl) ?_
        refine aw_iinc (v := x3 + 1) (loc' := [some (va_rf r0), some (.int (x1 + 1)), some (.ref a7), some (.int (x3 + 1)), some (.int x4), some (.int x5), some (.int q4.1)]) dJ14_compress_2_44 rfl rfl (Nat.le_of_ble_eq_true rfl) rfl ?_
        refine aw_iinc (v := x5 + 1) (loc' := [some (va_rf r0), some (.int (x1 + 1)), some (.ref a7), some (.int (x3 + 1)), some (.int x4), some (.int (x5 + 1)), some (.int q4.1)]) dJ14_compress_2_47 rfl rfl (Nat.le_of_ble_eq_true rfl) rfl ?_
        refine aw_goto (tgt := 10) dJ14_compress_2_50 (by decide) ?_
        refine aw_subl (loc' := [some (va_rf r0), some (.int (x1 + 1)), some (.ref a7), some (.int (x3 + 1)), some (.int x4), some (.int (x5 + 1)), none]) ⟨Or.inr rfl, Or.inr rfl, Or.inr rfl, Or.inr rfl, Or.inr rfl, Or.inr rfl, Or.inl rfl, trivial⟩ ?_
        exact ih h9 r0 (x1 + 1) (some a7) (x3 + 1) x4 (x5 + 1) _ hq
      · rw [if_neg c6] at hq
        refine aw_iload dJ14_compress_2_32 rfl ?_
        cases hq
        exact aw_ireturn dJ14_compress_2_34 rfl rfl ⟨rfl, rfl⟩
def x_J14_compress_2 (g : AG) (N : Nat) (h : AH) (r0 : Option Nat) (x1 : Int32) (r2 : Option Nat) (x3 : Int32) (x4 : Int32) : Option (Int32 × AH) :=
  (x_J14_checkBoundsOffCount g N h x1 x4 r0).bind fun q1 => x_J14_compress_2_10 g N  N q1 r0 x1 r2 x3 x4 (0 : Int32)
theorem ct_J14_compress_2 (g : AG) (hst : (gL g).stackTraces = false) (N : Nat) : ∀ (h : AH) (r0 : Option Nat) (x1 : Int32) (r2 : Option Nat) (x3 : Int32) (x4 : Int32) (q : (Int32 × AH)), x_J14_compress_2 g N h r0 x1 r2 x3 x4 = some q → CT g YJ14_compress_2 4 [va_rf r0, .int x1, va_rf r2, .int x3, .int x4] h (xI q) := by
  intro h r0 x1 r2 x3 x4 q hq
  refine CT.of rfl (by decide +kernel) (loc := [some (va_rf r0), some (.int x1), some (va_rf r2), some (.int x3), some (.int x4), none, none]) (by first | exact Nat.le_of_ble_eq_true rfl | (simp only [lgl_rf, lgl_i, lgl_j, lgl_ref, lgl_nil]; exact Nat.le_of_ble_eq_true rfl)) (by first | rfl | (simp only [aent_rf, aent_i, aent_j, aent_ref, aent_nil]; rfl)) ?_
  unfold x_J14_compress_2 at hq
  refine aw_iload_n (i := 1) dJ14_compress_2_0 rfl rfl ?_
  refine aw_iload dJ14_compress_2_1 rfl ?_
  refine aw_aload_n (i := 0) dJ14_compress_2_3 rfl rfl (aIsR_rf _) ?_
  replace hq := obind hq
  obtain ⟨q1, e2, hq⟩ := hq
  refine aw_callS (Y2 := YJ14_checkBoundsOffCount) (As := [.int x1, .int x4, va_rf r0]) (rest := []) kJ14_checkBoundsOffCount q580 q581 dJ14_compress_2_4 rfl rfl (ct_J14_checkBoundsOffCount g hst N h x1 x4 r0 _ e2) (Nat.le_of_ble_eq_true rfl) (Nat.le_of_ble_eq_true rfl) (fun v9 h9 z9 y9 => ?_)
  obtain ⟨rfl, y9⟩ := y9
  rw [y9]
  refine aw_st (st' := []) rfl ?_
  refine aw_iconst (v := 0) dJ14_compress_2_7 (by decide) ?_
  refine aw_istore (loc' := [some (va_rf r0), some (.int x1), some (va_rf r2), some (.int x3), some (.int x4), some (.int (0 : Int32)), none]) dJ14_compress_2_8 (Nat.le_of_ble_eq_true rfl) rfl ?_
  exact p_x_J14_compress_2_10 g hst N   N q1 r0 x1 r2 x3 x4 (0 : Int32) _ hq
