/-! THE COMPONENT AND THE JDK as functions of the heap, and their contracts: printed by wip gen/dec2.py -/
set_option maxRecDepth 100000
theorem tJ12_3 : ∀ q ∈ ([(16, 3)] : List (Nat × Nat)), aFt q.1 q.2 false .int := by
  intro q hq
  simp only [List.mem_cons, List.not_mem_nil, or_false] at hq
  subst hq
  exact ⟨(RJ12, TJ12, 4), tyJ12, Nat.le_of_ble_eq_true rfl, rfl, Nat.le_of_ble_eq_true rfl, okJ12, rfl, rfl⟩
abbrev YJ11_append : YC := (yJ11_append, cJ11_append, 2, (some (.object "java/lang/AbstractStringBuilder")), [])
theorem kJ11_append : aMk YJ11_append 1 := ⟨rfl, q526, q132, ⟨by decide +kernel, by decide +kernel, by decide +kernel⟩, Nat.le_of_ble_eq_true rfl⟩
def x_J11_append_56 (g : AG) (N : Nat) (h : AH) (x0 : Nat) (x1 : Int32) : Option (Option Nat × AH) :=
  (rdR h x0 [(16, 0)]).bind fun o14 => (rdI h x0 [(16, 3)]).bind fun i16 => (wrV g h x0 [(16, 3)] (.int (i16 + (1 : Int32)))).bind fun h18 => (x_J14_putCharSB g N h18 o14 i16 x1).bind fun q20 => some ((some x0), q20)
theorem p_x_J11_append_56 (g : AG) (hst : (gL g).stackTraces = false) (N : Nat) : ∀ (h : AH) (x0 : Nat) (x1 : Int32) (q : (Option Nat × AH)), x_J11_append_56 g N h x0 x1 = some q → AW g YJ11_append 7 (xR q) h [some (.ref x0), some (.int x1)] 56 [] := by
  intro h x0 x1 q hq
  unfold x_J11_append_56 at hq
  refine aw_aload_n (i := 0) dJ11_append_56 rfl rfl trivial ?_
  replace hq := obind hq
  obtain ⟨o14, e15, hq⟩ := hq
  refine xw_getR e15 fJ11_15 dJ11_append_57 ?_
  refine aw_aload_n (i := 0) dJ11_append_60 rfl rfl trivial ?_
  refine aw_dup dJ11_append_61 rfl ?_
  replace hq := obind hq
  obtain ⟨i16, e17, hq⟩ := hq
  refine xw_getI e17 fJ11_79 dJ11_append_62 ?_
  refine aw_dup_x1 dJ11_append_65 rfl rfl ?_
  refine aw_iconst (v := 1) dJ11_append_66 (by decide) ?_
  refine aw_iadd dJ11_append_67 ?_
  replace hq := obind hq
  obtain ⟨h18, e19, hq⟩ := hq
  refine xw_put e19 fJ11_79 tJ12_3 ⟨rfl, rfl⟩ dJ11_append_68 ?_
  refine aw_iload_n (i := 1) dJ11_append_71 rfl rfl ?_
  replace hq := obind hq
  obtain ⟨q20, e21, hq⟩ := hq
  refine aw_callS (Y2 := YJ14_putCharSB) (As := [va_rf o14, .int i16, .int x1]) (rest := []) kJ14_putCharSB q603 q604 dJ11_append_72 rfl rfl (ct_J14_putCharSB g hst N h18 o14 i16 x1 _ e21) (Nat.le_of_ble_eq_true rfl) (Nat.le_of_ble_eq_true rfl) (fun v9 h9 z9 y9 => ?_)
  obtain ⟨rfl, y9⟩ := y9
  rw [y9]
  refine aw_st (st' := []) rfl ?_
  refine aw_aload_n (i := 0) dJ11_append_75 rfl rfl trivial ?_
  cases hq
  exact aw_areturn dJ11_append_76 rfl (Or.inl ⟨_, rfl⟩) trivial ⟨rfl, rfl⟩
def x_J11_append_45 (g : AG) (N : Nat) (h : AH) (x0 : Nat) (x1 : Int32) : Option (Option Nat × AH) :=
  bif clB h x0 [16] then ((x_J11_isLatin1 g N h x0).bind fun q11 => if q11.1 = 0 then (x_J11_append_56 g N  q11.2 x0 x1) else (bif clB q11.2 x0 [16] then ((x_J11_inflate g N q11.2 x0).bind fun q23 => x_J11_append_56 g N  q23 x0 x1) else none)) else none
theorem p_x_J11_append_45 (g : AG) (hst : (gL g).stackTraces = false) (N : Nat) : ∀ (h : AH) (x0 : Nat) (x1 : Int32) (q : (Option Nat × AH)), x_J11_append_45 g N h x0 x1 = some q → AW g YJ11_append 7 (xR q) h [some (.ref x0), some (.int x1)] 45 [] := by
  intro h x0 x1 q hq
  unfold x_J11_append_45 at hq
  refine aw_aload_n (i := 0) dJ11_append_45 rfl rfl trivial ?_
  replace hq := cond_t hq
  obtain ⟨z10, hq⟩ := hq
  obtain ⟨fs9, ha9⟩ := clB1 z10
  replace hq := obind hq
  obtain ⟨q11, e12, hq⟩ := hq
  refine aw_callU (Y2 := YJ11_isLatin1) (As := []) (rest := []) (r := (RJ12, TJ12, 4)) (x := ⟨"java/lang/AbstractStringBuilder", "isLatin1", "()Z"⟩) kJ11_isLatin1 ha9 rfl rfl q562 q564 q563 q565 dJ11_append_46 rfl rfl (ct_J11_isLatin1 g hst N h x0 _ e12) (Nat.le_of_ble_eq_true rfl) (Nat.le_of_ble_eq_true rfl) (fun v9 h9 z9 y9 => ?_)
  obtain ⟨rfl, rfl⟩ := y9
  refine aw_st (st' := [.int q11.1]) rfl ?_
  refine aw_if_eq (tgt := 56) dJ11_append_49 (by decide) (fun c13 => ?_) (fun c13 => ?_)
  · rw [if_pos c13] at hq
    exact p_x_J11_append_56 g hst N   q11.2 x0 x1 _ hq
  · rw [if_neg c13] at hq
    refine aw_aload_n (i := 0) dJ11_append_52 rfl rfl trivial ?_
    replace hq := cond_t hq
    obtain ⟨z22, hq⟩ := hq
    obtain ⟨fs9, ha9⟩ := clB1 z22
    replace hq := obind hq
    obtain ⟨q23, e24, hq⟩ := hq
    refine aw_callP (Y2 := YJ11_inflate) (As := []) (rest := []) (r := (RJ12, TJ12, 4)) kJ11_inflate ha9 rfl q570 q2774 q572 q483 q571 qSBsel rfl dJ11_append_53 rfl rfl (ct_J11_inflate g hst N q11.2 x0 _ e24) (Nat.le_of_ble_eq_true rfl) (Nat.le_of_ble_eq_true rfl) (fun v9 h9 z9 y9 => ?_)
    obtain ⟨rfl, y9⟩ := y9
    rw [y9]
    refine aw_st (st' := []) rfl ?_
    exact p_x_J11_append_56 g hst N   q23 x0 x1 _ hq
def x_J11_append (g : AG) (N : Nat) (h : AH) (x0 : Nat) (x1 : Int32) : Option (Option Nat × AH) :=
  (rdI h x0 [(16, 3)]).bind fun i1 => bif clB h x0 [16] then ((x_J11_ensureCapacityInternal g N h x0 (i1 + (1 : Int32))).bind fun q4 => bif clB q4 x0 [16] then ((x_J11_isLatin1 g N q4 x0).bind fun q7 => if q7.1 = 0 then (x_J11_append_45 g N  q7.2 x0 x1) else ((x_J18_canEncode g N q7.2 x1).bind fun q25 => if q25.1 = 0 then (x_J11_append_45 g N  q25.2 x0 x1) else ((rdR q25.2 x0 [(16, 0)]).bind fun o28 => (rdI q25.2 x0 [(16, 3)]).bind fun i30 => (wrV g q25.2 x0 [(16, 3)] (.int (i30 + (1 : Int32)))).bind fun h32 => (o28).bind fun a34 => (wrA g h32 a34 3 i30 (.int x1.toInt8.toInt32.toInt8.toInt32)).bind fun h36 => some ((some x0), h36)))) else none) else none
theorem ct_J11_append (g : AG) (hst : (gL g).stackTraces = false) (N : Nat) : ∀ (h : AH) (x0 : Nat) (x1 : Int32) (q : (Option Nat × AH)), x_J11_append g N h x0 x1 = some q → CT g YJ11_append 7 [.ref x0, .int x1] h (xR q) := by
  intro h x0 x1 q hq
  refine CT.of rfl (by decide +kernel) (loc := [some (.ref x0), some (.int x1)]) (by first | exact Nat.le_of_ble_eq_true rfl | (simp only [lgl_rf, lgl_i, lgl_j, lgl_ref, lgl_nil]; exact Nat.le_of_ble_eq_true rfl)) (by first | rfl | (simp only [aent_rf, aent_i, aent_j, aent_ref, aent_nil]; rfl)) ?_
  unfold x_J11_append at hq
  refine aw_aload_n (i := 0) dJ11_append_0 rfl rfl trivial ?_
  refine aw_aload_n (i := 0) dJ11_append_1 rfl rfl trivial ?_
  replace hq := obind hq
  obtain ⟨i1, e2, hq⟩ := hq
  refine xw_getI e2 fJ11_79 dJ11_append_2 ?_
  refine aw_iconst (v := 1) dJ11_append_5 (by decide) ?_
  refine aw_iadd dJ11_append_6 ?_
  replace hq := cond_t hq
  obtain ⟨z3, hq⟩ := hq
  obtain ⟨fs9, ha9⟩ := clB1 z3
  replace hq := obind hq
  obtain ⟨q4, e5, hq⟩ := hq
  refine aw_callP (Y2 := YJ11_ensureCapacityInternal) (As := [.int (i1 + (1 : Int32))]) (rest := []) (r := (RJ12, TJ12, 4)) kJ11_ensureCapacityInternal ha9 rfl q527 q2772 q529 q483 q528 qSBsel rfl dJ11_append_7 rfl rfl (ct_J11_ensureCapacityInternal g hst N h x0 (i1 + (1 : Int32)) _ e5) (Nat.le_of_ble_eq_true rfl) (Nat.le_of_ble_eq_true rfl) (fun v9 h9 z9 y9 => ?_)
  obtain ⟨rfl, y9⟩ := y9
  rw [y9]
  refine aw_st (st' := []) rfl ?_
  refine aw_aload_n (i := 0) dJ11_append_10 rfl rfl trivial ?_
  replace hq := cond_t hq
  obtain ⟨z6, hq⟩ := hq
  obtain ⟨fs9, ha9⟩ := clB1 z6
  replace hq := obind hq
  obtain ⟨q7, e8, hq⟩ := hq
  refine aw_callU (Y2 := YJ11_isLatin1) (As := []) (rest := []) (r := (RJ12, TJ12, 4)) (x := ⟨"java/lang/AbstractStringBuilder", "isLatin1", "()Z"⟩) kJ11_isLatin1 ha9 rfl rfl q562 q564 q563 q565 dJ11_append_11 rfl rfl (ct_J11_isLatin1 g hst N q4 x0 _ e8) (Nat.le_of_ble_eq_true rfl) (Nat.le_of_ble_eq_true rfl) (fun v9 h9 z9 y9 => ?_)
  obtain ⟨rfl, rfl⟩ := y9
  refine aw_st (st' := [.int q7.1]) rfl ?_
  refine aw_if_eq (tgt := 45) dJ11_append_14 (by decide) (fun c9 => ?_) (fun c9 => ?_)
  · rw [if_pos c9] at hq
    exact p_x_J11_append_45 g hst N   q7.2 x0 x1 _ hq
  · rw [if_neg c9] at hq
    refine aw_iload_n (i := 1) dJ11_append_17 rfl rfl ?_
    replace hq := obind hq
    obtain ⟨q25, e26, hq⟩ := hq
    refine aw_callS (Y2 := YJ18_canEncode) (As := [.int x1]) (rest := []) kJ18_canEncode q567 q568 dJ11_append_18 rfl rfl (ct_J18_canEncode g hst N q7.2 x1 _ e26) (Nat.le_of_ble_eq_true rfl) (Nat.le_of_ble_eq_true rfl) (fun v9 h9 z9 y9 => ?_)
    obtain ⟨rfl, rfl⟩ := y9
    refine aw_st (st' := [.int q25.1]) rfl ?_
    refine aw_if_eq (tgt := 45) dJ11_append_21 (by decide) (fun c27 => ?_) (fun c27 => ?_)
    · rw [if_pos c27] at hq
      exact p_x_J11_append_45 g hst N   q25.2 x0 x1 _ hq
    · rw [if_neg c27] at hq
      refine aw_aload_n (i := 0) dJ11_append_24 rfl rfl trivial ?_
      replace hq := obind hq
      obtain ⟨o28, e29, hq⟩ := hq
      refine xw_getR e29 fJ11_15 dJ11_append_25 ?_
      refine aw_aload_n (i := 0) dJ11_append_28 rfl rfl trivial ?_
      refine aw_dup dJ11_append_29 rfl ?_
      replace hq := obind hq
      obtain ⟨i30, e31, hq⟩ := hq
      refine xw_getI e31 fJ11_79 dJ11_append_30 ?_
      refine aw_dup_x1 dJ11_append_33 rfl rfl ?_
      refine aw_iconst (v := 1) dJ11_append_34 (by decide) ?_
      refine aw_iadd dJ11_append_35 ?_
      replace hq := obind hq
      obtain ⟨h32, e33, hq⟩ := hq
      refine xw_put e33 fJ11_79 tJ12_3 ⟨rfl, rfl⟩ dJ11_append_36 ?_
      refine aw_iload_n (i := 1) dJ11_append_39 rfl rfl ?_
      refine aw_i2b dJ11_append_40 ?_
      replace hq := obind hq
      obtain ⟨a34, e35, hq⟩ := hq
      subst e35
      replace hq := obind hq
      obtain ⟨h36, e37, hq⟩ := hq
      refine xw_bast e37 dJ11_append_41 ?_
      refine aw_goto (tgt := 75) dJ11_append_42 (by decide) ?_
      refine aw_aload_n (i := 0) dJ11_append_75 rfl rfl trivial ?_
      cases hq
      exact aw_areturn dJ11_append_76 rfl (Or.inl ⟨_, rfl⟩) trivial ⟨rfl, rfl⟩
abbrev YJ19_checkFromToIndex : YC := (yJ19_checkFromToIndex, cJ19_checkFromToIndex, 4, (some .int), [])
theorem kJ19_checkFromToIndex : aMk YJ19_checkFromToIndex 4 := ⟨rfl, q683, q141, ⟨by decide +kernel, by decide +kernel, by decide +kernel⟩, Nat.le_of_ble_eq_true rfl⟩
def x_J19_checkFromToIndex_14 (g : AG) (N : Nat) (h : AH) (x0 : Int32) (x1 : Int32) (x2 : Int32) (r3 : Option Nat) : Option (Int32 × AH) :=
  none
theorem p_x_J19_checkFromToIndex_14 (g : AG) (hst : (gL g).stackTraces = false) (N : Nat) : ∀ (h : AH) (x0 : Int32) (x1 : Int32) (x2 : Int32) (r3 : Option Nat) (q : (Int32 × AH)), x_J19_checkFromToIndex_14 g N h x0 x1 x2 r3 = some q → AW g YJ19_checkFromToIndex 1 (xI q) h [some (.int x0), some (.int x1), some (.int x2), some (va_rf r3)] 14 [] := by
  intro h x0 x1 x2 r3 q hq
  unfold x_J19_checkFromToIndex_14 at hq
  refine aw_aload_n (i := 3) dJ19_checkFromToIndex_14 rfl rfl (aIsR_rf _) ?_
  refine aw_iload_n (i := 0) dJ19_checkFromToIndex_15 rfl rfl ?_
  refine aw_iload_n (i := 1) dJ19_checkFromToIndex_16 rfl rfl ?_
  refine aw_iload_n (i := 2) dJ19_checkFromToIndex_17 rfl rfl ?_
  cases hq
def x_J19_checkFromToIndex (g : AG) (N : Nat) (h : AH) (x0 : Int32) (x1 : Int32) (x2 : Int32) (r3 : Option Nat) : Option (Int32 × AH) :=
  if x0 < 0 then (x_J19_checkFromToIndex_14 g N  h x0 x1 x2 r3) else (if x1 < x0 then (x_J19_checkFromToIndex_14 g N  h x0 x1 x2 r3) else (if x1 ≤ x2 then (some (x0, h)) else (x_J19_checkFromToIndex_14 g N  h x0 x1 x2 r3)))
theorem ct_J19_checkFromToIndex (g : AG) (hst : (gL g).stackTraces = false) (N : Nat) : ∀ (h : AH) (x0 : Int32) (x1 : Int32) (x2 : Int32) (r3 : Option Nat) (q : (Int32 × AH)), x_J19_checkFromToIndex g N h x0 x1 x2 r3 = some q → CT g YJ19_checkFromToIndex 1 [.int x0, .int x1, .int x2, va_rf r3] h (xI q) := by
  intro h x0 x1 x2 r3 q hq
  refine CT.of rfl (by decide +kernel) (loc := [some (.int x0), some (.int x1), some (.int x2), some (va_rf r3)]) (by first | exact Nat.le_of_ble_eq_true rfl | (simp only [lgl_rf, lgl_i, lgl_j, lgl_ref, lgl_nil]; exact Nat.le_of_ble_eq_true rfl)) (by first | rfl | (simp only [aent_rf, aent_i, aent_j, aent_ref, aent_nil]; rfl)) ?_
  unfold x_J19_checkFromToIndex at hq
  refine aw_iload_n (i := 0) dJ19_checkFromToIndex_0 rfl rfl ?_
  refine aw_if_lt (tgt := 14) dJ19_checkFromToIndex_1 (by decide) (fun c1 => ?_) (fun c1 => ?_)
  · rw [if_pos c1] at hq
    exact p_x_J19_checkFromToIndex_14 g hst N   h x0 x1 x2 r3 _ hq
  · rw [if_neg c1] at hq
    refine aw_iload_n (i := 0) dJ19_checkFromToIndex_4 rfl rfl ?_
    refine aw_iload_n (i := 1) dJ19_checkFromToIndex_5 rfl rfl ?_
    refine aw_icmp_gt (tgt := 14) dJ19_checkFromToIndex_6 (by decide) (fun c2 => ?_) (fun c2 => ?_)
    · rw [if_pos c2] at hq
      exact p_x_J19_checkFromToIndex_14 g hst N   h x0 x1 x2 r3 _ hq
    · rw [if_neg c2] at hq
      refine aw_iload_n (i := 1) dJ19_checkFromToIndex_9 rfl rfl ?_
      refine aw_iload_n (i := 2) dJ19_checkFromToIndex_10 rfl rfl ?_
      refine aw_icmp_le (tgt := 22) dJ19_checkFromToIndex_11 (by decide) (fun c3 => ?_) (fun c3 => ?_)
      · rw [if_pos c3] at hq
        refine aw_iload_n (i := 0) dJ19_checkFromToIndex_22 rfl rfl ?_
        cases hq
        exact aw_ireturn dJ19_checkFromToIndex_23 rfl rfl ⟨rfl, rfl⟩
      · rw [if_neg c3] at hq
        exact p_x_J19_checkFromToIndex_14 g hst N   h x0 x1 x2 r3 _ hq
abbrev YJ13_checkBoundsBeginEnd : YC := (yJ13_checkBoundsBeginEnd, cJ13_checkBoundsBeginEnd, 3, none, [])
theorem kJ13_checkBoundsBeginEnd : aMk YJ13_checkBoundsBeginEnd 3 := ⟨rfl, q680, q134, ⟨by decide +kernel, by decide +kernel, by decide +kernel⟩, Nat.le_of_ble_eq_true rfl⟩
def x_J13_checkBoundsBeginEnd (g : AG) (N : Nat) (h : AH) (x0 : Int32) (x1 : Int32) (x2 : Int32) : Option AH :=
  (vR (gV g 30)).bind fun o1 => (x_J19_checkFromToIndex g N h x0 x1 x2 o1).bind fun q3 => some q3.2
theorem ct_J13_checkBoundsBeginEnd (g : AG) (hst : (gL g).stackTraces = false) (N : Nat) : ∀ (h : AH) (x0 : Int32) (x1 : Int32) (x2 : Int32) (q : AH), x_J13_checkBoundsBeginEnd g N h x0 x1 x2 = some q → CT g YJ13_checkBoundsBeginEnd 2 [.int x0, .int x1, .int x2] h (xV q) := by
  intro h x0 x1 x2 q hq
  refine CT.of rfl (by decide +kernel) (loc := [some (.int x0), some (.int x1), some (.int x2)]) (by first | exact Nat.le_of_ble_eq_true rfl | (simp only [lgl_rf, lgl_i, lgl_j, lgl_ref, lgl_nil]; exact Nat.le_of_ble_eq_true rfl)) (by first | rfl | (simp only [aent_rf, aent_i, aent_j, aent_ref, aent_nil]; rfl)) ?_
  unfold x_J13_checkBoundsBeginEnd at hq
  refine aw_iload_n (i := 0) dJ13_checkBoundsBeginEnd_0 rfl rfl ?_
  refine aw_iload_n (i := 1) dJ13_checkBoundsBeginEnd_1 rfl rfl ?_
  refine aw_iload_n (i := 2) dJ13_checkBoundsBeginEnd_2 rfl rfl ?_
  replace hq := obind hq
  obtain ⟨o1, e2, hq⟩ := hq
  refine xw_gets (i := 30) (vR_eq e2) rfl q589 dJ13_checkBoundsBeginEnd_3 rfl ?_
  replace hq := obind hq
  obtain ⟨q3, e4, hq⟩ := hq
  refine aw_callS (Y2 := YJ19_checkFromToIndex) (As := [.int x0, .int x1, .int x2, va_rf o1]) (rest := []) kJ19_checkFromToIndex q681 q682 dJ13_checkBoundsBeginEnd_6 rfl rfl (ct_J19_checkFromToIndex g hst N h x0 x1 x2 o1 _ e4) (Nat.le_of_ble_eq_true rfl) (Nat.le_of_ble_eq_true rfl) (fun v9 h9 z9 y9 => ?_)
  obtain ⟨rfl, rfl⟩ := y9
  refine aw_st (st' := [.int q3.1]) rfl ?_
  refine aw_pop dJ13_checkBoundsBeginEnd_9 rfl ?_
  cases hq
  exact aw_vret dJ13_checkBoundsBeginEnd_10 rfl ⟨rfl, rfl⟩
abbrev YJ14_checkBoundsBeginEnd : YC := (yJ14_checkBoundsBeginEnd, cJ14_checkBoundsBeginEnd, 3, none, [])
theorem kJ14_checkBoundsBeginEnd : aMk YJ14_checkBoundsBeginEnd 3 := ⟨rfl, q677, q135, ⟨by decide +kernel, by decide +kernel, by decide +kernel⟩, Nat.le_of_ble_eq_true rfl⟩
def x_J14_checkBoundsBeginEnd (g : AG) (N : Nat) (h : AH) (x0 : Int32) (x1 : Int32) (r2 : Option Nat) : Option AH :=
  (x_J14_length g N h r2).bind fun q1 => (x_J13_checkBoundsBeginEnd g N q1.2 x0 x1 q1.1).bind fun q3 => some q3
theorem ct_J14_checkBoundsBeginEnd (g : AG) (hst : (gL g).stackTraces = false) (N : Nat) : ∀ (h : AH) (x0 : Int32) (x1 : Int32) (r2 : Option Nat) (q : AH), x_J14_checkBoundsBeginEnd g N h x0 x1 r2 = some q → CT g YJ14_checkBoundsBeginEnd 3 [.int x0, .int x1, va_rf r2] h (xV q) := by
  intro h x0 x1 r2 q hq
  refine CT.of rfl (by decide +kernel) (loc := [some (.int x0), some (.int x1), some (va_rf r2)]) (by first | exact Nat.le_of_ble_eq_true rfl | (simp only [lgl_rf, lgl_i, lgl_j, lgl_ref, lgl_nil]; exact Nat.le_of_ble_eq_true rfl)) (by first | rfl | (simp only [aent_rf, aent_i, aent_j, aent_ref, aent_nil]; rfl)) ?_
  unfold x_J14_checkBoundsBeginEnd at hq
  refine aw_iload_n (i := 0) dJ14_checkBoundsBeginEnd_0 rfl rfl ?_
  refine aw_iload_n (i := 1) dJ14_checkBoundsBeginEnd_1 rfl rfl ?_
  refine aw_aload_n (i := 2) dJ14_checkBoundsBeginEnd_2 rfl rfl (aIsR_rf _) ?_
  replace hq := obind hq
  obtain ⟨q1, e2, hq⟩ := hq
  refine aw_callS (Y2 := YJ14_length) (As := [va_rf r2]) (rest := [.int x1, .int x0]) kJ14_length q583 q584 dJ14_checkBoundsBeginEnd_3 rfl rfl (ct_J14_length g hst N h r2 _ e2) (Nat.le_of_ble_eq_true rfl) (Nat.le_of_ble_eq_true rfl) (fun v9 h9 z9 y9 => ?_)
  obtain ⟨rfl, rfl⟩ := y9
  refine aw_st (st' := [.int q1.1, .int x1, .int x0]) rfl ?_
  replace hq := obind hq
  obtain ⟨q3, e4, hq⟩ := hq
  refine aw_callS (Y2 := YJ13_checkBoundsBeginEnd) (As := [.int x0, .int x1, .int q1.1]) (rest := []) kJ13_checkBoundsBeginEnd q678 q679 dJ14_checkBoundsBeginEnd_6 rfl rfl (ct_J13_checkBoundsBeginEnd g hst N q1.2 x0 x1 q1.1 _ e4) (Nat.le_of_ble_eq_true rfl) (Nat.le_of_ble_eq_true rfl) (fun v9 h9 z9 y9 => ?_)
  obtain ⟨rfl, y9⟩ := y9
  rw [y9]
  refine aw_st (st' := []) rfl ?_
  cases hq
  exact aw_vret dJ14_checkBoundsBeginEnd_9 rfl ⟨rfl, rfl⟩
abbrev YJ14_putCharsAt : YC := (yJ14_putCharsAt, cJ14_putCharsAt, 7, (some .int), [])
theorem kJ14_putCharsAt : aMk YJ14_putCharsAt 6 := ⟨rfl, q703, q135, ⟨by decide +kernel, by decide +kernel, by decide +kernel⟩, Nat.le_of_ble_eq_true rfl⟩
def x_J14_putCharsAt (g : AG) (N : Nat) (h : AH) (r0 : Option Nat) (x1 : Int32) (x2 : Int32) (x3 : Int32) (x4 : Int32) (x5 : Int32) : Option (Int32 × AH) :=
  (x_J14_checkBoundsBeginEnd g N h x1 (x1 + (4 : Int32)) r0).bind fun q1 => (x_J14_putChar g N q1 r0 x1 x2).bind fun q3 => (x_J14_putChar g N q3 r0 (x1 + 1) x3).bind fun q5 => (x_J14_putChar g N q5 r0 ((x1 + 1) + 1) x4).bind fun q7 => (x_J14_putChar g N q7 r0 (((x1 + 1) + 1) + 1) x5).bind fun q9 => none
theorem ct_J14_putCharsAt (g : AG) (hst : (gL g).stackTraces = false) (N : Nat) : ∀ (h : AH) (r0 : Option Nat) (x1 : Int32) (x2 : Int32) (x3 : Int32) (x4 : Int32) (x5 : Int32) (q : (Int32 × AH)), x_J14_putCharsAt g N h r0 x1 x2 x3 x4 x5 = some q → CT g YJ14_putCharsAt 4 [va_rf r0, .int x1, .int x2, .int x3, .int x4, .int x5] h (xI q) := by
  intro h r0 x1 x2 x3 x4 x5 q hq
  refine CT.of rfl (by decide +kernel) (loc := [some (va_rf r0), some (.int x1), some (.int x2), some (.int x3), some (.int x4), some (.int x5), none]) (by first | exact Nat.le_of_ble_eq_true rfl | (simp only [lgl_rf, lgl_i, lgl_j, lgl_ref, lgl_nil]; exact Nat.le_of_ble_eq_true rfl)) (by first | rfl | (simp only [aent_rf, aent_i, aent_j, aent_ref, aent_nil]; rfl)) ?_
  unfold x_J14_putCharsAt at hq
  refine aw_iload_n (i := 1) dJ14_putCharsAt_0 rfl rfl ?_
  refine aw_iconst (v := 4) dJ14_putCharsAt_1 (by decide) ?_
  refine aw_iadd dJ14_putCharsAt_2 ?_
  refine aw_istore (loc' := [some (va_rf r0), some (.int x1), some (.int x2), some (.int x3), some (.int x4), some (.int x5), some (.int (x1 + (4 : Int32)))]) dJ14_putCharsAt_3 (Nat.le_of_ble_eq_true rfl) rfl ?_
  refine aw_iload_n (i := 1) dJ14_putCharsAt_5 rfl rfl ?_
  refine aw_iload dJ14_putCharsAt_6 rfl ?_
  refine aw_aload_n (i := 0) dJ14_putCharsAt_8 rfl rfl (aIsR_rf _) ?_
  replace hq := obind hq
  obtain ⟨q1, e2, hq⟩ := hq
  refine aw_callS (Y2 := YJ14_checkBoundsBeginEnd) (As := [.int x1, .int (x1 + (4 : Int32)), va_rf r0]) (rest := []) kJ14_checkBoundsBeginEnd q675 q676 dJ14_putCharsAt_9 rfl rfl (ct_J14_checkBoundsBeginEnd g hst N h x1 (x1 + (4 : Int32)) r0 _ e2) (Nat.le_of_ble_eq_true rfl) (Nat.le_of_ble_eq_true rfl) (fun v9 h9 z9 y9 => ?_)
  obtain ⟨rfl, y9⟩ := y9
  rw [y9]
  refine aw_st (st' := []) rfl ?_
  refine aw_aload_n (i := 0) dJ14_putCharsAt_12 rfl rfl (aIsR_rf _) ?_
  refine aw_iload_n (i := 1) dJ14_putCharsAt_13 rfl rfl ?_
  refine aw_iinc (v := x1 + 1) (loc' := [some (va_rf r0), some (.int (x1 + 1)), some (.int x2), some (.int x3), some (.int x4), some (.int x5), some (.int (x1 + (4 : Int32)))]) dJ14_putCharsAt_14 rfl rfl (Nat.le_of_ble_eq_true rfl) (aset1_rf rfl) ?_
  refine aw_iload_n (i := 2) dJ14_putCharsAt_17 rfl rfl ?_
  replace hq := obind hq
  obtain ⟨q3, e4, hq⟩ := hq
  refine aw_callS (Y2 := YJ14_putChar) (As := [va_rf r0, .int x1, .int x2]) (rest := []) kJ14_putChar q594 q595 dJ14_putCharsAt_18 rfl rfl (ct_J14_putChar g hst N q1 r0 x1 x2 _ e4) (Nat.le_of_ble_eq_true rfl) (Nat.le_of_ble_eq_true rfl) (fun v9 h9 z9 y9 => ?_)
  obtain ⟨rfl, y9⟩ := y9
  rw [y9]
  refine aw_st (st' := []) rfl ?_
  refine aw_aload_n (i := 0) dJ14_putCharsAt_21 rfl rfl (aIsR_rf _) ?_
  refine aw_iload_n (i := 1) dJ14_putCharsAt_22 rfl rfl ?_
  refine aw_iinc (v := (x1 + 1) + 1) (loc' := [some (va_rf r0), some (.int ((x1 + 1) + 1)), some (.int x2), some (.int x3), some (.int x4), some (.int x5), some (.int (x1 + (4 : Int32)))]) dJ14_putCharsAt_23 rfl rfl (Nat.le_of_ble_eq_true rfl) (aset1_rf rfl) ?_
  refine aw_iload_n (i := 3) dJ14_putCharsAt_26 rfl rfl ?_
  replace hq := obind hq
  obtain ⟨q5, e6, hq⟩ := hq
  refine aw_callS (Y2 := YJ14_putChar) (As := [va_rf r0, .int (x1 + 1), .int x3]) (rest := []) kJ14_putChar q594 q595 dJ14_putCharsAt_27 rfl rfl (ct_J14_putChar g hst N q3 r0 (x1 + 1) x3 _ e6) (Nat.le_of_ble_eq_true rfl) (Nat.le_of_ble_eq_true rfl) (fun v9 h9 z9 y9 => ?_)
  obtain ⟨rfl, y9⟩ := y9
  rw [y9]
  refine aw_st (st' := []) rfl ?_
  refine aw_aload_n (i := 0) dJ14_putCharsAt_30 rfl rfl (aIsR_rf _) ?_
  refine aw_iload_n (i := 1) dJ14_putCharsAt_31 rfl rfl ?_
  refine aw_iinc (v := ((x1 + 1) + 1) + 1) (loc' := [some (va_rf r0), some (.int (((x1 + 1) + 1) + 1)), some (.int x2), some (.int x3), some (.int x4), some (.int x5), some (.int (x1 + (4 : Int32)))]) dJ14_putCharsAt_32 rfl rfl (Nat.le_of_ble_eq_true rfl) (aset1_rf rfl) ?_
  refine aw_iload dJ14_putCharsAt_35 rfl ?_
  replace hq := obind hq
  obtain ⟨q7, e8, hq⟩ := hq
  refine aw_callS (Y2 := YJ14_putChar) (As := [va_rf r0, .int ((x1 + 1) + 1), .int x4]) (rest := []) kJ14_putChar q594 q595 dJ14_putCharsAt_37 rfl rfl (ct_J14_putChar g hst N q5 r0 ((x1 + 1) + 1) x4 _ e8) (Nat.le_of_ble_eq_true rfl) (Nat.le_of_ble_eq_true rfl) (fun v9 h9 z9 y9 => ?_)
  obtain ⟨rfl, y9⟩ := y9
  rw [y9]
  refine aw_st (st' := []) rfl ?_
  refine aw_aload_n (i := 0) dJ14_putCharsAt_40 rfl rfl (aIsR_rf _) ?_
  refine aw_iload_n (i := 1) dJ14_putCharsAt_41 rfl rfl ?_
  refine aw_iinc (v := (((x1 + 1) + 1) + 1) + 1) (loc' := [some (va_rf r0), some (.int ((((x1 + 1) + 1) + 1) + 1)), some (.int x2), some (.int x3), some (.int x4), some (.int x5), some (.int (x1 + (4 : Int32)))]) dJ14_putCharsAt_42 rfl rfl (Nat.le_of_ble_eq_true rfl) (aset1_rf rfl) ?_
  refine aw_iload dJ14_putCharsAt_45 rfl ?_
  replace hq := obind hq
  obtain ⟨q9, e10, hq⟩ := hq
  refine aw_callS (Y2 := YJ14_putChar) (As := [va_rf r0, .int (((x1 + 1) + 1) + 1), .int x5]) (rest := []) kJ14_putChar q594 q595 dJ14_putCharsAt_47 rfl rfl (ct_J14_putChar g hst N q7 r0 (((x1 + 1) + 1) + 1) x5 _ e10) (Nat.le_of_ble_eq_true rfl) (Nat.le_of_ble_eq_true rfl) (fun v9 h9 z9 y9 => ?_)
  obtain ⟨rfl, y9⟩ := y9
  rw [y9]
  refine aw_st (st' := []) rfl ?_
  cases hq
abbrev YJ11_appendNull : YC := (yJ11_appendNull, cJ11_appendNull, 3, (some (.object "java/lang/AbstractStringBuilder")), [])
theorem kJ11_appendNull : aMk YJ11_appendNull 0 := ⟨rfl, q700, q132, ⟨by decide +kernel, by decide +kernel, by decide +kernel⟩, Nat.le_of_ble_eq_true rfl⟩
def x_J11_appendNull_76 (g : AG) (N : Nat) (h : AH) (x0 : Nat) (x1 : Int32) (r2 : Option Nat) : Option (Option Nat × AH) :=
  (wrV g h x0 [(16, 3)] (.int x1)).bind fun h16 => some ((some x0), h16)
theorem p_x_J11_appendNull_76 (g : AG) (hst : (gL g).stackTraces = false) (N : Nat) : ∀ (h : AH) (x0 : Nat) (x1 : Int32) (r2 : Option Nat) (q : (Option Nat × AH)), x_J11_appendNull_76 g N h x0 x1 r2 = some q → AW g YJ11_appendNull 6 (xR q) h [some (.ref x0), some (.int x1), some (va_rf r2)] 76 [] := by
  intro h x0 x1 r2 q hq
  unfold x_J11_appendNull_76 at hq
  refine aw_aload_n (i := 0) dJ11_appendNull_76 rfl rfl trivial ?_
  refine aw_iload_n (i := 1) dJ11_appendNull_77 rfl rfl ?_
  replace hq := obind hq
  obtain ⟨h16, e17, hq⟩ := hq
  refine xw_put e17 fJ11_79 tJ12_3 ⟨rfl, rfl⟩ dJ11_appendNull_78 ?_
  refine aw_aload_n (i := 0) dJ11_appendNull_81 rfl rfl trivial ?_
  cases hq
  exact aw_areturn dJ11_appendNull_82 rfl (Or.inl ⟨_, rfl⟩) trivial ⟨rfl, rfl⟩
def x_J11_appendNull (g : AG) (N : Nat) (h : AH) (x0 : Nat) : Option (Option Nat × AH) :=
  (rdI h x0 [(16, 3)]).bind fun i1 => bif clB h x0 [16] then ((x_J11_ensureCapacityInternal g N h x0 (i1 + (4 : Int32))).bind fun q4 => (rdI q4 x0 [(16, 3)]).bind fun i6 => (rdR q4 x0 [(16, 0)]).bind fun o8 => bif clB q4 x0 [16] then ((x_J11_isLatin1 g N q4 x0).bind fun q11 => if q11.1 = 0 then ((x_J14_putCharsAt g N q11.2 o8 i6 (110 : Int32) (117 : Int32) (108 : Int32) (108 : Int32)).bind fun q14 => x_J11_appendNull_76 g N  q14.2 x0 q14.1 o8) else ((o8).bind fun a18 => (wrA g q11.2 a18 3 i6 (.int (110 : Int32).toInt8.toInt32)).bind fun h20 => (wrA g h20 a18 3 (i6 + 1) (.int (117 : Int32).toInt8.toInt32)).bind fun h22 => (wrA g h22 a18 3 ((i6 + 1) + 1) (.int (108 : Int32).toInt8.toInt32)).bind fun h24 => (wrA g h24 a18 3 (((i6 + 1) + 1) + 1) (.int (108 : Int32).toInt8.toInt32)).bind fun h26 => x_J11_appendNull_76 g N  h26 x0 ((((i6 + 1) + 1) + 1) + 1) (some a18))) else none) else none
theorem ct_J11_appendNull (g : AG) (hst : (gL g).stackTraces = false) (N : Nat) : ∀ (h : AH) (x0 : Nat) (q : (Option Nat × AH)), x_J11_appendNull g N h x0 = some q → CT g YJ11_appendNull 6 [.ref x0] h (xR q) := by
  intro h x0 q hq
  refine CT.of rfl (by decide +kernel) (loc := [some (.ref x0), none, none]) (by first | exact Nat.le_of_ble_eq_true rfl | (simp only [lgl_rf, lgl_i, lgl_j, lgl_ref, lgl_nil]; exact Nat.le_of_ble_eq_true rfl)) (by first | rfl | (simp only [aent_rf, aent_i, aent_j, aent_ref, aent_nil]; rfl)) ?_
  unfold x_J11_appendNull at hq
  refine aw_aload_n (i := 0) dJ11_appendNull_0 rfl rfl trivial ?_
  refine aw_aload_n (i := 0) dJ11_appendNull_1 rfl rfl trivial ?_
  replace hq := obind hq
  obtain ⟨i1, e2, hq⟩ := hq
  refine xw_getI e2 fJ11_79 dJ11_appendNull_2 ?_
  refine aw_iconst (v := 4) dJ11_appendNull_5 (by decide) ?_
  refine aw_iadd dJ11_appendNull_6 ?_
  replace hq := cond_t hq
  obtain ⟨z3, hq⟩ := hq
  obtain ⟨fs9, ha9⟩ := clB1 z3
  replace hq := obind hq
  obtain ⟨q4, e5, hq⟩ := hq
  refine aw_callP (Y2 := YJ11_ensureCapacityInternal) (As := [.int (i1 + (4 : Int32))]) (rest := []) (r := (RJ12, TJ12, 4)) kJ11_ensureCapacityInternal ha9 rfl q527 q2772 q529 q483 q528 qSBsel rfl dJ11_appendNull_7 rfl rfl (ct_J11_ensureCapacityInternal g hst N h x0 (i1 + (4 : Int32)) _ e5) (Nat.le_of_ble_eq_true rfl) (Nat.le_of_ble_eq_true rfl) (fun v9 h9 z9 y9 => ?_)
  obtain ⟨rfl, y9⟩ := y9
  rw [y9]
  refine aw_st (st' := []) rfl ?_
  refine aw_aload_n (i := 0) dJ11_appendNull_10 rfl rfl trivial ?_
  replace hq := obind hq
  obtain ⟨i6, e7, hq⟩ := hq
  refine xw_getI e7 fJ11_79 dJ11_appendNull_11 ?_
  refine aw_istore_n (i := 1) (loc' := [some (.ref x0), some (.int i6), none]) dJ11_appendNull_14 rfl (Nat.le_of_ble_eq_true rfl) rfl ?_
  refine aw_aload_n (i := 0) dJ11_appendNull_15 rfl rfl trivial ?_
  replace hq := obind hq
  obtain ⟨o8, e9, hq⟩ := hq
  refine xw_getR e9 fJ11_15 dJ11_appendNull_16 ?_
  refine aw_astore_n (i := 2) (loc' := [some (.ref x0), some (.int i6), some (va_rf o8)]) dJ11_appendNull_19 rfl (Nat.le_of_ble_eq_true rfl) (aIsR_rf _) rfl ?_
  refine aw_aload_n (i := 0) dJ11_appendNull_20 rfl rfl trivial ?_
  replace hq := cond_t hq
  obtain ⟨z10, hq⟩ := hq
  obtain ⟨fs9, ha9⟩ := clB1 z10
  replace hq := obind hq
  obtain ⟨q11, e12, hq⟩ := hq
  refine aw_callU (Y2 := YJ11_isLatin1) (As := []) (rest := []) (r := (RJ12, TJ12, 4)) (x := ⟨"java/lang/AbstractStringBuilder", "isLatin1", "()Z"⟩) kJ11_isLatin1 ha9 rfl rfl q562 q564 q563 q565 dJ11_appendNull_21 rfl rfl (ct_J11_isLatin1 g hst N q4 x0 _ e12) (Nat.le_of_ble_eq_true rfl) (Nat.le_of_ble_eq_true rfl) (fun v9 h9 z9 y9 => ?_)
  obtain ⟨rfl, rfl⟩ := y9
  refine aw_st (st' := [.int q11.1]) rfl ?_
  refine aw_if_eq (tgt := 62) dJ11_appendNull_24 (by decide) (fun c13 => ?_) (fun c13 => ?_)
  · rw [if_pos c13] at hq
    refine aw_aload_n (i := 2) dJ11_appendNull_62 rfl rfl (aIsR_rf _) ?_
    refine aw_iload_n (i := 1) dJ11_appendNull_63 rfl rfl ?_
    refine aw_bipush (v := 110) dJ11_appendNull_64 (by decide) ?_
    refine aw_bipush (v := 117) dJ11_appendNull_66 (by decide) ?_
    refine aw_bipush (v := 108) dJ11_appendNull_68 (by decide) ?_
    refine aw_bipush (v := 108) dJ11_appendNull_70 (by decide) ?_
    replace hq := obind hq
    obtain ⟨q14, e15, hq⟩ := hq
    refine aw_callS (Y2 := YJ14_putCharsAt) (As := [va_rf o8, .int i6, .int (110 : Int32), .int (117 : Int32), .int (108 : Int32), .int (108 : Int32)]) (rest := []) kJ14_putCharsAt q701 q702 dJ11_appendNull_72 rfl rfl (ct_J14_putCharsAt g hst N q11.2 o8 i6 (110 : Int32) (117 : Int32) (108 : Int32) (108 : Int32) _ e15) (Nat.le_of_ble_eq_true rfl) (Nat.le_of_ble_eq_true rfl) (fun v9 h9 z9 y9 => ?_)
    obtain ⟨rfl, rfl⟩ := y9
    refine aw_st (st' := [.int q14.1]) rfl ?_
    refine aw_istore_n (i := 1) (loc' := [some (.ref x0), some (.int q14.1), some (va_rf o8)]) dJ11_appendNull_75 rfl (Nat.le_of_ble_eq_true rfl) rfl ?_
    exact p_x_J11_appendNull_76 g hst N   q14.2 x0 q14.1 o8 _ hq
  · rw [if_neg c13] at hq
    refine aw_aload_n (i := 2) dJ11_appendNull_27 rfl rfl (aIsR_rf _) ?_
    refine aw_iload_n (i := 1) dJ11_appendNull_28 rfl rfl ?_
    refine aw_iinc (v := i6 + 1) (loc' := [some (.ref x0), some (.int (i6 + 1)), some (va_rf o8)]) dJ11_appendNull_29 rfl rfl (Nat.le_of_ble_eq_true rfl) rfl ?_
    refine aw_bipush (v := 110) dJ11_appendNull_32 (by decide) ?_
    replace hq := obind hq
    obtain ⟨a18, e19, hq⟩ := hq
    subst e19
    replace hq := obind hq
    obtain ⟨h20, e21, hq⟩ := hq
    refine xw_bast e21 dJ11_appendNull_34 ?_
    refine aw_aload_n (i := 2) dJ11_appendNull_35 rfl rfl trivial ?_
    refine aw_iload_n (i := 1) dJ11_appendNull_36 rfl rfl ?_
    refine aw_iinc (v := (i6 + 1) + 1) (loc' := [some (.ref x0), some (.int ((i6 + 1) + 1)), some (.ref a18)]) dJ11_appendNull_37 rfl rfl (Nat.le_of_ble_eq_true rfl) rfl ?_
    refine aw_bipush (v := 117) dJ11_appendNull_40 (by decide) ?_
    replace hq := obind hq
    obtain ⟨h22, e23, hq⟩ := hq
    refine xw_bast e23 dJ11_appendNull_42 ?_
    refine aw_aload_n (i := 2) dJ11_appendNull_43 rfl rfl trivial ?_
    refine aw_iload_n (i := 1) dJ11_appendNull_44 rfl rfl ?_
    refine aw_iinc (v := ((i6 + 1) + 1) + 1) (loc' := [some (.ref x0), some (.int (((i6 + 1) + 1) + 1)), some (.ref a18)]) dJ11_appendNull_45 rfl rfl (Nat.le_of_ble_eq_true rfl) rfl ?_
    refine aw_bipush (v := 108) dJ11_appendNull_48 (by decide) ?_
    replace hq := obind hq
    obtain ⟨h24, e25, hq⟩ := hq
    refine xw_bast e25 dJ11_appendNull_50 ?_
    refine aw_aload_n (i := 2) dJ11_appendNull_51 rfl rfl trivial ?_
    refine aw_iload_n (i := 1) dJ11_appendNull_52 rfl rfl ?_
    refine aw_iinc (v := (((i6 + 1) + 1) + 1) + 1) (loc' := [some (.ref x0), some (.int ((((i6 + 1) + 1) + 1) + 1)), some (.ref a18)]) dJ11_appendNull_53 rfl rfl (Nat.le_of_ble_eq_true rfl) rfl ?_
    refine aw_bipush (v := 108) dJ11_appendNull_56 (by decide) ?_
    replace hq := obind hq
    obtain ⟨h26, e27, hq⟩ := hq
    refine xw_bast e27 dJ11_appendNull_58 ?_
    refine aw_goto (tgt := 76) dJ11_appendNull_59 (by decide) ?_
    exact p_x_J11_appendNull_76 g hst N   h26 x0 ((((i6 + 1) + 1) + 1) + 1) (some a18) _ hq
abbrev YJ21_stringSize : YC := (yJ21_stringSize, cJ21_stringSize, 4, (some .int), [])
theorem kJ21_stringSize : aMk YJ21_stringSize 1 := ⟨rfl, q664, q143, ⟨by decide +kernel, by decide +kernel, by decide +kernel⟩, Nat.le_of_ble_eq_true rfl⟩
def x_J21_stringSize_16 (g : AG) (N : Nat) (K42 : AH → Int32 → Int32 → Int32 → Int32 → Option (Int32 × AH)) (K27 : AH → Int32 → Int32 → Int32 → Int32 → Option (Int32 × AH)) : Nat → AH → Int32 → Int32 → Int32 → Int32 → Option (Int32 × AH)
  | 0, _, _, _, _, _ => none
  | n9 + 1, h, x0, x1, x2, x3 =>
  if (10 : Int32) ≤ x3 then (K42 h x0 x1 x2 x3) else (if x0 ≤ x2 then (x_J21_stringSize_16 g N K42 K27 n9 h x0 x1 ((10 : Int32) * x2) (x3 + 1)) else (K27 h x0 x1 x2 x3))
theorem p_x_J21_stringSize_16 (g : AG) (hst : (gL g).stackTraces = false) (N : Nat) (K42 : AH → Int32 → Int32 → Int32 → Int32 → Option (Int32 × AH)) (K27 : AH → Int32 → Int32 → Int32 → Int32 → Option (Int32 × AH)) (hK42 : ∀ (h : AH) (x0 : Int32) (x1 : Int32) (x2 : Int32) (x3 : Int32) (q : (Int32 × AH)), K42 h x0 x1 x2 x3 = some q → AW g YJ21_stringSize 1 (xI q) h [some (.int x0), some (.int x1), some (.int x2), some (.int x3)] 42 []) (hK27 : ∀ (h : AH) (x0 : Int32) (x1 : Int32) (x2 : Int32) (x3 : Int32) (q : (Int32 × AH)), K27 h x0 x1 x2 x3 = some q → AW g YJ21_stringSize 1 (xI q) h [some (.int x0), some (.int x1), some (.int x2), some (.int x3)] 27 []) : ∀ (n9 : Nat) (h : AH) (x0 : Int32) (x1 : Int32) (x2 : Int32) (x3 : Int32) (q : (Int32 × AH)), x_J21_stringSize_16 g N K42 K27 n9 h x0 x1 x2 x3 = some q → AW g YJ21_stringSize 1 (xI q) h [some (.int x0), some (.int x1), some (.int x2), some (.int x3)] 16 [] := by
  intro n9
  induction n9 with
  | zero =>
    intro h x0 x1 x2 x3 q hq
    cases hq
  | succ n9 ih =>
    intro h x0 x1 x2 x3 q hq
    rw [x_J21_stringSize_16] at hq
    refine aw_iload_n (i := 3) dJ21_stringSize_16 rfl rfl ?_
    refine aw_bipush (v := 10) dJ21_stringSize_17 (by decide) ?_
    refine aw_icmp_ge (tgt := 42) dJ21_stringSize_19 (by decide) (fun c2 => ?_) (fun c2 => ?_)
    · rw [if_pos c2] at hq
      exact hK42 h x0 x1 x2 x3 _ hq
    · rw [if_neg c2] at hq
      refine aw_iload_n (i := 0) dJ21_stringSize_22 rfl rfl ?_
      refine aw_iload_n (i := 2) dJ21_stringSize_23 rfl rfl ?_
      refine aw_icmp_le (tgt := 31) dJ21_stringSize_24 (by decide) (fun c3 => ?_) (fun c3 => ?_)
      · rw [if_pos c3] at hq
        refine aw_bipush (v := 10) dJ21_stringSize_31 (by decide) ?_
        refine aw_iload_n (i := 2) dJ21_stringSize_33 rfl rfl ?_
        refine aw_imul dJ21_stringSize_34 ?_
        refine aw_istore_n (i := 2) (loc' := [some (.int x0), some (.int x1), some (.int ((10 : Int32) * x2)), some (.int x3)]) dJ21_stringSize_35 rfl (Nat.le_of_ble_eq_true rfl) rfl ?_
        refine aw_iinc (v := x3 + 1) (loc' := [some (.int x0), some (.int x1), some (.int ((10 : Int32) * x2)), some (.int (x3 + 1))]) dJ21_stringSize_36 rfl rfl (Nat.le_of_ble_eq_true rfl) rfl ?_
        refine aw_goto (tgt := 16) dJ21_stringSize_39 (by decide) ?_
        exact ih h x0 x1 ((10 : Int32) * x2) (x3 + 1) _ hq
      · rw [if_neg c3] at hq
        exact hK27 h x0 x1 x2 x3 _ hq
def x_J21_stringSize_11 (g : AG) (N : Nat) (h : AH) (x0 : Int32) (x1 : Int32) : Option (Int32 × AH) :=
  x_J21_stringSize_16 g N (fun h x0 x1 x2 x3 => some (((10 : Int32) + x1), h)) (fun h x0 x1 x2 x3 => some ((x3 + x1), h)) N h x0 x1 (-10 : Int32) (1 : Int32)
theorem p_x_J21_stringSize_11 (g : AG) (hst : (gL g).stackTraces = false) (N : Nat) : ∀ (h : AH) (x0 : Int32) (x1 : Int32) (q : (Int32 × AH)), x_J21_stringSize_11 g N h x0 x1 = some q → AW g YJ21_stringSize 1 (xI q) h [some (.int x0), some (.int x1), none, none] 11 [] := by
  intro h x0 x1 q hq
  unfold x_J21_stringSize_11 at hq
  refine aw_bipush (v := (-10)) dJ21_stringSize_11 (by decide) ?_
  refine aw_istore_n (i := 2) (loc' := [some (.int x0), some (.int x1), some (.int (-10 : Int32)), none]) dJ21_stringSize_13 rfl (Nat.le_of_ble_eq_true rfl) rfl ?_
  refine aw_iconst (v := 1) dJ21_stringSize_14 (by decide) ?_
  refine aw_istore_n (i := 3) (loc' := [some (.int x0), some (.int x1), some (.int (-10 : Int32)), some (.int (1 : Int32))]) dJ21_stringSize_15 rfl (Nat.le_of_ble_eq_true rfl) rfl ?_
  refine p_x_J21_stringSize_16 g hst N _ _ ?_ ?_ N h x0 x1 (-10 : Int32) (1 : Int32) _ hq
  · intro h x0 x1 x2 x3 q hq
    refine aw_bipush (v := 10) dJ21_stringSize_42 (by decide) ?_
    refine aw_iload_n (i := 1) dJ21_stringSize_44 rfl rfl ?_
    refine aw_iadd dJ21_stringSize_45 ?_
    cases hq
    exact aw_ireturn dJ21_stringSize_46 rfl rfl ⟨rfl, rfl⟩
  · intro h x0 x1 x2 x3 q hq
    refine aw_iload_n (i := 3) dJ21_stringSize_27 rfl rfl ?_
    refine aw_iload_n (i := 1) dJ21_stringSize_28 rfl rfl ?_
    refine aw_iadd dJ21_stringSize_29 ?_
    cases hq
    exact aw_ireturn dJ21_stringSize_30 rfl rfl ⟨rfl, rfl⟩
def x_J21_stringSize (g : AG) (N : Nat) (h : AH) (x0 : Int32) : Option (Int32 × AH) :=
  if x0 < 0 then (x_J21_stringSize_11 g N  h x0 (1 : Int32)) else (x_J21_stringSize_11 g N  h (-x0) (0 : Int32))
theorem ct_J21_stringSize (g : AG) (hst : (gL g).stackTraces = false) (N : Nat) : ∀ (h : AH) (x0 : Int32) (q : (Int32 × AH)), x_J21_stringSize g N h x0 = some q → CT g YJ21_stringSize 1 [.int x0] h (xI q) := by
  intro h x0 q hq
  refine CT.of rfl (by decide +kernel) (loc := [some (.int x0), none, none, none]) (by first | exact Nat.le_of_ble_eq_true rfl | (simp only [lgl_rf, lgl_i, lgl_j, lgl_ref, lgl_nil]; exact Nat.le_of_ble_eq_true rfl)) (by first | rfl | (simp only [aent_rf, aent_i, aent_j, aent_ref, aent_nil]; rfl)) ?_
  unfold x_J21_stringSize at hq
  refine aw_iconst (v := 1) dJ21_stringSize_0 (by decide) ?_
  refine aw_istore_n (i := 1) (loc' := [some (.int x0), some (.int (1 : Int32)), none, none]) dJ21_stringSize_1 rfl (Nat.le_of_ble_eq_true rfl) rfl ?_
  refine aw_iload_n (i := 0) dJ21_stringSize_2 rfl rfl ?_
  refine aw_if_lt (tgt := 11) dJ21_stringSize_3 (by decide) (fun c1 => ?_) (fun c1 => ?_)
  · rw [if_pos c1] at hq
    exact p_x_J21_stringSize_11 g hst N   h x0 (1 : Int32) _ hq
  · rw [if_neg c1] at hq
    refine aw_iconst (v := 0) dJ21_stringSize_6 (by decide) ?_
    refine aw_istore_n (i := 1) (loc' := [some (.int x0), some (.int (0 : Int32)), none, none]) dJ21_stringSize_7 rfl (Nat.le_of_ble_eq_true rfl) rfl ?_
    refine aw_iload_n (i := 0) dJ21_stringSize_8 rfl rfl ?_
    refine aw_ineg dJ21_stringSize_9 ?_
    refine aw_istore_n (i := 0) (loc' := [some (.int (-x0)), some (.int (0 : Int32)), none, none]) dJ21_stringSize_10 rfl (Nat.le_of_ble_eq_true rfl) rfl ?_
    exact p_x_J21_stringSize_11 g hst N   h (-x0) (0 : Int32) _ hq
abbrev YJ21_getChars : YC := (yJ21_getChars, cJ21_getChars, 7, (some .int), [])
theorem kJ21_getChars : aMk YJ21_getChars 3 := ⟨rfl, q667, q143, ⟨by decide +kernel, by decide +kernel, by decide +kernel⟩, Nat.le_of_ble_eq_true rfl⟩
def x_J21_getChars_22 (g : AG) (N : Nat) (h : AH) (x0 : Int32) (x1 : Int32) (r2 : Option Nat) (x5 : Int32) (x6 : Int32) : Option (Int32 × AH) :=
  if (-100 : Int32) < x0 then (none) else (if (100 : Int32) = 0 then none else (none))
theorem p_x_J21_getChars_22 (g : AG) (hst : (gL g).stackTraces = false) (N : Nat) : ∀ (h : AH) (x0 : Int32) (x1 : Int32) (r2 : Option Nat) (x5 : Int32) (x6 : Int32) (q : (Int32 × AH)), x_J21_getChars_22 g N h x0 x1 r2 x5 x6 = some q → AW g YJ21_getChars 1 (xI q) h [some (.int x0), some (.int x1), some (va_rf r2), none, none, some (.int x5), some (.int x6)] 22 [] := by
  intro h x0 x1 r2 x5 x6 q hq
  unfold x_J21_getChars_22 at hq
  refine aw_iload_n (i := 0) dJ21_getChars_22 rfl rfl ?_
  refine aw_bipush (v := (-100)) dJ21_getChars_23 (by decide) ?_
  refine aw_icmp_gt (tgt := 72) dJ21_getChars_25 (by decide) (fun c3 => ?_) (fun c3 => ?_)
  · rw [if_pos c3] at hq
    refine aw_aload_n (i := 2) dJ21_getChars_72 rfl rfl (aIsR_rf _) ?_
    refine aw_iinc (v := x5 + (-1)) (loc' := [some (.int x0), some (.int x1), some (va_rf r2), none, none, some (.int (x5 + (-1))), some (.int x6)]) dJ21_getChars_73 rfl rfl (Nat.le_of_ble_eq_true rfl) rfl ?_
    refine aw_iload dJ21_getChars_76 rfl ?_
    cases hq
  · rw [if_neg c3] at hq
    refine aw_iload_n (i := 0) dJ21_getChars_28 rfl rfl ?_
    refine aw_bipush (v := 100) dJ21_getChars_29 (by decide) ?_
    by_cases z4 : (100 : Int32) = 0
    · rw [if_pos z4] at hq
      cases hq
    rw [if_neg z4] at hq
    refine aw_idiv dJ21_getChars_31 z4 ?_
    refine aw_istore_n (i := 3) (loc' := [some (.int x0), some (.int x1), some (va_rf r2), some (.int (x0 / (100 : Int32))), none, some (.int x5), some (.int x6)]) dJ21_getChars_32 rfl (Nat.le_of_ble_eq_true rfl) (aset1_rf rfl) ?_
    refine aw_iload_n (i := 3) dJ21_getChars_33 rfl rfl ?_
    refine aw_bipush (v := 100) dJ21_getChars_34 (by decide) ?_
    refine aw_imul dJ21_getChars_36 ?_
    refine aw_iload_n (i := 0) dJ21_getChars_37 rfl rfl ?_
    refine aw_isub dJ21_getChars_38 ?_
    refine aw_istore (loc' := [some (.int x0), some (.int x1), some (va_rf r2), some (.int (x0 / (100 : Int32))), some (.int (((x0 / (100 : Int32)) * (100 : Int32)) - x0)), some (.int x5), some (.int x6)]) dJ21_getChars_39 (Nat.le_of_ble_eq_true rfl) rfl ?_
    refine aw_iload_n (i := 3) dJ21_getChars_41 rfl rfl ?_
    refine aw_istore_n (i := 0) (loc' := [some (.int (x0 / (100 : Int32))), some (.int x1), some (va_rf r2), some (.int (x0 / (100 : Int32))), some (.int (((x0 / (100 : Int32)) * (100 : Int32)) - x0)), some (.int x5), some (.int x6)]) dJ21_getChars_42 rfl (Nat.le_of_ble_eq_true rfl) rfl ?_
    refine aw_aload_n (i := 2) dJ21_getChars_43 rfl rfl (aIsR_rf _) ?_
    refine aw_iinc (v := x5 + (-1)) (loc' := [some (.int (x0 / (100 : Int32))), some (.int x1), some (va_rf r2), some (.int (x0 / (100 : Int32))), some (.int (((x0 / (100 : Int32)) * (100 : Int32)) - x0)), some (.int (x5 + (-1))), some (.int x6)]) dJ21_getChars_44 rfl rfl (Nat.le_of_ble_eq_true rfl) rfl ?_
    refine aw_iload dJ21_getChars_47 rfl ?_
    cases hq
def x_J21_getChars_12 (g : AG) (N : Nat) (h : AH) (x0 : Int32) (x1 : Int32) (r2 : Option Nat) (x5 : Int32) (s0 : Int32) : Option (Int32 × AH) :=
  if s0 = 0 then (x_J21_getChars_22 g N  h (-x0) x1 r2 x5 s0) else (x_J21_getChars_22 g N  h x0 x1 r2 x5 s0)
theorem p_x_J21_getChars_12 (g : AG) (hst : (gL g).stackTraces = false) (N : Nat) : ∀ (h : AH) (x0 : Int32) (x1 : Int32) (r2 : Option Nat) (x5 : Int32) (s0 : Int32) (q : (Int32 × AH)), x_J21_getChars_12 g N h x0 x1 r2 x5 s0 = some q → AW g YJ21_getChars 1 (xI q) h [some (.int x0), some (.int x1), some (va_rf r2), none, none, some (.int x5), none] 12 [.int s0] := by
  intro h x0 x1 r2 x5 s0 q hq
  unfold x_J21_getChars_12 at hq
  refine aw_istore (loc' := [some (.int x0), some (.int x1), some (va_rf r2), none, none, some (.int x5), some (.int s0)]) dJ21_getChars_12 (Nat.le_of_ble_eq_true rfl) rfl ?_
  refine aw_iload dJ21_getChars_14 rfl ?_
  refine aw_if_ne (tgt := 22) dJ21_getChars_16 (by decide) (fun c2 => ?_) (fun c2 => ?_)
  · rw [if_neg c2] at hq
    exact p_x_J21_getChars_22 g hst N   h x0 x1 r2 x5 s0 _ hq
  · rw [if_pos c2] at hq
    refine aw_iload_n (i := 0) dJ21_getChars_19 rfl rfl ?_
    refine aw_ineg dJ21_getChars_20 ?_
    refine aw_istore_n (i := 0) (loc' := [some (.int (-x0)), some (.int x1), some (va_rf r2), none, none, some (.int x5), some (.int s0)]) dJ21_getChars_21 rfl (Nat.le_of_ble_eq_true rfl) rfl ?_
    exact p_x_J21_getChars_22 g hst N   h (-x0) x1 r2 x5 s0 _ hq
def x_J21_getChars (g : AG) (N : Nat) (h : AH) (x0 : Int32) (x1 : Int32) (r2 : Option Nat) : Option (Int32 × AH) :=
  if 0 ≤ x0 then (x_J21_getChars_12 g N  h x0 x1 r2 x1 (0 : Int32)) else (x_J21_getChars_12 g N  h x0 x1 r2 x1 (1 : Int32))
theorem ct_J21_getChars (g : AG) (hst : (gL g).stackTraces = false) (N : Nat) : ∀ (h : AH) (x0 : Int32) (x1 : Int32) (r2 : Option Nat) (q : (Int32 × AH)), x_J21_getChars g N h x0 x1 r2 = some q → CT g YJ21_getChars 1 [.int x0, .int x1, va_rf r2] h (xI q) := by
  intro h x0 x1 r2 q hq
  refine CT.of rfl (by decide +kernel) (loc := [some (.int x0), some (.int x1), some (va_rf r2), none, none, none, none]) (by first | exact Nat.le_of_ble_eq_true rfl | (simp only [lgl_rf, lgl_i, lgl_j, lgl_ref, lgl_nil]; exact Nat.le_of_ble_eq_true rfl)) (by first | rfl | (simp only [aent_rf, aent_i, aent_j, aent_ref, aent_nil]; rfl)) ?_
  unfold x_J21_getChars at hq
  refine aw_iload_n (i := 1) dJ21_getChars_0 rfl rfl ?_
  refine aw_istore (loc' := [some (.int x0), some (.int x1), some (va_rf r2), none, none, some (.int x1), none]) dJ21_getChars_1 (Nat.le_of_ble_eq_true rfl) rfl ?_
  refine aw_iload_n (i := 0) dJ21_getChars_3 rfl rfl ?_
  refine aw_if_ge (tgt := 11) dJ21_getChars_4 (by decide) (fun c1 => ?_) (fun c1 => ?_)
  · rw [if_pos c1] at hq
    refine aw_iconst (v := 0) dJ21_getChars_11 (by decide) ?_
    exact p_x_J21_getChars_12 g hst N   h x0 x1 r2 x1 (0 : Int32) _ hq
  · rw [if_neg c1] at hq
    refine aw_iconst (v := 1) dJ21_getChars_7 (by decide) ?_
    refine aw_goto (tgt := 12) dJ21_getChars_8 (by decide) ?_
    exact p_x_J21_getChars_12 g hst N   h x0 x1 r2 x1 (1 : Int32) _ hq
abbrev YJ14_getChars_2 : YC := (yJ14_getChars_2, cJ14_getChars_2, 7, (some .int), [])
theorem kJ14_getChars_2 : aMk YJ14_getChars_2 3 := ⟨rfl, q686, q135, ⟨by decide +kernel, by decide +kernel, by decide +kernel⟩, Nat.le_of_ble_eq_true rfl⟩
def x_J14_getChars_2_22 (g : AG) (N : Nat) (h : AH) (x0 : Int32) (x1 : Int32) (r2 : Option Nat) (x5 : Int32) (x6 : Int32) : Option (Int32 × AH) :=
  if (-100 : Int32) < x0 then (none) else (if (100 : Int32) = 0 then none else (none))
theorem p_x_J14_getChars_2_22 (g : AG) (hst : (gL g).stackTraces = false) (N : Nat) : ∀ (h : AH) (x0 : Int32) (x1 : Int32) (r2 : Option Nat) (x5 : Int32) (x6 : Int32) (q : (Int32 × AH)), x_J14_getChars_2_22 g N h x0 x1 r2 x5 x6 = some q → AW g YJ14_getChars_2 1 (xI q) h [some (.int x0), some (.int x1), some (va_rf r2), none, none, some (.int x5), some (.int x6)] 22 [] := by
  intro h x0 x1 r2 x5 x6 q hq
  unfold x_J14_getChars_2_22 at hq
  refine aw_iload_n (i := 0) dJ14_getChars_2_22 rfl rfl ?_
  refine aw_bipush (v := (-100)) dJ14_getChars_2_23 (by decide) ?_
  refine aw_icmp_gt (tgt := 76) dJ14_getChars_2_25 (by decide) (fun c3 => ?_) (fun c3 => ?_)
  · rw [if_pos c3] at hq
    refine aw_aload_n (i := 2) dJ14_getChars_2_76 rfl rfl (aIsR_rf _) ?_
    refine aw_iinc (v := x5 + (-1)) (loc' := [some (.int x0), some (.int x1), some (va_rf r2), none, none, some (.int (x5 + (-1))), some (.int x6)]) dJ14_getChars_2_77 rfl rfl (Nat.le_of_ble_eq_true rfl) rfl ?_
    refine aw_iload dJ14_getChars_2_80 rfl ?_
    cases hq
  · rw [if_neg c3] at hq
    refine aw_iload_n (i := 0) dJ14_getChars_2_28 rfl rfl ?_
    refine aw_bipush (v := 100) dJ14_getChars_2_29 (by decide) ?_
    by_cases z4 : (100 : Int32) = 0
    · rw [if_pos z4] at hq
      cases hq
    rw [if_neg z4] at hq
    refine aw_idiv dJ14_getChars_2_31 z4 ?_
    refine aw_istore_n (i := 3) (loc' := [some (.int x0), some (.int x1), some (va_rf r2), some (.int (x0 / (100 : Int32))), none, some (.int x5), some (.int x6)]) dJ14_getChars_2_32 rfl (Nat.le_of_ble_eq_true rfl) (aset1_rf rfl) ?_
    refine aw_iload_n (i := 3) dJ14_getChars_2_33 rfl rfl ?_
    refine aw_bipush (v := 100) dJ14_getChars_2_34 (by decide) ?_
    refine aw_imul dJ14_getChars_2_36 ?_
    refine aw_iload_n (i := 0) dJ14_getChars_2_37 rfl rfl ?_
    refine aw_isub dJ14_getChars_2_38 ?_
    refine aw_istore (loc' := [some (.int x0), some (.int x1), some (va_rf r2), some (.int (x0 / (100 : Int32))), some (.int (((x0 / (100 : Int32)) * (100 : Int32)) - x0)), some (.int x5), some (.int x6)]) dJ14_getChars_2_39 (Nat.le_of_ble_eq_true rfl) rfl ?_
    refine aw_iload_n (i := 3) dJ14_getChars_2_41 rfl rfl ?_
    refine aw_istore_n (i := 0) (loc' := [some (.int (x0 / (100 : Int32))), some (.int x1), some (va_rf r2), some (.int (x0 / (100 : Int32))), some (.int (((x0 / (100 : Int32)) * (100 : Int32)) - x0)), some (.int x5), some (.int x6)]) dJ14_getChars_2_42 rfl (Nat.le_of_ble_eq_true rfl) rfl ?_
    refine aw_aload_n (i := 2) dJ14_getChars_2_43 rfl rfl (aIsR_rf _) ?_
    refine aw_iinc (v := x5 + (-1)) (loc' := [some (.int (x0 / (100 : Int32))), some (.int x1), some (va_rf r2), some (.int (x0 / (100 : Int32))), some (.int (((x0 / (100 : Int32)) * (100 : Int32)) - x0)), some (.int (x5 + (-1))), some (.int x6)]) dJ14_getChars_2_44 rfl rfl (Nat.le_of_ble_eq_true rfl) rfl ?_
    refine aw_iload dJ14_getChars_2_47 rfl ?_
    cases hq
def x_J14_getChars_2_12 (g : AG) (N : Nat) (h : AH) (x0 : Int32) (x1 : Int32) (r2 : Option Nat) (x5 : Int32) (s0 : Int32) : Option (Int32 × AH) :=
  if s0 = 0 then (x_J14_getChars_2_22 g N  h (-x0) x1 r2 x5 s0) else (x_J14_getChars_2_22 g N  h x0 x1 r2 x5 s0)
theorem p_x_J14_getChars_2_12 (g : AG) (hst : (gL g).stackTraces = false) (N : Nat) : ∀ (h : AH) (x0 : Int32) (x1 : Int32) (r2 : Option Nat) (x5 : Int32) (s0 : Int32) (q : (Int32 × AH)), x_J14_getChars_2_12 g N h x0 x1 r2 x5 s0 = some q → AW g YJ14_getChars_2 1 (xI q) h [some (.int x0), some (.int x1), some (va_rf r2), none, none, some (.int x5), none] 12 [.int s0] := by
  intro h x0 x1 r2 x5 s0 q hq
  unfold x_J14_getChars_2_12 at hq
  refine aw_istore (loc' := [some (.int x0), some (.int x1), some (va_rf r2), none, none, some (.int x5), some (.int s0)]) dJ14_getChars_2_12 (Nat.le_of_ble_eq_true rfl) rfl ?_
  refine aw_iload dJ14_getChars_2_14 rfl ?_
  refine aw_if_ne (tgt := 22) dJ14_getChars_2_16 (by decide) (fun c2 => ?_) (fun c2 => ?_)
  · rw [if_neg c2] at hq
    exact p_x_J14_getChars_2_22 g hst N   h x0 x1 r2 x5 s0 _ hq
  · rw [if_pos c2] at hq
    refine aw_iload_n (i := 0) dJ14_getChars_2_19 rfl rfl ?_
    refine aw_ineg dJ14_getChars_2_20 ?_
    refine aw_istore_n (i := 0) (loc' := [some (.int (-x0)), some (.int x1), some (va_rf r2), none, none, some (.int x5), some (.int s0)]) dJ14_getChars_2_21 rfl (Nat.le_of_ble_eq_true rfl) rfl ?_
    exact p_x_J14_getChars_2_22 g hst N   h (-x0) x1 r2 x5 s0 _ hq
def x_J14_getChars_2 (g : AG) (N : Nat) (h : AH) (x0 : Int32) (x1 : Int32) (r2 : Option Nat) : Option (Int32 × AH) :=
  if 0 ≤ x0 then (x_J14_getChars_2_12 g N  h x0 x1 r2 x1 (0 : Int32)) else (x_J14_getChars_2_12 g N  h x0 x1 r2 x1 (1 : Int32))
theorem ct_J14_getChars_2 (g : AG) (hst : (gL g).stackTraces = false) (N : Nat) : ∀ (h : AH) (x0 : Int32) (x1 : Int32) (r2 : Option Nat) (q : (Int32 × AH)), x_J14_getChars_2 g N h x0 x1 r2 = some q → CT g YJ14_getChars_2 1 [.int x0, .int x1, va_rf r2] h (xI q) := by
  intro h x0 x1 r2 q hq
  refine CT.of rfl (by decide +kernel) (loc := [some (.int x0), some (.int x1), some (va_rf r2), none, none, none, none]) (by first | exact Nat.le_of_ble_eq_true rfl | (simp only [lgl_rf, lgl_i, lgl_j, lgl_ref, lgl_nil]; exact Nat.le_of_ble_eq_true rfl)) (by first | rfl | (simp only [aent_rf, aent_i, aent_j, aent_ref, aent_nil]; rfl)) ?_
  unfold x_J14_getChars_2 at hq
  refine aw_iload_n (i := 1) dJ14_getChars_2_0 rfl rfl ?_
  refine aw_istore (loc' := [some (.int x0), some (.int x1), some (va_rf r2), none, none, some (.int x1), none]) dJ14_getChars_2_1 (Nat.le_of_ble_eq_true rfl) rfl ?_
  refine aw_iload_n (i := 0) dJ14_getChars_2_3 rfl rfl ?_
  refine aw_if_ge (tgt := 11) dJ14_getChars_2_4 (by decide) (fun c1 => ?_) (fun c1 => ?_)
  · rw [if_pos c1] at hq
    refine aw_iconst (v := 0) dJ14_getChars_2_11 (by decide) ?_
    exact p_x_J14_getChars_2_12 g hst N   h x0 x1 r2 x1 (0 : Int32) _ hq
  · rw [if_neg c1] at hq
    refine aw_iconst (v := 1) dJ14_getChars_2_7 (by decide) ?_
    refine aw_goto (tgt := 12) dJ14_getChars_2_8 (by decide) ?_
    exact p_x_J14_getChars_2_12 g hst N   h x0 x1 r2 x1 (1 : Int32) _ hq
abbrev YJ14_getChars : YC := (yJ14_getChars, cJ14_getChars, 5, (some .int), [])
theorem kJ14_getChars : aMk YJ14_getChars 4 := ⟨rfl, q674, q135, ⟨by decide +kernel, by decide +kernel, by decide +kernel⟩, Nat.le_of_ble_eq_true rfl⟩
def x_J14_getChars (g : AG) (N : Nat) (h : AH) (x0 : Int32) (x1 : Int32) (x2 : Int32) (r3 : Option Nat) : Option (Int32 × AH) :=
  (x_J14_checkBoundsBeginEnd g N h x1 x2 r3).bind fun q1 => (x_J14_getChars_2 g N q1 x0 x2 r3).bind fun q3 => none
theorem ct_J14_getChars (g : AG) (hst : (gL g).stackTraces = false) (N : Nat) : ∀ (h : AH) (x0 : Int32) (x1 : Int32) (x2 : Int32) (r3 : Option Nat) (q : (Int32 × AH)), x_J14_getChars g N h x0 x1 x2 r3 = some q → CT g YJ14_getChars 4 [.int x0, .int x1, .int x2, va_rf r3] h (xI q) := by
  intro h x0 x1 x2 r3 q hq
  refine CT.of rfl (by decide +kernel) (loc := [some (.int x0), some (.int x1), some (.int x2), some (va_rf r3), none]) (by first | exact Nat.le_of_ble_eq_true rfl | (simp only [lgl_rf, lgl_i, lgl_j, lgl_ref, lgl_nil]; exact Nat.le_of_ble_eq_true rfl)) (by first | rfl | (simp only [aent_rf, aent_i, aent_j, aent_ref, aent_nil]; rfl)) ?_
  unfold x_J14_getChars at hq
  refine aw_iload_n (i := 1) dJ14_getChars_0 rfl rfl ?_
  refine aw_iload_n (i := 2) dJ14_getChars_1 rfl rfl ?_
  refine aw_aload_n (i := 3) dJ14_getChars_2 rfl rfl (aIsR_rf _) ?_
  replace hq := obind hq
  obtain ⟨q1, e2, hq⟩ := hq
  refine aw_callS (Y2 := YJ14_checkBoundsBeginEnd) (As := [.int x1, .int x2, va_rf r3]) (rest := []) kJ14_checkBoundsBeginEnd q675 q676 dJ14_getChars_3 rfl rfl (ct_J14_checkBoundsBeginEnd g hst N h x1 x2 r3 _ e2) (Nat.le_of_ble_eq_true rfl) (Nat.le_of_ble_eq_true rfl) (fun v9 h9 z9 y9 => ?_)
  obtain ⟨rfl, y9⟩ := y9
  rw [y9]
  refine aw_st (st' := []) rfl ?_
  refine aw_iload_n (i := 0) dJ14_getChars_6 rfl rfl ?_
  refine aw_iload_n (i := 2) dJ14_getChars_7 rfl rfl ?_
  refine aw_aload_n (i := 3) dJ14_getChars_8 rfl rfl (aIsR_rf _) ?_
  replace hq := obind hq
  obtain ⟨q3, e4, hq⟩ := hq
  refine aw_callS (Y2 := YJ14_getChars_2) (As := [.int x0, .int x2, va_rf r3]) (rest := []) kJ14_getChars_2 q684 q685 dJ14_getChars_9 rfl rfl (ct_J14_getChars_2 g hst N q1 x0 x2 r3 _ e4) (Nat.le_of_ble_eq_true rfl) (Nat.le_of_ble_eq_true rfl) (fun v9 h9 z9 y9 => ?_)
  obtain ⟨rfl, rfl⟩ := y9
  refine aw_st (st' := [.int q3.1]) rfl ?_
  refine aw_istore (loc' := [some (.int x0), some (.int x1), some (.int x2), some (va_rf r3), some (.int q3.1)]) dJ14_getChars_12 (Nat.le_of_ble_eq_true rfl) (aset1_rf rfl) ?_
  cases hq
