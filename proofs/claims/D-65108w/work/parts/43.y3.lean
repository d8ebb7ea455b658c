/-! THE COMPONENT AND THE JDK as functions of the heap, and their contracts: printed by wip gen/dec2.py -/
set_option maxRecDepth 100000
abbrev YJ14_compress : YC := (yJ14_compress, cJ14_compress, 6, (some (.array .byte)), [])
theorem kJ14_compress : aMk YJ14_compress 3 := ⟨rfl, q737, q135, ⟨by decide +kernel, by decide +kernel, by decide +kernel⟩, Nat.le_of_ble_eq_true rfl⟩
def x_J14_compress (g : AG) (N : Nat) (h : AH) (r0 : Option Nat) (x1 : Int32) (x2 : Int32) : Option (Option Nat × AH) :=
  (mkA g h 3 x2 (.int 0)).bind fun h1 => (x_J14_compress_2 g N h1 r0 x1 (some h.2.1) (0 : Int32) x2).bind fun q3 => if q3.1 = x2 then (some ((some h.2.1), q3.2)) else ((x_J14_newBytesLength g N q3.2 (x1 + x2)).bind fun q6 => (x_J17_copyOfRange g N q6.2 r0 (x1 <<< ((1 : Int32) &&& 31)) q6.1).bind fun q8 => (x_J14_getChar g N q8.2 q8.1 q3.1).bind fun q10 => if (255 : Int32) < q10.1 then (some (q8.1, q10.2)) else ((x_J14_compress_2 g N q10.2 q8.1 (0 : Int32) (some h.2.1) (0 : Int32) x2).bind fun q13 => if q13.1 = x2 then (some ((some h.2.1), q13.2)) else (some (q8.1, q13.2))))
theorem ct_J14_compress (g : AG) (hst : (gL g).stackTraces = false) (N : Nat) : ∀ (h : AH) (r0 : Option Nat) (x1 : Int32) (x2 : Int32) (q : (Option Nat × AH)), x_J14_compress g N h r0 x1 x2 = some q → CT g YJ14_compress 5 [va_rf r0, .int x1, .int x2] h (xR q) := by
  intro h r0 x1 x2 q hq
  refine CT.of rfl (by decide +kernel) (loc := [some (va_rf r0), some (.int x1), some (.int x2), none, none, none]) (by first | exact Nat.le_of_ble_eq_true rfl | (simp only [lgl_rf, lgl_i, lgl_j, lgl_ref, lgl_nil]; exact Nat.le_of_ble_eq_true rfl)) (by first | rfl | (simp only [aent_rf, aent_i, aent_j, aent_ref, aent_nil]; rfl)) ?_
  unfold x_J14_compress at hq
  refine aw_iload_n (i := 2) dJ14_compress_0 rfl rfl ?_
  replace hq := obind hq
  obtain ⟨h1, e2, hq⟩ := hq
  refine xw_newa (atype := .byte) e2 q210 rfl (by decide) rfl (by decide) dJ14_compress_1 ?_
  refine aw_astore_n (i := 3) (loc' := [some (va_rf r0), some (.int x1), some (.int x2), some (.ref h.2.1), none, none]) dJ14_compress_3 rfl (Nat.le_of_ble_eq_true rfl) trivial rfl ?_
  refine aw_aload_n (i := 0) dJ14_compress_4 rfl rfl (aIsR_rf _) ?_
  refine aw_iload_n (i := 1) dJ14_compress_5 rfl rfl ?_
  refine aw_aload_n (i := 3) dJ14_compress_6 rfl rfl trivial ?_
  refine aw_iconst (v := 0) dJ14_compress_7 (by decide) ?_
  refine aw_iload_n (i := 2) dJ14_compress_8 rfl rfl ?_
  replace hq := obind hq
  obtain ⟨q3, e4, hq⟩ := hq
  refine aw_callS (Y2 := YJ14_compress_2) (As := [va_rf r0, .int x1, .ref h.2.1, .int (0 : Int32), .int x2]) (rest := []) kJ14_compress_2 q738 q739 dJ14_compress_9 rfl rfl (ct_J14_compress_2 g hst N h1 r0 x1 (some h.2.1) (0 : Int32) x2 _ e4) (Nat.le_of_ble_eq_true rfl) (Nat.le_of_ble_eq_true rfl) (fun v9 h9 z9 y9 => ?_)
  obtain ⟨rfl, rfl⟩ := y9
  refine aw_st (st' := [.int q3.1]) rfl ?_
  refine aw_istore (loc' := [some (va_rf r0), some (.int x1), some (.int x2), some (.ref h.2.1), some (.int q3.1), none]) dJ14_compress_12 (Nat.le_of_ble_eq_true rfl) rfl ?_
  refine aw_iload dJ14_compress_14 rfl ?_
  refine aw_iload_n (i := 2) dJ14_compress_16 rfl rfl ?_
  refine aw_icmp_eq (tgt := 64) dJ14_compress_17 (by decide) (fun c5 => ?_) (fun c5 => ?_)
  · rw [if_pos c5] at hq
    refine aw_aload_n (i := 3) dJ14_compress_64 rfl rfl trivial ?_
    cases hq
    exact aw_areturn dJ14_compress_65 rfl (Or.inr ⟨_, rfl⟩) trivial ⟨rfl, rfl⟩
  · rw [if_neg c5] at hq
    refine aw_aload_n (i := 0) dJ14_compress_20 rfl rfl (aIsR_rf _) ?_
    refine aw_iload_n (i := 1) dJ14_compress_21 rfl rfl ?_
    refine aw_iconst (v := 1) dJ14_compress_22 (by decide) ?_
    refine aw_ishl dJ14_compress_23 ?_
    refine aw_iload_n (i := 1) dJ14_compress_24 rfl rfl ?_
    refine aw_iload_n (i := 2) dJ14_compress_25 rfl rfl ?_
    refine aw_iadd dJ14_compress_26 ?_
    replace hq := obind hq
    obtain ⟨q6, e7, hq⟩ := hq
    refine aw_callS (Y2 := YJ14_newBytesLength) (As := [.int (x1 + x2)]) (rest := [.int (x1 <<< ((1 : Int32) &&& 31)), va_rf r0]) kJ14_newBytesLength q496 q497 dJ14_compress_27 rfl rfl (ct_J14_newBytesLength g hst N q3.2 (x1 + x2) _ e7) (Nat.le_of_ble_eq_true rfl) (by simp only [List.map_cons, List.map_nil, List.sum_cons, List.sum_nil, cat_rf]; exact Nat.le_of_ble_eq_true rfl) (fun v9 h9 z9 y9 => ?_)
    obtain ⟨rfl, rfl⟩ := y9
    refine aw_st (st' := [.int q6.1, .int (x1 <<< ((1 : Int32) &&& 31)), va_rf r0]) rfl ?_
    replace hq := obind hq
    obtain ⟨q8, e9, hq⟩ := hq
    refine aw_callS (Y2 := YJ17_copyOfRange) (As := [va_rf r0, .int (x1 <<< ((1 : Int32) &&& 31)), .int q6.1]) (rest := []) kJ17_copyOfRange q744 q636 dJ14_compress_30 rfl rfl (ct_J17_copyOfRange g hst N q6.2 r0 (x1 <<< ((1 : Int32) &&& 31)) q6.1 _ e9) (Nat.le_of_ble_eq_true rfl) (Nat.le_of_ble_eq_true rfl) (fun v9 h9 z9 y9 => ?_)
    obtain ⟨rfl, rfl⟩ := y9
    refine aw_st (st' := [va_rf q8.1]) rfl ?_
    refine aw_astore (loc' := [some (va_rf r0), some (.int x1), some (.int x2), some (.ref h.2.1), some (.int q3.1), some (va_rf q8.1)]) dJ14_compress_33 (Nat.le_of_ble_eq_true rfl) (aIsR_rf _) rfl ?_
    refine aw_aload dJ14_compress_35 rfl (aIsR_rf _) ?_
    refine aw_iload dJ14_compress_37 rfl ?_
    replace hq := obind hq
    obtain ⟨q10, e11, hq⟩ := hq
    refine aw_callS (Y2 := YJ14_getChar) (As := [va_rf q8.1, .int q3.1]) (rest := []) kJ14_getChar q741 q742 dJ14_compress_39 rfl rfl (ct_J14_getChar g hst N q8.2 q8.1 q3.1 _ e11) (Nat.le_of_ble_eq_true rfl) (Nat.le_of_ble_eq_true rfl) (fun v9 h9 z9 y9 => ?_)
    obtain ⟨rfl, rfl⟩ := y9
    refine aw_st (st' := [.int q10.1]) rfl ?_
    refine aw_sipush (v := 255) dJ14_compress_42 (by decide) ?_
    refine aw_icmp_gt (tgt := 61) dJ14_compress_45 (by decide) (fun c12 => ?_) (fun c12 => ?_)
    · rw [if_pos c12] at hq
      refine aw_aload dJ14_compress_61 rfl (aIsR_rf _) ?_
      cases hq
      exact aw_areturn dJ14_compress_63 rfl (Or.inr ⟨_, rfl⟩) (aIsR_rf _) ⟨rfl, rfl⟩
    · rw [if_neg c12] at hq
      refine aw_aload dJ14_compress_48 rfl (aIsR_rf _) ?_
      refine aw_iconst (v := 0) dJ14_compress_50 (by decide) ?_
      refine aw_aload_n (i := 3) dJ14_compress_51 rfl rfl trivial ?_
      refine aw_iconst (v := 0) dJ14_compress_52 (by decide) ?_
      refine aw_iload_n (i := 2) dJ14_compress_53 rfl rfl ?_
      replace hq := obind hq
      obtain ⟨q13, e14, hq⟩ := hq
      refine aw_callS (Y2 := YJ14_compress_2) (As := [va_rf q8.1, .int (0 : Int32), .ref h.2.1, .int (0 : Int32), .int x2]) (rest := []) kJ14_compress_2 q738 q739 dJ14_compress_54 rfl rfl (ct_J14_compress_2 g hst N q10.2 q8.1 (0 : Int32) (some h.2.1) (0 : Int32) x2 _ e14) (Nat.le_of_ble_eq_true rfl) (Nat.le_of_ble_eq_true rfl) (fun v9 h9 z9 y9 => ?_)
      obtain ⟨rfl, rfl⟩ := y9
      refine aw_st (st' := [.int q13.1]) rfl ?_
      refine aw_iload_n (i := 2) dJ14_compress_57 rfl rfl ?_
      refine aw_icmp_eq (tgt := 64) dJ14_compress_58 (by decide) (fun c15 => ?_) (fun c15 => ?_)
      · rw [if_pos c15] at hq
        refine aw_aload_n (i := 3) dJ14_compress_64 rfl rfl trivial ?_
        cases hq
        exact aw_areturn dJ14_compress_65 rfl (Or.inr ⟨_, rfl⟩) trivial ⟨rfl, rfl⟩
      · rw [if_neg c15] at hq
        refine aw_aload dJ14_compress_61 rfl (aIsR_rf _) ?_
        cases hq
        exact aw_areturn dJ14_compress_63 rfl (Or.inr ⟨_, rfl⟩) (aIsR_rf _) ⟨rfl, rfl⟩
abbrev YJ14_coderFromArrayLen : YC := (yJ14_coderFromArrayLen, cJ14_coderFromArrayLen, 2, (some .byte), [])
theorem kJ14_coderFromArrayLen : aMk YJ14_coderFromArrayLen 2 := ⟨rfl, q747, q135, ⟨by decide +kernel, by decide +kernel, by decide +kernel⟩, Nat.le_of_ble_eq_true rfl⟩
def x_J14_coderFromArrayLen (g : AG) (N : Nat) (h : AH) (r0 : Option Nat) (x1 : Int32) : Option (Int32 × AH) :=
  (r0).bind fun a1 => (rdN h a1).bind fun i3 => bif isy ((((x1 - i3).toUInt32 >>> ((31 : Int32).toUInt32 &&& Int32.toUInt32 31)).toInt32).toInt8.toInt32) then (some (((((x1 - i3).toUInt32 >>> ((31 : Int32).toUInt32 &&& Int32.toUInt32 31)).toInt32).toInt8.toInt32), h)) else none
theorem ct_J14_coderFromArrayLen (g : AG) (hst : (gL g).stackTraces = false) (N : Nat) : ∀ (h : AH) (r0 : Option Nat) (x1 : Int32) (q : (Int32 × AH)), x_J14_coderFromArrayLen g N h r0 x1 = some q → CT g YJ14_coderFromArrayLen 1 [va_rf r0, .int x1] h (xI q) := by
  intro h r0 x1 q hq
  refine CT.of rfl (by decide +kernel) (loc := [some (va_rf r0), some (.int x1)]) (by first | exact Nat.le_of_ble_eq_true rfl | (simp only [lgl_rf, lgl_i, lgl_j, lgl_ref, lgl_nil]; exact Nat.le_of_ble_eq_true rfl)) (by first | rfl | (simp only [aent_rf, aent_i, aent_j, aent_ref, aent_nil]; rfl)) ?_
  unfold x_J14_coderFromArrayLen at hq
  refine aw_iload_n (i := 1) dJ14_coderFromArrayLen_0 rfl rfl ?_
  refine aw_aload_n (i := 0) dJ14_coderFromArrayLen_1 rfl rfl (aIsR_rf _) ?_
  replace hq := obind hq
  obtain ⟨a1, e2, hq⟩ := hq
  subst e2
  replace hq := obind hq
  obtain ⟨i3, e4, hq⟩ := hq
  refine xw_alen e4 dJ14_coderFromArrayLen_2 ?_
  refine aw_isub dJ14_coderFromArrayLen_3 ?_
  refine aw_bipush (v := 31) dJ14_coderFromArrayLen_4 (by decide) ?_
  refine aw_iushr dJ14_coderFromArrayLen_6 ?_
  refine aw_i2b dJ14_coderFromArrayLen_7 ?_
  replace hq := cond_t hq
  obtain ⟨z5, hq⟩ := hq
  cases hq
  exact aw_ireturn dJ14_coderFromArrayLen_8 rfl (isy_ok z5).1 ⟨rfl, rfl⟩
theorem okJ13 : aCK (RJ13, TJ13, 4) tyJ13 := ⟨in_J13, tyJ13_ok, nmJ13⟩
theorem tJ13_1f : ∀ q ∈ ([(17, 1)] : List (Nat × Nat)), aFt q.1 q.2 true .byte := by
  intro q hq
  simp only [List.mem_cons, List.not_mem_nil, or_false] at hq
  subst hq
  exact ⟨(RJ13, TJ13, 4), tyJ13, Nat.le_of_ble_eq_true rfl, rfl, Nat.le_of_ble_eq_true rfl, okJ13, rfl, rfl⟩
theorem gJ13_15 : ∀ q ∈ ([(17, 1)] : List (Nat × Nat)), ∃ r0 : vw_C, aCl[q.1]? = some r0 ∧ (r0.2.1 q.2).1 = RJ13 ∧ Cond.fieldLink RJ13 15 (r0.2.1 q.2).1 (r0.2.1 q.2).2.1 (r0.2.1 q.2).2.2.1 ∈ lw_all := by
  intro q hq
  simp only [List.mem_cons, List.not_mem_nil, or_false] at hq
  subst hq
  exact ⟨(RJ13, TJ13, 4), rfl, rfl, q749⟩
theorem tJ13_0f : ∀ q ∈ ([(17, 0)] : List (Nat × Nat)), aFt q.1 q.2 true (.array .byte) := by
  intro q hq
  simp only [List.mem_cons, List.not_mem_nil, or_false] at hq
  subst hq
  exact ⟨(RJ13, TJ13, 4), tyJ13, Nat.le_of_ble_eq_true rfl, rfl, Nat.le_of_ble_eq_true rfl, okJ13, rfl, rfl⟩
theorem gJ13_9 : ∀ q ∈ ([(17, 0)] : List (Nat × Nat)), ∃ r0 : vw_C, aCl[q.1]? = some r0 ∧ (r0.2.1 q.2).1 = RJ13 ∧ Cond.fieldLink RJ13 9 (r0.2.1 q.2).1 (r0.2.1 q.2).2.1 (r0.2.1 q.2).2.2.1 ∈ lw_all := by
  intro q hq
  simp only [List.mem_cons, List.not_mem_nil, or_false] at hq
  subst hq
  exact ⟨(RJ13, TJ13, 4), rfl, rfl, q748⟩
theorem fJ13_1048 : ∀ q ∈ ([(16, 2)] : List (Nat × Nat)), aFl RJ13 1048 q.1 q.2 := by
  intro q hq
  simp only [List.mem_cons, List.not_mem_nil, or_false] at hq
  subst hq
  exact aFl.of (RJ12, TJ12, 4) rfl (Nat.le_of_ble_eq_true rfl) q502
abbrev YJ13_init_2 : YC := (yJ13_init_2, cJ13_init_2, 5, none, [])
theorem kJ13_init_2 : aMk YJ13_init_2 2 := ⟨rfl, q626, q134, ⟨by decide +kernel, by decide +kernel, by decide +kernel⟩, Nat.le_of_ble_eq_true rfl⟩
def x_J13_init_2_79 (g : AG) (N : Nat) (h : AH) (x0 : Nat) (r1 : Option Nat) (r2 : Option Nat) (r3 : Option Nat) (x4 : Int32) : Option AH :=
  (wrV g h x0 [(17, 1)] (.int (1 : Int32))).bind fun h16 => (x_J17_copyOfRange g N h16 r3 (0 : Int32) (x4 <<< ((1 : Int32) &&& 31))).bind fun q18 => (wrV g q18.2 x0 [(17, 0)] (va_rf q18.1)).bind fun h20 => some h20
theorem p_x_J13_init_2_79 (g : AG) (hst : (gL g).stackTraces = false) (N : Nat) : ∀ (h : AH) (x0 : Nat) (r1 : Option Nat) (r2 : Option Nat) (r3 : Option Nat) (x4 : Int32) (q : AH), x_J13_init_2_79 g N h x0 r1 r2 r3 x4 = some q → AW g YJ13_init_2 6 (xV q) h [some (.ref x0), some (va_rf r1), some (va_rf r2), some (va_rf r3), some (.int x4)] 79 [] := by
  intro h x0 r1 r2 r3 x4 q hq
  unfold x_J13_init_2_79 at hq
  refine aw_aload_n (i := 0) dJ13_init_2_79 rfl rfl trivial ?_
  refine aw_iconst (v := 1) dJ13_init_2_80 (by decide) ?_
  replace hq := obind hq
  obtain ⟨h16, e17, hq⟩ := hq
  refine xw_putF e17 fJ13_15 tJ13_1f rfl gJ13_15 (isy_ok (by decide)) dJ13_init_2_81 ?_
  refine aw_aload_n (i := 0) dJ13_init_2_84 rfl rfl trivial ?_
  refine aw_aload_n (i := 3) dJ13_init_2_85 rfl rfl (aIsR_rf _) ?_
  refine aw_iconst (v := 0) dJ13_init_2_86 (by decide) ?_
  refine aw_iload dJ13_init_2_87 rfl ?_
  refine aw_iconst (v := 1) dJ13_init_2_89 (by decide) ?_
  refine aw_ishl dJ13_init_2_90 ?_
  replace hq := obind hq
  obtain ⟨q18, e19, hq⟩ := hq
  refine aw_callS (Y2 := YJ17_copyOfRange) (As := [va_rf r3, .int (0 : Int32), .int (x4 <<< ((1 : Int32) &&& 31))]) (rest := [.ref x0]) kJ17_copyOfRange q635 q636 dJ13_init_2_91 rfl rfl (ct_J17_copyOfRange g hst N h16 r3 (0 : Int32) (x4 <<< ((1 : Int32) &&& 31)) _ e19) (Nat.le_of_ble_eq_true rfl) (Nat.le_of_ble_eq_true rfl) (fun v9 h9 z9 y9 => ?_)
  obtain ⟨rfl, rfl⟩ := y9
  refine aw_st (st' := [va_rf q18.1, .ref x0]) rfl ?_
  replace hq := obind hq
  obtain ⟨h20, e21, hq⟩ := hq
  refine xw_putF e21 fJ13_9 tJ13_0f rfl gJ13_9 (fits_rfA _ q18.1) dJ13_init_2_94 ?_
  cases hq
  exact aw_vret dJ13_init_2_97 rfl ⟨rfl, rfl⟩
def x_J13_init_2 (g : AG) (N : Nat) (h : AH) (x0 : Nat) (r1 : Option Nat) (r2 : Option Nat) : Option AH :=
  (r1).bind fun a1 => bif clB h a1 [16] then ((x_J11_getValue g N h a1).bind fun q4 => bif clB q4.2 a1 [16] then ((x_J12_length g N q4.2 a1).bind fun q7 => bif clB q7.2 a1 [16] then ((x_J11_isLatin1 g N q7.2 a1).bind fun q10 => if q10.1 = 0 then ((vI (gV g 16)).bind fun i13 => if i13 = 0 then (x_J13_init_2_79 g N  q10.2 x0 (some a1) r2 q4.1 q7.1) else ((rdI q10.2 a1 [(16, 2)]).bind fun i22 => if i22 = 0 then (x_J13_init_2_79 g N  q10.2 x0 (some a1) r2 q4.1 q7.1) else ((x_J14_compress g N q10.2 q4.1 (0 : Int32) q7.1).bind fun q25 => (wrV g q25.2 x0 [(17, 0)] (va_rf q25.1)).bind fun h27 => (rdR h27 x0 [(17, 0)]).bind fun o29 => (x_J14_coderFromArrayLen g N h27 o29 q7.1).bind fun q31 => bif isy q31.1 then ((wrV g q31.2 x0 [(17, 1)] (.int q31.1)).bind fun h34 => some h34) else none))) else ((wrV g q10.2 x0 [(17, 1)] (.int (0 : Int32))).bind fun h36 => (x_J17_copyOfRange g N h36 q4.1 (0 : Int32) q7.1).bind fun q38 => (wrV g q38.2 x0 [(17, 0)] (va_rf q38.1)).bind fun h40 => some h40)) else none) else none) else none
theorem ct_J13_init_2 (g : AG) (hst : (gL g).stackTraces = false) (N : Nat) : ∀ (h : AH) (x0 : Nat) (r1 : Option Nat) (r2 : Option Nat) (q : AH), x_J13_init_2 g N h x0 r1 r2 = some q → CT g YJ13_init_2 6 [.ref x0, va_rf r1, va_rf r2] h (xV q) := by
  intro h x0 r1 r2 q hq
  refine CT.of rfl (by decide +kernel) (loc := [some (.ref x0), some (va_rf r1), some (va_rf r2), none, none]) (by first | exact Nat.le_of_ble_eq_true rfl | (simp only [lgl_rf, lgl_i, lgl_j, lgl_ref, lgl_nil]; exact Nat.le_of_ble_eq_true rfl)) (by first | rfl | (simp only [aent_rf, aent_i, aent_j, aent_ref, aent_nil]; rfl)) ?_
  unfold x_J13_init_2 at hq
  refine aw_aload_n (i := 0) dJ13_init_2_0 rfl rfl trivial ?_
  refine aw_objInit q627 qObjI qObjC (by omega) (Nat.le_of_ble_eq_true rfl) dJ13_init_2_1 ?_
  refine aw_aload_n (i := 1) dJ13_init_2_4 rfl rfl (aIsR_rf _) ?_
  replace hq := obind hq
  obtain ⟨a1, e2, hq⟩ := hq
  subst e2
  replace hq := cond_t hq
  obtain ⟨z3, hq⟩ := hq
  obtain ⟨fs9, ha9⟩ := clB1 z3
  replace hq := obind hq
  obtain ⟨q4, e5, hq⟩ := hq
  refine aw_callU (Y2 := YJ11_getValue) (As := []) (rest := []) (r := (RJ12, TJ12, 4)) (x := ⟨"java/lang/AbstractStringBuilder", "getValue", "()[B"⟩) kJ11_getValue ha9 rfl rfl q628 q630 q629 q631 dJ13_init_2_5 rfl rfl (ct_J11_getValue g hst N h a1 _ e5) (Nat.le_of_ble_eq_true rfl) (Nat.le_of_ble_eq_true rfl) (fun v9 h9 z9 y9 => ?_)
  obtain ⟨rfl, rfl⟩ := y9
  refine aw_st (st' := [va_rf q4.1]) rfl ?_
  refine aw_astore_n (i := 3) (loc' := [some (.ref x0), some (.ref a1), some (va_rf r2), some (va_rf q4.1), none]) dJ13_init_2_8 rfl (Nat.le_of_ble_eq_true rfl) (aIsR_rf _) (aset1_rf rfl) ?_
  refine aw_aload_n (i := 1) dJ13_init_2_9 rfl rfl trivial ?_
  replace hq := cond_t hq
  obtain ⟨z6, hq⟩ := hq
  obtain ⟨fs9, ha9⟩ := clB1 z6
  replace hq := obind hq
  obtain ⟨q7, e8, hq⟩ := hq
  refine aw_callOc (Y2 := YJ12_length) (As := []) (rest := []) (r := (RJ12, TJ12, 4)) (x := ⟨"java/lang/AbstractStringBuilder", "length", "()I"⟩) (o := "java/lang/AbstractStringBuilder") kJ12_length ha9 rfl ⟨by decide +kernel, by decide +kernel, by decide +kernel⟩ q633 q2770 q519 q518 q514 q2775 dJ13_init_2_10 rfl rfl (ct_J12_length g hst N q4.2 a1 _ e8) (Nat.le_of_ble_eq_true rfl) (Nat.le_of_ble_eq_true rfl) (fun v9 h9 z9 y9 => ?_)
  obtain ⟨rfl, rfl⟩ := y9
  refine aw_st (st' := [.int q7.1]) rfl ?_
  refine aw_istore (loc' := [some (.ref x0), some (.ref a1), some (va_rf r2), some (va_rf q4.1), some (.int q7.1)]) dJ13_init_2_13 (Nat.le_of_ble_eq_true rfl) (aset1_rf rfl) ?_
  refine aw_aload_n (i := 1) dJ13_init_2_15 rfl rfl trivial ?_
  replace hq := cond_t hq
  obtain ⟨z9, hq⟩ := hq
  obtain ⟨fs9, ha9⟩ := clB1 z9
  replace hq := obind hq
  obtain ⟨q10, e11, hq⟩ := hq
  refine aw_callU (Y2 := YJ11_isLatin1) (As := []) (rest := []) (r := (RJ12, TJ12, 4)) (x := ⟨"java/lang/AbstractStringBuilder", "isLatin1", "()Z"⟩) kJ11_isLatin1 ha9 rfl rfl q634 q564 q563 q565 dJ13_init_2_16 rfl rfl (ct_J11_isLatin1 g hst N q7.2 a1 _ e11) (Nat.le_of_ble_eq_true rfl) (Nat.le_of_ble_eq_true rfl) (fun v9 h9 z9 y9 => ?_)
  obtain ⟨rfl, rfl⟩ := y9
  refine aw_st (st' := [.int q10.1]) rfl ?_
  refine aw_if_eq (tgt := 41) dJ13_init_2_19 (by decide) (fun c12 => ?_) (fun c12 => ?_)
  · rw [if_pos c12] at hq
    replace hq := obind hq
    obtain ⟨i13, e14, hq⟩ := hq
    refine xw_gets (i := 16) (vI_eq e14) rfl q712 dJ13_init_2_41 rfl ?_
    refine aw_if_eq (tgt := 79) dJ13_init_2_44 (by decide) (fun c15 => ?_) (fun c15 => ?_)
    · rw [if_pos c15] at hq
      exact p_x_J13_init_2_79 g hst N   q10.2 x0 (some a1) r2 q4.1 q7.1 _ hq
    · rw [if_neg c15] at hq
      refine aw_aload_n (i := 1) dJ13_init_2_47 rfl rfl trivial ?_
      replace hq := obind hq
      obtain ⟨i22, e23, hq⟩ := hq
      refine xw_getI e23 fJ13_1048 dJ13_init_2_48 ?_
      refine aw_if_eq (tgt := 79) dJ13_init_2_51 (by decide) (fun c24 => ?_) (fun c24 => ?_)
      · rw [if_pos c24] at hq
        exact p_x_J13_init_2_79 g hst N   q10.2 x0 (some a1) r2 q4.1 q7.1 _ hq
      · rw [if_neg c24] at hq
        refine aw_aload_n (i := 0) dJ13_init_2_54 rfl rfl trivial ?_
        refine aw_aload_n (i := 3) dJ13_init_2_55 rfl rfl (aIsR_rf _) ?_
        refine aw_iconst (v := 0) dJ13_init_2_56 (by decide) ?_
        refine aw_iload dJ13_init_2_57 rfl ?_
        replace hq := obind hq
        obtain ⟨q25, e26, hq⟩ := hq
        refine aw_callS (Y2 := YJ14_compress) (As := [va_rf q4.1, .int (0 : Int32), .int q7.1]) (rest := [.ref x0]) kJ14_compress q735 q736 dJ13_init_2_59 rfl rfl (ct_J14_compress g hst N q10.2 q4.1 (0 : Int32) q7.1 _ e26) (Nat.le_of_ble_eq_true rfl) (Nat.le_of_ble_eq_true rfl) (fun v9 h9 z9 y9 => ?_)
        obtain ⟨rfl, rfl⟩ := y9
        refine aw_st (st' := [va_rf q25.1, .ref x0]) rfl ?_
        replace hq := obind hq
        obtain ⟨h27, e28, hq⟩ := hq
        refine xw_putF e28 fJ13_9 tJ13_0f rfl gJ13_9 (fits_rfA _ q25.1) dJ13_init_2_62 ?_
        refine aw_aload_n (i := 0) dJ13_init_2_65 rfl rfl trivial ?_
        refine aw_aload_n (i := 0) dJ13_init_2_66 rfl rfl trivial ?_
        replace hq := obind hq
        obtain ⟨o29, e30, hq⟩ := hq
        refine xw_getR e30 fJ13_9 dJ13_init_2_67 ?_
        refine aw_iload dJ13_init_2_70 rfl ?_
        replace hq := obind hq
        obtain ⟨q31, e32, hq⟩ := hq
        refine aw_callS (Y2 := YJ14_coderFromArrayLen) (As := [va_rf o29, .int q7.1]) (rest := [.ref x0]) kJ14_coderFromArrayLen q745 q746 dJ13_init_2_72 rfl rfl (ct_J14_coderFromArrayLen g hst N h27 o29 q7.1 _ e32) (Nat.le_of_ble_eq_true rfl) (Nat.le_of_ble_eq_true rfl) (fun v9 h9 z9 y9 => ?_)
        obtain ⟨rfl, rfl⟩ := y9
        refine aw_st (st' := [.int q31.1, .ref x0]) rfl ?_
        replace hq := cond_t hq
        obtain ⟨z33, hq⟩ := hq
        replace hq := obind hq
        obtain ⟨h34, e35, hq⟩ := hq
        refine xw_putF e35 fJ13_15 tJ13_1f rfl gJ13_15 (isy_ok z33) dJ13_init_2_75 ?_
        cases hq
        exact aw_vret dJ13_init_2_78 rfl ⟨rfl, rfl⟩
  · rw [if_neg c12] at hq
    refine aw_aload_n (i := 0) dJ13_init_2_22 rfl rfl trivial ?_
    refine aw_iconst (v := 0) dJ13_init_2_23 (by decide) ?_
    replace hq := obind hq
    obtain ⟨h36, e37, hq⟩ := hq
    refine xw_putF e37 fJ13_15 tJ13_1f rfl gJ13_15 (isy_ok (by decide)) dJ13_init_2_24 ?_
    refine aw_aload_n (i := 0) dJ13_init_2_27 rfl rfl trivial ?_
    refine aw_aload_n (i := 3) dJ13_init_2_28 rfl rfl (aIsR_rf _) ?_
    refine aw_iconst (v := 0) dJ13_init_2_29 (by decide) ?_
    refine aw_iload dJ13_init_2_30 rfl ?_
    replace hq := obind hq
    obtain ⟨q38, e39, hq⟩ := hq
    refine aw_callS (Y2 := YJ17_copyOfRange) (As := [va_rf q4.1, .int (0 : Int32), .int q7.1]) (rest := [.ref x0]) kJ17_copyOfRange q635 q636 dJ13_init_2_32 rfl rfl (ct_J17_copyOfRange g hst N h36 q4.1 (0 : Int32) q7.1 _ e39) (Nat.le_of_ble_eq_true rfl) (Nat.le_of_ble_eq_true rfl) (fun v9 h9 z9 y9 => ?_)
    obtain ⟨rfl, rfl⟩ := y9
    refine aw_st (st' := [va_rf q38.1, .ref x0]) rfl ?_
    replace hq := obind hq
    obtain ⟨h40, e41, hq⟩ := hq
    refine xw_putF e41 fJ13_9 tJ13_0f rfl gJ13_9 (fits_rfA _ q38.1) dJ13_init_2_35 ?_
    refine aw_goto (tgt := 97) dJ13_init_2_38 (by decide) ?_
    cases hq
    exact aw_vret dJ13_init_2_97 rfl ⟨rfl, rfl⟩
abbrev YJ13_init : YC := (yJ13_init, cJ13_init, 2, none, [])
theorem kJ13_init : aMk YJ13_init 1 := ⟨rfl, q623, q134, ⟨by decide +kernel, by decide +kernel, by decide +kernel⟩, Nat.le_of_ble_eq_true rfl⟩
def x_J13_init (g : AG) (N : Nat) (h : AH) (x0 : Nat) (r1 : Option Nat) : Option AH :=
  (x_J13_init_2 g N h x0 r1 (none)).bind fun q1 => some q1
theorem ct_J13_init (g : AG) (hst : (gL g).stackTraces = false) (N : Nat) : ∀ (h : AH) (x0 : Nat) (r1 : Option Nat) (q : AH), x_J13_init g N h x0 r1 = some q → CT g YJ13_init 7 [.ref x0, va_rf r1] h (xV q) := by
  intro h x0 r1 q hq
  refine CT.of rfl (by decide +kernel) (loc := [some (.ref x0), some (va_rf r1)]) (by first | exact Nat.le_of_ble_eq_true rfl | (simp only [lgl_rf, lgl_i, lgl_j, lgl_ref, lgl_nil]; exact Nat.le_of_ble_eq_true rfl)) (by first | rfl | (simp only [aent_rf, aent_i, aent_j, aent_ref, aent_nil]; rfl)) ?_
  unfold x_J13_init at hq
  refine aw_aload_n (i := 0) dJ13_init_0 rfl rfl trivial ?_
  refine aw_aload_n (i := 1) dJ13_init_1 rfl rfl (aIsR_rf _) ?_
  refine aw_null dJ13_init_2 ?_
  replace hq := obind hq
  obtain ⟨q1, e2, hq⟩ := hq
  refine aw_callI (Y2 := YJ13_init_2) (As := [va_rf r1, .null]) (rest := []) (b := x0) kJ13_init_2 rfl rfl q624 q625 dJ13_init_3 rfl rfl (ct_J13_init_2 g hst N h x0 r1 (none) _ e2) (Nat.le_of_ble_eq_true rfl) (Nat.le_of_ble_eq_true rfl) (fun v9 h9 z9 y9 => ?_)
  obtain ⟨rfl, y9⟩ := y9
  rw [y9]
  refine aw_st (st' := []) rfl ?_
  cases hq
  exact aw_vret dJ13_init_6 rfl ⟨rfl, rfl⟩
theorem dfJ13 : ∀ j, j < 4 → defaultValue (tyJ13 j) = vp_V [.null, .int 0, .int 0, .int 0] j := by decide +kernel
abbrev YJ12_toString : YC := (yJ12_toString, cJ12_toString, 1, (some (.object "java/lang/String")), [])
theorem kJ12_toString : aMk YJ12_toString 0 := ⟨rfl, q618, q133, ⟨by decide +kernel, by decide +kernel, by decide +kernel⟩, Nat.le_of_ble_eq_true rfl⟩
def x_J12_toString (g : AG) (N : Nat) (h : AH) (x0 : Nat) : Option (Option Nat × AH) :=
  (mkO g h 4 17 [.null, .int 0, .int 0, .int 0]).bind fun h1 => (x_J13_init g N h1 h.2.1 (some x0)).bind fun q3 => some ((some h.2.1), q3)
theorem ct_J12_toString (g : AG) (hst : (gL g).stackTraces = false) (N : Nat) : ∀ (h : AH) (x0 : Nat) (q : (Option Nat × AH)), x_J12_toString g N h x0 = some q → CT g YJ12_toString 8 [.ref x0] h (xR q) := by
  intro h x0 q hq
  refine CT.of rfl (by decide +kernel) (loc := [some (.ref x0)]) (by first | exact Nat.le_of_ble_eq_true rfl | (simp only [lgl_rf, lgl_i, lgl_j, lgl_ref, lgl_nil]; exact Nat.le_of_ble_eq_true rfl)) (by first | rfl | (simp only [aent_rf, aent_i, aent_j, aent_ref, aent_nil]; rfl)) ?_
  unfold x_J12_toString at hq
  replace hq := obind hq
  obtain ⟨h1, e2, hq⟩ := hq
  refine xw_new (r := (RJ13, TJ13, 4)) e2 q619 q620 q134 (by decide) rfl okJ13 rfl dfJ13 dJ12_toString_0 ?_
  refine aw_dup dJ12_toString_3 rfl ?_
  refine aw_aload_n (i := 0) dJ12_toString_4 rfl rfl trivial ?_
  replace hq := obind hq
  obtain ⟨q3, e4, hq⟩ := hq
  refine aw_callI (Y2 := YJ13_init) (As := [.ref x0]) (rest := [.ref h.2.1]) (b := h.2.1) kJ13_init rfl rfl q621 q622 dJ12_toString_5 rfl rfl (ct_J13_init g hst N h1 h.2.1 (some x0) _ e4) (Nat.le_of_ble_eq_true rfl) (Nat.le_of_ble_eq_true rfl) (fun v9 h9 z9 y9 => ?_)
  obtain ⟨rfl, y9⟩ := y9
  rw [y9]
  refine aw_st (st' := [.ref h.2.1]) rfl ?_
  cases hq
  exact aw_areturn dJ12_toString_8 rfl (Or.inl ⟨_, rfl⟩) trivial ⟨rfl, rfl⟩
abbrev YJ13_isLatin1 : YC := (yJ13_isLatin1, cJ13_isLatin1, 1, (some .boolean), [])
theorem kJ13_isLatin1 : aMk YJ13_isLatin1 0 := ⟨rfl, q773, q134, ⟨by decide +kernel, by decide +kernel, by decide +kernel⟩, Nat.le_of_ble_eq_true rfl⟩
def x_J13_isLatin1 (g : AG) (N : Nat) (h : AH) (x0 : Nat) : Option (Int32 × AH) :=
  (vI (gV g 16)).bind fun i1 => if i1 = 0 then (some ((0 : Int32), h)) else ((rdI h x0 [(17, 1)]).bind fun i4 => if i4 = 0 then (some ((1 : Int32), h)) else (some ((0 : Int32), h)))
theorem ct_J13_isLatin1 (g : AG) (hst : (gL g).stackTraces = false) (N : Nat) : ∀ (h : AH) (x0 : Nat) (q : (Int32 × AH)), x_J13_isLatin1 g N h x0 = some q → CT g YJ13_isLatin1 1 [.ref x0] h (xI q) := by
  intro h x0 q hq
  refine CT.of rfl (by decide +kernel) (loc := [some (.ref x0)]) (by first | exact Nat.le_of_ble_eq_true rfl | (simp only [lgl_rf, lgl_i, lgl_j, lgl_ref, lgl_nil]; exact Nat.le_of_ble_eq_true rfl)) (by first | rfl | (simp only [aent_rf, aent_i, aent_j, aent_ref, aent_nil]; rfl)) ?_
  unfold x_J13_isLatin1 at hq
  replace hq := obind hq
  obtain ⟨i1, e2, hq⟩ := hq
  refine xw_gets (i := 16) (vI_eq e2) rfl q712 dJ13_isLatin1_0 rfl ?_
  refine aw_if_eq (tgt := 17) dJ13_isLatin1_3 (by decide) (fun c3 => ?_) (fun c3 => ?_)
  · rw [if_pos c3] at hq
    refine aw_iconst (v := 0) dJ13_isLatin1_17 (by decide) ?_
    cases hq
    exact aw_ireturn dJ13_isLatin1_18 rfl rfl ⟨rfl, rfl⟩
  · rw [if_neg c3] at hq
    refine aw_aload_n (i := 0) dJ13_isLatin1_6 rfl rfl trivial ?_
    replace hq := obind hq
    obtain ⟨i4, e5, hq⟩ := hq
    refine xw_getI e5 fJ13_15 dJ13_isLatin1_7 ?_
    refine aw_if_ne (tgt := 17) dJ13_isLatin1_10 (by decide) (fun c6 => ?_) (fun c6 => ?_)
    · rw [if_neg c6] at hq
      refine aw_iconst (v := 0) dJ13_isLatin1_17 (by decide) ?_
      cases hq
      exact aw_ireturn dJ13_isLatin1_18 rfl rfl ⟨rfl, rfl⟩
    · rw [if_pos c6] at hq
      refine aw_iconst (v := 1) dJ13_isLatin1_13 (by decide) ?_
      refine aw_goto (tgt := 18) dJ13_isLatin1_14 (by decide) ?_
      cases hq
      exact aw_ireturn dJ13_isLatin1_18 rfl rfl ⟨rfl, rfl⟩
abbrev YJ18_charAt : YC := (yJ18_charAt, cJ18_charAt, 2, (some .char), [])
theorem kJ18_charAt : aMk YJ18_charAt 2 := ⟨rfl, q776, q140, ⟨by decide +kernel, by decide +kernel, by decide +kernel⟩, Nat.le_of_ble_eq_true rfl⟩
def x_J18_charAt (g : AG) (N : Nat) (h : AH) (r0 : Option Nat) (x1 : Int32) : Option (Int32 × AH) :=
  (r0).bind fun a1 => (rdN h a1).bind fun i3 => (x_J13_checkIndex g N h x1 i3).bind fun q5 => ((rdA q5 a1 3 x1).bind vI).bind fun i7 => bif isc (((i7 &&& (255 : Int32)).toUInt32 % 65536).toInt32) then (some ((((i7 &&& (255 : Int32)).toUInt32 % 65536).toInt32), q5)) else none
theorem ct_J18_charAt (g : AG) (hst : (gL g).stackTraces = false) (N : Nat) : ∀ (h : AH) (r0 : Option Nat) (x1 : Int32) (q : (Int32 × AH)), x_J18_charAt g N h r0 x1 = some q → CT g YJ18_charAt 3 [va_rf r0, .int x1] h (xI q) := by
  intro h r0 x1 q hq
  refine CT.of rfl (by decide +kernel) (loc := [some (va_rf r0), some (.int x1)]) (by first | exact Nat.le_of_ble_eq_true rfl | (simp only [lgl_rf, lgl_i, lgl_j, lgl_ref, lgl_nil]; exact Nat.le_of_ble_eq_true rfl)) (by first | rfl | (simp only [aent_rf, aent_i, aent_j, aent_ref, aent_nil]; rfl)) ?_
  unfold x_J18_charAt at hq
  refine aw_iload_n (i := 1) dJ18_charAt_0 rfl rfl ?_
  refine aw_aload_n (i := 0) dJ18_charAt_1 rfl rfl (aIsR_rf _) ?_
  replace hq := obind hq
  obtain ⟨a1, e2, hq⟩ := hq
  subst e2
  replace hq := obind hq
  obtain ⟨i3, e4, hq⟩ := hq
  refine xw_alen e4 dJ18_charAt_2 ?_
  replace hq := obind hq
  obtain ⟨q5, e6, hq⟩ := hq
  refine aw_callS (Y2 := YJ13_checkIndex) (As := [.int x1, .int i3]) (rest := []) kJ13_checkIndex q777 q610 dJ18_charAt_3 rfl rfl (ct_J13_checkIndex g hst N h x1 i3 _ e6) (Nat.le_of_ble_eq_true rfl) (Nat.le_of_ble_eq_true rfl) (fun v9 h9 z9 y9 => ?_)
  obtain ⟨rfl, y9⟩ := y9
  rw [y9]
  refine aw_st (st' := []) rfl ?_
  refine aw_aload_n (i := 0) dJ18_charAt_6 rfl rfl trivial ?_
  refine aw_iload_n (i := 1) dJ18_charAt_7 rfl rfl ?_
  replace hq := obind hq
  obtain ⟨i7, e8, hq⟩ := hq
  refine xw_bald e8 dJ18_charAt_8 ?_
  refine aw_sipush (v := 255) dJ18_charAt_9 (by decide) ?_
  refine aw_iand dJ18_charAt_12 ?_
  refine aw_i2c dJ18_charAt_13 ?_
  replace hq := cond_t hq
  obtain ⟨z9, hq⟩ := hq
  cases hq
  exact aw_ireturn dJ18_charAt_14 rfl (isc_ok z9).1 ⟨rfl, rfl⟩
abbrev YJ14_charAt : YC := (yJ14_charAt, cJ14_charAt, 2, (some .char), [])
theorem kJ14_charAt : aMk YJ14_charAt 2 := ⟨rfl, q780, q135, ⟨by decide +kernel, by decide +kernel, by decide +kernel⟩, Nat.le_of_ble_eq_true rfl⟩
def x_J14_charAt (g : AG) (N : Nat) (h : AH) (r0 : Option Nat) (x1 : Int32) : Option (Int32 × AH) :=
  (x_J14_checkIndex g N h x1 r0).bind fun q1 => (x_J14_getChar g N q1 r0 x1).bind fun q3 => bif isc q3.1 then (some (q3.1, q3.2)) else none
theorem ct_J14_charAt (g : AG) (hst : (gL g).stackTraces = false) (N : Nat) : ∀ (h : AH) (r0 : Option Nat) (x1 : Int32) (q : (Int32 × AH)), x_J14_charAt g N h r0 x1 = some q → CT g YJ14_charAt 4 [va_rf r0, .int x1] h (xI q) := by
  intro h r0 x1 q hq
  refine CT.of rfl (by decide +kernel) (loc := [some (va_rf r0), some (.int x1)]) (by first | exact Nat.le_of_ble_eq_true rfl | (simp only [lgl_rf, lgl_i, lgl_j, lgl_ref, lgl_nil]; exact Nat.le_of_ble_eq_true rfl)) (by first | rfl | (simp only [aent_rf, aent_i, aent_j, aent_ref, aent_nil]; rfl)) ?_
  unfold x_J14_charAt at hq
  refine aw_iload_n (i := 1) dJ14_charAt_0 rfl rfl ?_
  refine aw_aload_n (i := 0) dJ14_charAt_1 rfl rfl (aIsR_rf _) ?_
  replace hq := obind hq
  obtain ⟨q1, e2, hq⟩ := hq
  refine aw_callS (Y2 := YJ14_checkIndex) (As := [.int x1, va_rf r0]) (rest := []) kJ14_checkIndex q606 q607 dJ14_charAt_2 rfl rfl (ct_J14_checkIndex g hst N h x1 r0 _ e2) (Nat.le_of_ble_eq_true rfl) (Nat.le_of_ble_eq_true rfl) (fun v9 h9 z9 y9 => ?_)
  obtain ⟨rfl, y9⟩ := y9
  rw [y9]
  refine aw_st (st' := []) rfl ?_
  refine aw_aload_n (i := 0) dJ14_charAt_5 rfl rfl (aIsR_rf _) ?_
  refine aw_iload_n (i := 1) dJ14_charAt_6 rfl rfl ?_
  replace hq := obind hq
  obtain ⟨q3, e4, hq⟩ := hq
  refine aw_callS (Y2 := YJ14_getChar) (As := [va_rf r0, .int x1]) (rest := []) kJ14_getChar q741 q742 dJ14_charAt_7 rfl rfl (ct_J14_getChar g hst N q1 r0 x1 _ e4) (Nat.le_of_ble_eq_true rfl) (Nat.le_of_ble_eq_true rfl) (fun v9 h9 z9 y9 => ?_)
  obtain ⟨rfl, rfl⟩ := y9
  refine aw_st (st' := [.int q3.1]) rfl ?_
  replace hq := cond_t hq
  obtain ⟨z5, hq⟩ := hq
  cases hq
  exact aw_ireturn dJ14_charAt_10 rfl (isc_ok z5).1 ⟨rfl, rfl⟩
abbrev YJ13_charAt : YC := (yJ13_charAt, cJ13_charAt, 2, (some .char), [])
theorem kJ13_charAt : aMk YJ13_charAt 1 := ⟨rfl, q769, q134, ⟨by decide +kernel, by decide +kernel, by decide +kernel⟩, Nat.le_of_ble_eq_true rfl⟩
def x_J13_charAt (g : AG) (N : Nat) (h : AH) (x0 : Nat) (x1 : Int32) : Option (Int32 × AH) :=
  bif clB h x0 [17] then ((x_J13_isLatin1 g N h x0).bind fun q2 => if q2.1 = 0 then ((rdR q2.2 x0 [(17, 0)]).bind fun o5 => (x_J14_charAt g N q2.2 o5 x1).bind fun q7 => bif isc q7.1 then (some (q7.1, q7.2)) else none) else ((rdR q2.2 x0 [(17, 0)]).bind fun o10 => (x_J18_charAt g N q2.2 o10 x1).bind fun q12 => bif isc q12.1 then (some (q12.1, q12.2)) else none)) else none
theorem ct_J13_charAt (g : AG) (hst : (gL g).stackTraces = false) (N : Nat) : ∀ (h : AH) (x0 : Nat) (x1 : Int32) (q : (Int32 × AH)), x_J13_charAt g N h x0 x1 = some q → CT g YJ13_charAt 5 [.ref x0, .int x1] h (xI q) := by
  intro h x0 x1 q hq
  refine CT.of rfl (by decide +kernel) (loc := [some (.ref x0), some (.int x1)]) (by first | exact Nat.le_of_ble_eq_true rfl | (simp only [lgl_rf, lgl_i, lgl_j, lgl_ref, lgl_nil]; exact Nat.le_of_ble_eq_true rfl)) (by first | rfl | (simp only [aent_rf, aent_i, aent_j, aent_ref, aent_nil]; rfl)) ?_
  unfold x_J13_charAt at hq
  refine aw_aload_n (i := 0) dJ13_charAt_0 rfl rfl trivial ?_
  replace hq := cond_t hq
  obtain ⟨z1, hq⟩ := hq
  obtain ⟨fs9, ha9⟩ := clB1 z1
  replace hq := obind hq
  obtain ⟨q2, e3, hq⟩ := hq
  refine aw_callV (Y2 := YJ13_isLatin1) (As := []) (rest := []) (r := (RJ13, TJ13, 4)) kJ13_isLatin1 ha9 rfl rfl q770 q771 q772 dJ13_charAt_1 rfl rfl (ct_J13_isLatin1 g hst N h x0 _ e3) (Nat.le_of_ble_eq_true rfl) (Nat.le_of_ble_eq_true rfl) (fun v9 h9 z9 y9 => ?_)
  obtain ⟨rfl, rfl⟩ := y9
  refine aw_st (st' := [.int q2.1]) rfl ?_
  refine aw_if_eq (tgt := 16) dJ13_charAt_4 (by decide) (fun c4 => ?_) (fun c4 => ?_)
  · rw [if_pos c4] at hq
    refine aw_aload_n (i := 0) dJ13_charAt_16 rfl rfl trivial ?_
    replace hq := obind hq
    obtain ⟨o5, e6, hq⟩ := hq
    refine xw_getR e6 fJ13_9 dJ13_charAt_17 ?_
    refine aw_iload_n (i := 1) dJ13_charAt_20 rfl rfl ?_
    replace hq := obind hq
    obtain ⟨q7, e8, hq⟩ := hq
    refine aw_callS (Y2 := YJ14_charAt) (As := [va_rf o5, .int x1]) (rest := []) kJ14_charAt q778 q779 dJ13_charAt_21 rfl rfl (ct_J14_charAt g hst N q2.2 o5 x1 _ e8) (Nat.le_of_ble_eq_true rfl) (Nat.le_of_ble_eq_true rfl) (fun v9 h9 z9 y9 => ?_)
    obtain ⟨rfl, rfl⟩ := y9
    refine aw_st (st' := [.int q7.1]) rfl ?_
    replace hq := cond_t hq
    obtain ⟨z9, hq⟩ := hq
    cases hq
    exact aw_ireturn dJ13_charAt_24 rfl (isc_ok z9).1 ⟨rfl, rfl⟩
  · rw [if_neg c4] at hq
    refine aw_aload_n (i := 0) dJ13_charAt_7 rfl rfl trivial ?_
    replace hq := obind hq
    obtain ⟨o10, e11, hq⟩ := hq
    refine xw_getR e11 fJ13_9 dJ13_charAt_8 ?_
    refine aw_iload_n (i := 1) dJ13_charAt_11 rfl rfl ?_
    replace hq := obind hq
    obtain ⟨q12, e13, hq⟩ := hq
    refine aw_callS (Y2 := YJ18_charAt) (As := [va_rf o10, .int x1]) (rest := []) kJ18_charAt q774 q775 dJ13_charAt_12 rfl rfl (ct_J18_charAt g hst N q2.2 o10 x1 _ e13) (Nat.le_of_ble_eq_true rfl) (Nat.le_of_ble_eq_true rfl) (fun v9 h9 z9 y9 => ?_)
    obtain ⟨rfl, rfl⟩ := y9
    refine aw_st (st' := [.int q12.1]) rfl ?_
    replace hq := cond_t hq
    obtain ⟨z14, hq⟩ := hq
    cases hq
    exact aw_ireturn dJ13_charAt_15 rfl (isc_ok z14).1 ⟨rfl, rfl⟩
abbrev YJ21_numberOfLeadingZeros : YC := (yJ21_numberOfLeadingZeros, cJ21_numberOfLeadingZeros, 2, (some .int), [])
theorem kJ21_numberOfLeadingZeros : aMk YJ21_numberOfLeadingZeros 1 := ⟨rfl, q1408, q143, ⟨by decide +kernel, by decide +kernel, by decide +kernel⟩, Nat.le_of_ble_eq_true rfl⟩
def x_J21_numberOfLeadingZeros_73 (g : AG) (N : Nat) (h : AH) (x0 : Int32) (x1 : Int32) : Option (Int32 × AH) :=
  some ((x1 - ((x0.toUInt32 >>> ((1 : Int32).toUInt32 &&& Int32.toUInt32 31)).toInt32)), h)
theorem p_x_J21_numberOfLeadingZeros_73 (g : AG) (hst : (gL g).stackTraces = false) (N : Nat) : ∀ (h : AH) (x0 : Int32) (x1 : Int32) (q : (Int32 × AH)), x_J21_numberOfLeadingZeros_73 g N h x0 x1 = some q → AW g YJ21_numberOfLeadingZeros 1 (xI q) h [some (.int x0), some (.int x1)] 73 [] := by
  intro h x0 x1 q hq
  unfold x_J21_numberOfLeadingZeros_73 at hq
  refine aw_iload_n (i := 1) dJ21_numberOfLeadingZeros_73 rfl rfl ?_
  refine aw_iload_n (i := 0) dJ21_numberOfLeadingZeros_74 rfl rfl ?_
  refine aw_iconst (v := 1) dJ21_numberOfLeadingZeros_75 (by decide) ?_
  refine aw_iushr dJ21_numberOfLeadingZeros_76 ?_
  refine aw_isub dJ21_numberOfLeadingZeros_77 ?_
  cases hq
  exact aw_ireturn dJ21_numberOfLeadingZeros_78 rfl rfl ⟨rfl, rfl⟩
def x_J21_numberOfLeadingZeros_61 (g : AG) (N : Nat) (h : AH) (x0 : Int32) (x1 : Int32) : Option (Int32 × AH) :=
  if x0 < (4 : Int32) then (x_J21_numberOfLeadingZeros_73 g N  h x0 x1) else (x_J21_numberOfLeadingZeros_73 g N  h ((x0.toUInt32 >>> ((2 : Int32).toUInt32 &&& Int32.toUInt32 31)).toInt32) (x1 + (-2)))
theorem p_x_J21_numberOfLeadingZeros_61 (g : AG) (hst : (gL g).stackTraces = false) (N : Nat) : ∀ (h : AH) (x0 : Int32) (x1 : Int32) (q : (Int32 × AH)), x_J21_numberOfLeadingZeros_61 g N h x0 x1 = some q → AW g YJ21_numberOfLeadingZeros 1 (xI q) h [some (.int x0), some (.int x1)] 61 [] := by
  intro h x0 x1 q hq
  unfold x_J21_numberOfLeadingZeros_61 at hq
  refine aw_iload_n (i := 0) dJ21_numberOfLeadingZeros_61 rfl rfl ?_
  refine aw_iconst (v := 4) dJ21_numberOfLeadingZeros_62 (by decide) ?_
  refine aw_icmp_lt (tgt := 73) dJ21_numberOfLeadingZeros_63 (by decide) (fun c5 => ?_) (fun c5 => ?_)
  · rw [if_pos c5] at hq
    exact p_x_J21_numberOfLeadingZeros_73 g hst N   h x0 x1 _ hq
  · rw [if_neg c5] at hq
    refine aw_iinc (v := x1 + (-2)) (loc' := [some (.int x0), some (.int (x1 + (-2)))]) dJ21_numberOfLeadingZeros_66 rfl rfl (Nat.le_of_ble_eq_true rfl) rfl ?_
    refine aw_iload_n (i := 0) dJ21_numberOfLeadingZeros_69 rfl rfl ?_
    refine aw_iconst (v := 2) dJ21_numberOfLeadingZeros_70 (by decide) ?_
    refine aw_iushr dJ21_numberOfLeadingZeros_71 ?_
    refine aw_istore_n (i := 0) (loc' := [some (.int ((x0.toUInt32 >>> ((2 : Int32).toUInt32 &&& Int32.toUInt32 31)).toInt32)), some (.int (x1 + (-2)))]) dJ21_numberOfLeadingZeros_72 rfl (Nat.le_of_ble_eq_true rfl) rfl ?_
    exact p_x_J21_numberOfLeadingZeros_73 g hst N   h ((x0.toUInt32 >>> ((2 : Int32).toUInt32 &&& Int32.toUInt32 31)).toInt32) (x1 + (-2)) _ hq
def x_J21_numberOfLeadingZeros_48 (g : AG) (N : Nat) (h : AH) (x0 : Int32) (x1 : Int32) : Option (Int32 × AH) :=
  if x0 < (16 : Int32) then (x_J21_numberOfLeadingZeros_61 g N  h x0 x1) else (x_J21_numberOfLeadingZeros_61 g N  h ((x0.toUInt32 >>> ((4 : Int32).toUInt32 &&& Int32.toUInt32 31)).toInt32) (x1 + (-4)))
theorem p_x_J21_numberOfLeadingZeros_48 (g : AG) (hst : (gL g).stackTraces = false) (N : Nat) : ∀ (h : AH) (x0 : Int32) (x1 : Int32) (q : (Int32 × AH)), x_J21_numberOfLeadingZeros_48 g N h x0 x1 = some q → AW g YJ21_numberOfLeadingZeros 1 (xI q) h [some (.int x0), some (.int x1)] 48 [] := by
  intro h x0 x1 q hq
  unfold x_J21_numberOfLeadingZeros_48 at hq
  refine aw_iload_n (i := 0) dJ21_numberOfLeadingZeros_48 rfl rfl ?_
  refine aw_bipush (v := 16) dJ21_numberOfLeadingZeros_49 (by decide) ?_
  refine aw_icmp_lt (tgt := 61) dJ21_numberOfLeadingZeros_51 (by decide) (fun c4 => ?_) (fun c4 => ?_)
  · rw [if_pos c4] at hq
    exact p_x_J21_numberOfLeadingZeros_61 g hst N   h x0 x1 _ hq
  · rw [if_neg c4] at hq
    refine aw_iinc (v := x1 + (-4)) (loc' := [some (.int x0), some (.int (x1 + (-4)))]) dJ21_numberOfLeadingZeros_54 rfl rfl (Nat.le_of_ble_eq_true rfl) rfl ?_
    refine aw_iload_n (i := 0) dJ21_numberOfLeadingZeros_57 rfl rfl ?_
    refine aw_iconst (v := 4) dJ21_numberOfLeadingZeros_58 (by decide) ?_
    refine aw_iushr dJ21_numberOfLeadingZeros_59 ?_
    refine aw_istore_n (i := 0) (loc' := [some (.int ((x0.toUInt32 >>> ((4 : Int32).toUInt32 &&& Int32.toUInt32 31)).toInt32)), some (.int (x1 + (-4)))]) dJ21_numberOfLeadingZeros_60 rfl (Nat.le_of_ble_eq_true rfl) rfl ?_
    exact p_x_J21_numberOfLeadingZeros_61 g hst N   h ((x0.toUInt32 >>> ((4 : Int32).toUInt32 &&& Int32.toUInt32 31)).toInt32) (x1 + (-4)) _ hq
def x_J21_numberOfLeadingZeros_33 (g : AG) (N : Nat) (h : AH) (x0 : Int32) (x1 : Int32) : Option (Int32 × AH) :=
  if x0 < (256 : Int32) then (x_J21_numberOfLeadingZeros_48 g N  h x0 x1) else (x_J21_numberOfLeadingZeros_48 g N  h ((x0.toUInt32 >>> ((8 : Int32).toUInt32 &&& Int32.toUInt32 31)).toInt32) (x1 + (-8)))
theorem p_x_J21_numberOfLeadingZeros_33 (g : AG) (hst : (gL g).stackTraces = false) (N : Nat) : ∀ (h : AH) (x0 : Int32) (x1 : Int32) (q : (Int32 × AH)), x_J21_numberOfLeadingZeros_33 g N h x0 x1 = some q → AW g YJ21_numberOfLeadingZeros 1 (xI q) h [some (.int x0), some (.int x1)] 33 [] := by
  intro h x0 x1 q hq
  unfold x_J21_numberOfLeadingZeros_33 at hq
  refine aw_iload_n (i := 0) dJ21_numberOfLeadingZeros_33 rfl rfl ?_
  refine aw_sipush (v := 256) dJ21_numberOfLeadingZeros_34 (by decide) ?_
  refine aw_icmp_lt (tgt := 48) dJ21_numberOfLeadingZeros_37 (by decide) (fun c3 => ?_) (fun c3 => ?_)
  · rw [if_pos c3] at hq
    exact p_x_J21_numberOfLeadingZeros_48 g hst N   h x0 x1 _ hq
  · rw [if_neg c3] at hq
    refine aw_iinc (v := x1 + (-8)) (loc' := [some (.int x0), some (.int (x1 + (-8)))]) dJ21_numberOfLeadingZeros_40 rfl rfl (Nat.le_of_ble_eq_true rfl) rfl ?_
    refine aw_iload_n (i := 0) dJ21_numberOfLeadingZeros_43 rfl rfl ?_
    refine aw_bipush (v := 8) dJ21_numberOfLeadingZeros_44 (by decide) ?_
    refine aw_iushr dJ21_numberOfLeadingZeros_46 ?_
    refine aw_istore_n (i := 0) (loc' := [some (.int ((x0.toUInt32 >>> ((8 : Int32).toUInt32 &&& Int32.toUInt32 31)).toInt32)), some (.int (x1 + (-8)))]) dJ21_numberOfLeadingZeros_47 rfl (Nat.le_of_ble_eq_true rfl) rfl ?_
    exact p_x_J21_numberOfLeadingZeros_48 g hst N   h ((x0.toUInt32 >>> ((8 : Int32).toUInt32 &&& Int32.toUInt32 31)).toInt32) (x1 + (-8)) _ hq
def x_J21_numberOfLeadingZeros (g : AG) (N : Nat) (h : AH) (x0 : Int32) : Option (Int32 × AH) :=
  if 0 < x0 then (if x0 < (65536 : Int32) then (x_J21_numberOfLeadingZeros_33 g N  h x0 (31 : Int32)) else (x_J21_numberOfLeadingZeros_33 g N  h ((x0.toUInt32 >>> ((16 : Int32).toUInt32 &&& Int32.toUInt32 31)).toInt32) ((31 : Int32) + (-16)))) else (if x0 = 0 then (some ((32 : Int32), h)) else (some ((0 : Int32), h)))
theorem ct_J21_numberOfLeadingZeros (g : AG) (hst : (gL g).stackTraces = false) (N : Nat) : ∀ (h : AH) (x0 : Int32) (q : (Int32 × AH)), x_J21_numberOfLeadingZeros g N h x0 = some q → CT g YJ21_numberOfLeadingZeros 1 [.int x0] h (xI q) := by
  intro h x0 q hq
  refine CT.of rfl (by decide +kernel) (loc := [some (.int x0), none]) (by first | exact Nat.le_of_ble_eq_true rfl | (simp only [lgl_rf, lgl_i, lgl_j, lgl_ref, lgl_nil]; exact Nat.le_of_ble_eq_true rfl)) (by first | rfl | (simp only [aent_rf, aent_i, aent_j, aent_ref, aent_nil]; rfl)) ?_
  unfold x_J21_numberOfLeadingZeros at hq
  refine aw_iload_n (i := 0) dJ21_numberOfLeadingZeros_0 rfl rfl ?_
  refine aw_if_gt (tgt := 15) dJ21_numberOfLeadingZeros_1 (by decide) (fun c1 => ?_) (fun c1 => ?_)
  · rw [if_pos c1] at hq
    refine aw_bipush (v := 31) dJ21_numberOfLeadingZeros_15 (by decide) ?_
    refine aw_istore_n (i := 1) (loc' := [some (.int x0), some (.int (31 : Int32))]) dJ21_numberOfLeadingZeros_17 rfl (Nat.le_of_ble_eq_true rfl) rfl ?_
    refine aw_iload_n (i := 0) dJ21_numberOfLeadingZeros_18 rfl rfl ?_
    refine aw_ldcw (v := (65536)) dJ21_numberOfLeadingZeros_19 q1409 ?_
    refine aw_icmp_lt (tgt := 33) dJ21_numberOfLeadingZeros_22 (by decide) (fun c2 => ?_) (fun c2 => ?_)
    · rw [if_pos c2] at hq
      exact p_x_J21_numberOfLeadingZeros_33 g hst N   h x0 (31 : Int32) _ hq
    · rw [if_neg c2] at hq
      refine aw_iinc (v := (31 : Int32) + (-16)) (loc' := [some (.int x0), some (.int ((31 : Int32) + (-16)))]) dJ21_numberOfLeadingZeros_25 rfl rfl (Nat.le_of_ble_eq_true rfl) rfl ?_
      refine aw_iload_n (i := 0) dJ21_numberOfLeadingZeros_28 rfl rfl ?_
      refine aw_bipush (v := 16) dJ21_numberOfLeadingZeros_29 (by decide) ?_
      refine aw_iushr dJ21_numberOfLeadingZeros_31 ?_
      refine aw_istore_n (i := 0) (loc' := [some (.int ((x0.toUInt32 >>> ((16 : Int32).toUInt32 &&& Int32.toUInt32 31)).toInt32)), some (.int ((31 : Int32) + (-16)))]) dJ21_numberOfLeadingZeros_32 rfl (Nat.le_of_ble_eq_true rfl) rfl ?_
      exact p_x_J21_numberOfLeadingZeros_33 g hst N   h ((x0.toUInt32 >>> ((16 : Int32).toUInt32 &&& Int32.toUInt32 31)).toInt32) ((31 : Int32) + (-16)) _ hq
  · rw [if_neg c1] at hq
    refine aw_iload_n (i := 0) dJ21_numberOfLeadingZeros_4 rfl rfl ?_
    refine aw_if_ne (tgt := 13) dJ21_numberOfLeadingZeros_5 (by decide) (fun c6 => ?_) (fun c6 => ?_)
    · rw [if_neg c6] at hq
      refine aw_iconst (v := 0) dJ21_numberOfLeadingZeros_13 (by decide) ?_
      cases hq
      exact aw_ireturn dJ21_numberOfLeadingZeros_14 rfl rfl ⟨rfl, rfl⟩
    · rw [if_pos c6] at hq
      refine aw_bipush (v := 32) dJ21_numberOfLeadingZeros_8 (by decide) ?_
      refine aw_goto (tgt := 14) dJ21_numberOfLeadingZeros_10 (by decide) ?_
      cases hq
      exact aw_ireturn dJ21_numberOfLeadingZeros_14 rfl rfl ⟨rfl, rfl⟩
abbrev YJ25_numberOfLeadingZeros : YC := (yJ25_numberOfLeadingZeros, cJ25_numberOfLeadingZeros, 3, (some .int), [])
theorem kJ25_numberOfLeadingZeros : aMk YJ25_numberOfLeadingZeros 1 := ⟨rfl, q1405, q152, ⟨by decide +kernel, by decide +kernel, by decide +kernel⟩, Nat.le_of_ble_eq_true rfl⟩
def x_J25_numberOfLeadingZeros (g : AG) (N : Nat) (h : AH) (x0 : Int64) : Option (Int32 × AH) :=
  if (((x0.toUInt64 >>> ((32 : Int32).toInt64.toUInt64 &&& Int64.toUInt64 63)).toInt64).toInt32) = 0 then ((x_J21_numberOfLeadingZeros g N h x0.toInt32).bind fun q4 => some (((32 : Int32) + q4.1), q4.2)) else ((x_J21_numberOfLeadingZeros g N h (((x0.toUInt64 >>> ((32 : Int32).toInt64.toUInt64 &&& Int64.toUInt64 63)).toInt64).toInt32)).bind fun q2 => some (q2.1, q2.2))
theorem ct_J25_numberOfLeadingZeros (g : AG) (hst : (gL g).stackTraces = false) (N : Nat) : ∀ (h : AH) (x0 : Int64) (q : (Int32 × AH)), x_J25_numberOfLeadingZeros g N h x0 = some q → CT g YJ25_numberOfLeadingZeros 2 [.long x0] h (xI q) := by
  intro h x0 q hq
  refine CT.of rfl (by decide +kernel) (loc := [some (.long x0), none, none]) (by first | exact Nat.le_of_ble_eq_true rfl | (simp only [lgl_rf, lgl_i, lgl_j, lgl_ref, lgl_nil]; exact Nat.le_of_ble_eq_true rfl)) (by first | rfl | (simp only [aent_rf, aent_i, aent_j, aent_ref, aent_nil]; rfl)) ?_
  unfold x_J25_numberOfLeadingZeros at hq
  refine aw_lload_n (i := 0) dJ25_numberOfLeadingZeros_0 rfl rfl ?_
  refine aw_bipush (v := 32) dJ25_numberOfLeadingZeros_1 (by decide) ?_
  refine aw_lushr dJ25_numberOfLeadingZeros_3 ?_
  refine aw_l2i dJ25_numberOfLeadingZeros_4 ?_
  refine aw_istore_n (i := 2) (loc' := [some (.long x0), none, some (.int (((x0.toUInt64 >>> ((32 : Int32).toInt64.toUInt64 &&& Int64.toUInt64 63)).toInt64).toInt32))]) dJ25_numberOfLeadingZeros_5 rfl (Nat.le_of_ble_eq_true rfl) rfl ?_
  refine aw_iload_n (i := 2) dJ25_numberOfLeadingZeros_6 rfl rfl ?_
  refine aw_if_ne (tgt := 21) dJ25_numberOfLeadingZeros_7 (by decide) (fun c1 => ?_) (fun c1 => ?_)
  · rw [if_neg c1] at hq
    refine aw_iload_n (i := 2) dJ25_numberOfLeadingZeros_21 rfl rfl ?_
    replace hq := obind hq
    obtain ⟨q2, e3, hq⟩ := hq
    refine aw_callS (Y2 := YJ21_numberOfLeadingZeros) (As := [.int (((x0.toUInt64 >>> ((32 : Int32).toInt64.toUInt64 &&& Int64.toUInt64 63)).toInt64).toInt32)]) (rest := []) kJ21_numberOfLeadingZeros q1406 q1407 dJ25_numberOfLeadingZeros_22 rfl rfl (ct_J21_numberOfLeadingZeros g hst N h (((x0.toUInt64 >>> ((32 : Int32).toInt64.toUInt64 &&& Int64.toUInt64 63)).toInt64).toInt32) _ e3) (Nat.le_of_ble_eq_true rfl) (Nat.le_of_ble_eq_true rfl) (fun v9 h9 z9 y9 => ?_)
    obtain ⟨rfl, rfl⟩ := y9
    refine aw_st (st' := [.int q2.1]) rfl ?_
    cases hq
    exact aw_ireturn dJ25_numberOfLeadingZeros_25 rfl rfl ⟨rfl, rfl⟩
  · rw [if_pos c1] at hq
    refine aw_bipush (v := 32) dJ25_numberOfLeadingZeros_10 (by decide) ?_
    refine aw_lload_n (i := 0) dJ25_numberOfLeadingZeros_12 rfl rfl ?_
    refine aw_l2i dJ25_numberOfLeadingZeros_13 ?_
    replace hq := obind hq
    obtain ⟨q4, e5, hq⟩ := hq
    refine aw_callS (Y2 := YJ21_numberOfLeadingZeros) (As := [.int x0.toInt32]) (rest := [.int (32 : Int32)]) kJ21_numberOfLeadingZeros q1406 q1407 dJ25_numberOfLeadingZeros_14 rfl rfl (ct_J21_numberOfLeadingZeros g hst N h x0.toInt32 _ e5) (Nat.le_of_ble_eq_true rfl) (Nat.le_of_ble_eq_true rfl) (fun v9 h9 z9 y9 => ?_)
    obtain ⟨rfl, rfl⟩ := y9
    refine aw_st (st' := [.int q4.1, .int (32 : Int32)]) rfl ?_
    refine aw_iadd dJ25_numberOfLeadingZeros_17 ?_
    refine aw_goto (tgt := 25) dJ25_numberOfLeadingZeros_18 (by decide) ?_
    cases hq
    exact aw_ireturn dJ25_numberOfLeadingZeros_25 rfl rfl ⟨rfl, rfl⟩
abbrev YJ21_numberOfTrailingZeros : YC := (yJ21_numberOfTrailingZeros, cJ21_numberOfTrailingZeros, 2, (some .int), [])
theorem kJ21_numberOfTrailingZeros : aMk YJ21_numberOfTrailingZeros 1 := ⟨rfl, q1417, q143, ⟨by decide +kernel, by decide +kernel, by decide +kernel⟩, Nat.le_of_ble_eq_true rfl⟩
def x_J21_numberOfTrailingZeros_74 (g : AG) (N : Nat) (h : AH) (x0 : Int32) (x1 : Int32) : Option (Int32 × AH) :=
  some ((x1 + ((x0.toUInt32 >>> ((1 : Int32).toUInt32 &&& Int32.toUInt32 31)).toInt32)), h)
theorem p_x_J21_numberOfTrailingZeros_74 (g : AG) (hst : (gL g).stackTraces = false) (N : Nat) : ∀ (h : AH) (x0 : Int32) (x1 : Int32) (q : (Int32 × AH)), x_J21_numberOfTrailingZeros_74 g N h x0 x1 = some q → AW g YJ21_numberOfTrailingZeros 1 (xI q) h [some (.int x0), some (.int x1)] 74 [] := by
  intro h x0 x1 q hq
  unfold x_J21_numberOfTrailingZeros_74 at hq
  refine aw_iload_n (i := 1) dJ21_numberOfTrailingZeros_74 rfl rfl ?_
  refine aw_iload_n (i := 0) dJ21_numberOfTrailingZeros_75 rfl rfl ?_
  refine aw_iconst (v := 1) dJ21_numberOfTrailingZeros_76 (by decide) ?_
  refine aw_iushr dJ21_numberOfTrailingZeros_77 ?_
  refine aw_iadd dJ21_numberOfTrailingZeros_78 ?_
  cases hq
  exact aw_ireturn dJ21_numberOfTrailingZeros_79 rfl rfl ⟨rfl, rfl⟩
def x_J21_numberOfTrailingZeros_62 (g : AG) (N : Nat) (h : AH) (x0 : Int32) (x1 : Int32) : Option (Int32 × AH) :=
  if x0 ≤ (4 : Int32) then (x_J21_numberOfTrailingZeros_74 g N  h x0 x1) else (x_J21_numberOfTrailingZeros_74 g N  h ((x0.toUInt32 >>> ((2 : Int32).toUInt32 &&& Int32.toUInt32 31)).toInt32) (x1 + 2))
theorem p_x_J21_numberOfTrailingZeros_62 (g : AG) (hst : (gL g).stackTraces = false) (N : Nat) : ∀ (h : AH) (x0 : Int32) (x1 : Int32) (q : (Int32 × AH)), x_J21_numberOfTrailingZeros_62 g N h x0 x1 = some q → AW g YJ21_numberOfTrailingZeros 1 (xI q) h [some (.int x0), some (.int x1)] 62 [] := by
  intro h x0 x1 q hq
  unfold x_J21_numberOfTrailingZeros_62 at hq
  refine aw_iload_n (i := 0) dJ21_numberOfTrailingZeros_62 rfl rfl ?_
  refine aw_iconst (v := 4) dJ21_numberOfTrailingZeros_63 (by decide) ?_
  refine aw_icmp_le (tgt := 74) dJ21_numberOfTrailingZeros_64 (by decide) (fun c5 => ?_) (fun c5 => ?_)
  · rw [if_pos c5] at hq
    exact p_x_J21_numberOfTrailingZeros_74 g hst N   h x0 x1 _ hq
  · rw [if_neg c5] at hq
    refine aw_iinc (v := x1 + 2) (loc' := [some (.int x0), some (.int (x1 + 2))]) dJ21_numberOfTrailingZeros_67 rfl rfl (Nat.le_of_ble_eq_true rfl) rfl ?_
    refine aw_iload_n (i := 0) dJ21_numberOfTrailingZeros_70 rfl rfl ?_
    refine aw_iconst (v := 2) dJ21_numberOfTrailingZeros_71 (by decide) ?_
    refine aw_iushr dJ21_numberOfTrailingZeros_72 ?_
    refine aw_istore_n (i := 0) (loc' := [some (.int ((x0.toUInt32 >>> ((2 : Int32).toUInt32 &&& Int32.toUInt32 31)).toInt32)), some (.int (x1 + 2))]) dJ21_numberOfTrailingZeros_73 rfl (Nat.le_of_ble_eq_true rfl) rfl ?_
    exact p_x_J21_numberOfTrailingZeros_74 g hst N   h ((x0.toUInt32 >>> ((2 : Int32).toUInt32 &&& Int32.toUInt32 31)).toInt32) (x1 + 2) _ hq
def x_J21_numberOfTrailingZeros_49 (g : AG) (N : Nat) (h : AH) (x0 : Int32) (x1 : Int32) : Option (Int32 × AH) :=
  if x0 ≤ (16 : Int32) then (x_J21_numberOfTrailingZeros_62 g N  h x0 x1) else (x_J21_numberOfTrailingZeros_62 g N  h ((x0.toUInt32 >>> ((4 : Int32).toUInt32 &&& Int32.toUInt32 31)).toInt32) (x1 + 4))
theorem p_x_J21_numberOfTrailingZeros_49 (g : AG) (hst : (gL g).stackTraces = false) (N : Nat) : ∀ (h : AH) (x0 : Int32) (x1 : Int32) (q : (Int32 × AH)), x_J21_numberOfTrailingZeros_49 g N h x0 x1 = some q → AW g YJ21_numberOfTrailingZeros 1 (xI q) h [some (.int x0), some (.int x1)] 49 [] := by
  intro h x0 x1 q hq
  unfold x_J21_numberOfTrailingZeros_49 at hq
  refine aw_iload_n (i := 0) dJ21_numberOfTrailingZeros_49 rfl rfl ?_
  refine aw_bipush (v := 16) dJ21_numberOfTrailingZeros_50 (by decide) ?_
  refine aw_icmp_le (tgt := 62) dJ21_numberOfTrailingZeros_52 (by decide) (fun c4 => ?_) (fun c4 => ?_)
  · rw [if_pos c4] at hq
    exact p_x_J21_numberOfTrailingZeros_62 g hst N   h x0 x1 _ hq
  · rw [if_neg c4] at hq
    refine aw_iinc (v := x1 + 4) (loc' := [some (.int x0), some (.int (x1 + 4))]) dJ21_numberOfTrailingZeros_55 rfl rfl (Nat.le_of_ble_eq_true rfl) rfl ?_
    refine aw_iload_n (i := 0) dJ21_numberOfTrailingZeros_58 rfl rfl ?_
    refine aw_iconst (v := 4) dJ21_numberOfTrailingZeros_59 (by decide) ?_
    refine aw_iushr dJ21_numberOfTrailingZeros_60 ?_
    refine aw_istore_n (i := 0) (loc' := [some (.int ((x0.toUInt32 >>> ((4 : Int32).toUInt32 &&& Int32.toUInt32 31)).toInt32)), some (.int (x1 + 4))]) dJ21_numberOfTrailingZeros_61 rfl (Nat.le_of_ble_eq_true rfl) rfl ?_
    exact p_x_J21_numberOfTrailingZeros_62 g hst N   h ((x0.toUInt32 >>> ((4 : Int32).toUInt32 &&& Int32.toUInt32 31)).toInt32) (x1 + 4) _ hq
def x_J21_numberOfTrailingZeros_34 (g : AG) (N : Nat) (h : AH) (x0 : Int32) (x1 : Int32) : Option (Int32 × AH) :=
  if x0 ≤ (256 : Int32) then (x_J21_numberOfTrailingZeros_49 g N  h x0 x1) else (x_J21_numberOfTrailingZeros_49 g N  h ((x0.toUInt32 >>> ((8 : Int32).toUInt32 &&& Int32.toUInt32 31)).toInt32) (x1 + 8))
theorem p_x_J21_numberOfTrailingZeros_34 (g : AG) (hst : (gL g).stackTraces = false) (N : Nat) : ∀ (h : AH) (x0 : Int32) (x1 : Int32) (q : (Int32 × AH)), x_J21_numberOfTrailingZeros_34 g N h x0 x1 = some q → AW g YJ21_numberOfTrailingZeros 1 (xI q) h [some (.int x0), some (.int x1)] 34 [] := by
  intro h x0 x1 q hq
  unfold x_J21_numberOfTrailingZeros_34 at hq
  refine aw_iload_n (i := 0) dJ21_numberOfTrailingZeros_34 rfl rfl ?_
  refine aw_sipush (v := 256) dJ21_numberOfTrailingZeros_35 (by decide) ?_
  refine aw_icmp_le (tgt := 49) dJ21_numberOfTrailingZeros_38 (by decide) (fun c3 => ?_) (fun c3 => ?_)
  · rw [if_pos c3] at hq
    exact p_x_J21_numberOfTrailingZeros_49 g hst N   h x0 x1 _ hq
  · rw [if_neg c3] at hq
    refine aw_iinc (v := x1 + 8) (loc' := [some (.int x0), some (.int (x1 + 8))]) dJ21_numberOfTrailingZeros_41 rfl rfl (Nat.le_of_ble_eq_true rfl) rfl ?_
    refine aw_iload_n (i := 0) dJ21_numberOfTrailingZeros_44 rfl rfl ?_
    refine aw_bipush (v := 8) dJ21_numberOfTrailingZeros_45 (by decide) ?_
    refine aw_iushr dJ21_numberOfTrailingZeros_47 ?_
    refine aw_istore_n (i := 0) (loc' := [some (.int ((x0.toUInt32 >>> ((8 : Int32).toUInt32 &&& Int32.toUInt32 31)).toInt32)), some (.int (x1 + 8))]) dJ21_numberOfTrailingZeros_48 rfl (Nat.le_of_ble_eq_true rfl) rfl ?_
    exact p_x_J21_numberOfTrailingZeros_49 g hst N   h ((x0.toUInt32 >>> ((8 : Int32).toUInt32 &&& Int32.toUInt32 31)).toInt32) (x1 + 8) _ hq
def x_J21_numberOfTrailingZeros (g : AG) (N : Nat) (h : AH) (x0 : Int32) : Option (Int32 × AH) :=
  if 0 < ((x0 ^^^ (-1 : Int32)) &&& (x0 - (1 : Int32))) then (if ((x0 ^^^ (-1 : Int32)) &&& (x0 - (1 : Int32))) ≤ (65536 : Int32) then (x_J21_numberOfTrailingZeros_34 g N  h ((x0 ^^^ (-1 : Int32)) &&& (x0 - (1 : Int32))) (1 : Int32)) else (x_J21_numberOfTrailingZeros_34 g N  h ((((x0 ^^^ (-1 : Int32)) &&& (x0 - (1 : Int32))).toUInt32 >>> ((16 : Int32).toUInt32 &&& Int32.toUInt32 31)).toInt32) ((1 : Int32) + 16))) else (some ((((x0 ^^^ (-1 : Int32)) &&& (x0 - (1 : Int32))) &&& (32 : Int32)), h))
theorem ct_J21_numberOfTrailingZeros (g : AG) (hst : (gL g).stackTraces = false) (N : Nat) : ∀ (h : AH) (x0 : Int32) (q : (Int32 × AH)), x_J21_numberOfTrailingZeros g N h x0 = some q → CT g YJ21_numberOfTrailingZeros 1 [.int x0] h (xI q) := by
  intro h x0 q hq
  refine CT.of rfl (by decide +kernel) (loc := [some (.int x0), none]) (by first | exact Nat.le_of_ble_eq_true rfl | (simp only [lgl_rf, lgl_i, lgl_j, lgl_ref, lgl_nil]; exact Nat.le_of_ble_eq_true rfl)) (by first | rfl | (simp only [aent_rf, aent_i, aent_j, aent_ref, aent_nil]; rfl)) ?_
  unfold x_J21_numberOfTrailingZeros at hq
  refine aw_iload_n (i := 0) dJ21_numberOfTrailingZeros_0 rfl rfl ?_
  refine aw_iconst (v := (-1)) dJ21_numberOfTrailingZeros_1 (by decide) ?_
  refine aw_ixor dJ21_numberOfTrailingZeros_2 ?_
  refine aw_iload_n (i := 0) dJ21_numberOfTrailingZeros_3 rfl rfl ?_
  refine aw_iconst (v := 1) dJ21_numberOfTrailingZeros_4 (by decide) ?_
  refine aw_isub dJ21_numberOfTrailingZeros_5 ?_
  refine aw_iand dJ21_numberOfTrailingZeros_6 ?_
  refine aw_istore_n (i := 0) (loc' := [some (.int ((x0 ^^^ (-1 : Int32)) &&& (x0 - (1 : Int32)))), none]) dJ21_numberOfTrailingZeros_7 rfl (Nat.le_of_ble_eq_true rfl) rfl ?_
  refine aw_iload_n (i := 0) dJ21_numberOfTrailingZeros_8 rfl rfl ?_
  refine aw_if_gt (tgt := 17) dJ21_numberOfTrailingZeros_9 (by decide) (fun c1 => ?_) (fun c1 => ?_)
  · rw [if_pos c1] at hq
    refine aw_iconst (v := 1) dJ21_numberOfTrailingZeros_17 (by decide) ?_
    refine aw_istore_n (i := 1) (loc' := [some (.int ((x0 ^^^ (-1 : Int32)) &&& (x0 - (1 : Int32)))), some (.int (1 : Int32))]) dJ21_numberOfTrailingZeros_18 rfl (Nat.le_of_ble_eq_true rfl) rfl ?_
    refine aw_iload_n (i := 0) dJ21_numberOfTrailingZeros_19 rfl rfl ?_
    refine aw_ldcw (v := (65536)) dJ21_numberOfTrailingZeros_20 q1409 ?_
    refine aw_icmp_le (tgt := 34) dJ21_numberOfTrailingZeros_23 (by decide) (fun c2 => ?_) (fun c2 => ?_)
    · rw [if_pos c2] at hq
      exact p_x_J21_numberOfTrailingZeros_34 g hst N   h ((x0 ^^^ (-1 : Int32)) &&& (x0 - (1 : Int32))) (1 : Int32) _ hq
    · rw [if_neg c2] at hq
      refine aw_iinc (v := (1 : Int32) + 16) (loc' := [some (.int ((x0 ^^^ (-1 : Int32)) &&& (x0 - (1 : Int32)))), some (.int ((1 : Int32) + 16))]) dJ21_numberOfTrailingZeros_26 rfl rfl (Nat.le_of_ble_eq_true rfl) rfl ?_
      refine aw_iload_n (i := 0) dJ21_numberOfTrailingZeros_29 rfl rfl ?_
      refine aw_bipush (v := 16) dJ21_numberOfTrailingZeros_30 (by decide) ?_
      refine aw_iushr dJ21_numberOfTrailingZeros_32 ?_
      refine aw_istore_n (i := 0) (loc' := [some (.int ((((x0 ^^^ (-1 : Int32)) &&& (x0 - (1 : Int32))).toUInt32 >>> ((16 : Int32).toUInt32 &&& Int32.toUInt32 31)).toInt32)), some (.int ((1 : Int32) + 16))]) dJ21_numberOfTrailingZeros_33 rfl (Nat.le_of_ble_eq_true rfl) rfl ?_
      exact p_x_J21_numberOfTrailingZeros_34 g hst N   h ((((x0 ^^^ (-1 : Int32)) &&& (x0 - (1 : Int32))).toUInt32 >>> ((16 : Int32).toUInt32 &&& Int32.toUInt32 31)).toInt32) ((1 : Int32) + 16) _ hq
  · rw [if_neg c1] at hq
    refine aw_iload_n (i := 0) dJ21_numberOfTrailingZeros_12 rfl rfl ?_
    refine aw_bipush (v := 32) dJ21_numberOfTrailingZeros_13 (by decide) ?_
    refine aw_iand dJ21_numberOfTrailingZeros_15 ?_
    cases hq
    exact aw_ireturn dJ21_numberOfTrailingZeros_16 rfl rfl ⟨rfl, rfl⟩
