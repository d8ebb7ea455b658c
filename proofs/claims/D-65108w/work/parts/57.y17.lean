/-! THE COMPONENT AND THE JDK as functions of the heap, and their contracts: printed by wip gen/dec2.py -/
set_option maxRecDepth 100000
theorem fJ21_205 : ∀ q ∈ ([(18, 0)] : List (Nat × Nat)), aFl RJ21 205 q.1 q.2 := by
  intro q hq
  simp only [List.mem_cons, List.not_mem_nil, or_false] at hq
  subst hq
  exact aFl.of (RJ21, TJ21, 1) rfl (Nat.le_of_ble_eq_true rfl) q1804
abbrev YJ21_compareTo_2 : YC := (yJ21_compareTo_2, cJ21_compareTo_2, 2, (some .int), [])
theorem kJ21_compareTo_2 : aMk YJ21_compareTo_2 1 := ⟨rfl, q1315, q143, ⟨by decide +kernel, by decide +kernel, by decide +kernel⟩, Nat.le_of_ble_eq_true rfl⟩
def x_J21_compareTo_2 (g : AG) (N : Nat) (h : AH) (x0 : Nat) (r1 : Option Nat) : Option (Int32 × AH) :=
  (rdI h x0 [(18, 0)]).bind fun i1 => (r1).bind fun a3 => (rdI h a3 [(18, 0)]).bind fun i5 => (x_J21_compare g N h i1 i5).bind fun q7 => some (q7.1, q7.2)
theorem ct_J21_compareTo_2 (g : AG) (hst : (gL g).stackTraces = false) (N : Nat) : ∀ (h : AH) (x0 : Nat) (r1 : Option Nat) (q : (Int32 × AH)), x_J21_compareTo_2 g N h x0 r1 = some q → CT g YJ21_compareTo_2 2 [.ref x0, va_rf r1] h (xI q) := by
  intro h x0 r1 q hq
  refine CT.of rfl (by decide +kernel) (loc := [some (.ref x0), some (va_rf r1)]) (by first | exact Nat.le_of_ble_eq_true rfl | (simp only [lgl_rf, lgl_i, lgl_j, lgl_ref, lgl_nil]; exact Nat.le_of_ble_eq_true rfl)) (by first | rfl | (simp only [aent_rf, aent_i, aent_j, aent_ref, aent_nil]; rfl)) ?_
  unfold x_J21_compareTo_2 at hq
  refine aw_aload_n (i := 0) dJ21_compareTo_2_0 rfl rfl trivial ?_
  replace hq := obind hq
  obtain ⟨i1, e2, hq⟩ := hq
  refine xw_getI e2 fJ21_205 dJ21_compareTo_2_1 ?_
  refine aw_aload_n (i := 1) dJ21_compareTo_2_4 rfl rfl (aIsR_rf _) ?_
  replace hq := obind hq
  obtain ⟨a3, e4, hq⟩ := hq
  subst e4
  replace hq := obind hq
  obtain ⟨i5, e6, hq⟩ := hq
  refine xw_getI e6 fJ21_205 dJ21_compareTo_2_5 ?_
  replace hq := obind hq
  obtain ⟨q7, e8, hq⟩ := hq
  refine aw_callS (Y2 := YJ21_compare) (As := [.int i1, .int i5]) (rest := []) kJ21_compare q1316 q1317 dJ21_compareTo_2_8 rfl rfl (ct_J21_compare g hst N h i1 i5 _ e8) (Nat.le_of_ble_eq_true rfl) (Nat.le_of_ble_eq_true rfl) (fun v9 h9 z9 y9 => ?_)
  obtain ⟨rfl, rfl⟩ := y9
  refine aw_st (st' := [.int q7.1]) rfl ?_
  cases hq
  exact aw_ireturn dJ21_compareTo_2_11 rfl rfl ⟨rfl, rfl⟩
theorem casjava_lang_Integer : ∀ c ∈ ([18] : List Nat), ∃ r : vw_C, aCl[c]? = some r ∧ (r.1 = "java/lang/Integer" ∨ Cond.castable r.1 "java/lang/Integer" ∈ lw_tbl) := by
  intro c hc
  simp only [List.mem_cons, List.not_mem_nil, or_false] at hc
  subst hc
  exact ⟨(RJ21, TJ21, 1), rfl, Or.inl rfl⟩
abbrev YJ21_compareTo : YC := (yJ21_compareTo, cJ21_compareTo, 2, (some .int), [])
theorem kJ21_compareTo : aMk YJ21_compareTo 1 := ⟨rfl, q1311, q143, ⟨by decide +kernel, by decide +kernel, by decide +kernel⟩, Nat.le_of_ble_eq_true rfl⟩
def x_J21_compareTo (g : AG) (N : Nat) (h : AH) (x0 : Nat) (r1 : Option Nat) : Option (Int32 × AH) :=
  bif casB h r1 [18] then (bif clB h x0 [18] then ((x_J21_compareTo_2 g N h x0 r1).bind fun q3 => some (q3.1, q3.2)) else none) else none
theorem ct_J21_compareTo (g : AG) (hst : (gL g).stackTraces = false) (N : Nat) : ∀ (h : AH) (x0 : Nat) (r1 : Option Nat) (q : (Int32 × AH)), x_J21_compareTo g N h x0 r1 = some q → CT g YJ21_compareTo 3 [.ref x0, va_rf r1] h (xI q) := by
  intro h x0 r1 q hq
  refine CT.of rfl (by decide +kernel) (loc := [some (.ref x0), some (va_rf r1)]) (by first | exact Nat.le_of_ble_eq_true rfl | (simp only [lgl_rf, lgl_i, lgl_j, lgl_ref, lgl_nil]; exact Nat.le_of_ble_eq_true rfl)) (by first | rfl | (simp only [aent_rf, aent_i, aent_j, aent_ref, aent_nil]; rfl)) ?_
  unfold x_J21_compareTo at hq
  refine aw_aload_n (i := 0) dJ21_compareTo_0 rfl rfl trivial ?_
  refine aw_aload_n (i := 1) dJ21_compareTo_1 rfl rfl (aIsR_rf _) ?_
  replace hq := cond_t hq
  obtain ⟨z1, hq⟩ := hq
  refine xw_cast (r := r1) z1 q1245 casjava_lang_Integer dJ21_compareTo_2 ?_
  replace hq := cond_t hq
  obtain ⟨z2, hq⟩ := hq
  obtain ⟨fs9, ha9⟩ := clB1 z2
  replace hq := obind hq
  obtain ⟨q3, e4, hq⟩ := hq
  refine aw_callV (Y2 := YJ21_compareTo_2) (As := [va_rf r1]) (rest := []) (r := (RJ21, TJ21, 1)) kJ21_compareTo_2 ha9 rfl rfl q1312 q1313 q1314 dJ21_compareTo_5 rfl rfl (ct_J21_compareTo_2 g hst N h x0 r1 _ e4) (Nat.le_of_ble_eq_true rfl) (Nat.le_of_ble_eq_true rfl) (fun v9 h9 z9 y9 => ?_)
  obtain ⟨rfl, rfl⟩ := y9
  refine aw_st (st' := [.int q3.1]) rfl ?_
  cases hq
  exact aw_ireturn dJ21_compareTo_8 rfl rfl ⟨rfl, rfl⟩
theorem okJ21 : aCK (RJ21, TJ21, 1) tyJ21 := ⟨in_J21, tyJ21_ok, nmJ21⟩
theorem tJ21_0f : ∀ q ∈ ([(18, 0)] : List (Nat × Nat)), aFt q.1 q.2 true .int := by
  intro q hq
  simp only [List.mem_cons, List.not_mem_nil, or_false] at hq
  subst hq
  exact ⟨(RJ21, TJ21, 1), tyJ21, Nat.le_of_ble_eq_true rfl, rfl, Nat.le_of_ble_eq_true rfl, okJ21, rfl, rfl⟩
theorem gJ21_205 : ∀ q ∈ ([(18, 0)] : List (Nat × Nat)), ∃ r0 : vw_C, aCl[q.1]? = some r0 ∧ (r0.2.1 q.2).1 = RJ21 ∧ Cond.fieldLink RJ21 205 (r0.2.1 q.2).1 (r0.2.1 q.2).2.1 (r0.2.1 q.2).2.2.1 ∈ lw_all := by
  intro q hq
  simp only [List.mem_cons, List.not_mem_nil, or_false] at hq
  subst hq
  exact ⟨(RJ21, TJ21, 1), rfl, rfl, q1804⟩
abbrev YJ21_init : YC := (yJ21_init, cJ21_init, 2, none, [])
theorem kJ21_init : aMk YJ21_init 1 := ⟨rfl, q1799, q143, ⟨by decide +kernel, by decide +kernel, by decide +kernel⟩, Nat.le_of_ble_eq_true rfl⟩
def x_J21_init (g : AG) (N : Nat) (h : AH) (x0 : Nat) (x1 : Int32) : Option AH :=
  (x_J20_init g N h x0).bind fun q1 => (wrV g q1 x0 [(18, 0)] (.int x1)).bind fun h3 => some h3
theorem ct_J21_init (g : AG) (hst : (gL g).stackTraces = false) (N : Nat) : ∀ (h : AH) (x0 : Nat) (x1 : Int32) (q : AH), x_J21_init g N h x0 x1 = some q → CT g YJ21_init 4 [.ref x0, .int x1] h (xV q) := by
  intro h x0 x1 q hq
  refine CT.of rfl (by decide +kernel) (loc := [some (.ref x0), some (.int x1)]) (by first | exact Nat.le_of_ble_eq_true rfl | (simp only [lgl_rf, lgl_i, lgl_j, lgl_ref, lgl_nil]; exact Nat.le_of_ble_eq_true rfl)) (by first | rfl | (simp only [aent_rf, aent_i, aent_j, aent_ref, aent_nil]; rfl)) ?_
  unfold x_J21_init at hq
  refine aw_aload_n (i := 0) dJ21_init_0 rfl rfl trivial ?_
  replace hq := obind hq
  obtain ⟨q1, e2, hq⟩ := hq
  refine aw_callI (Y2 := YJ20_init) (As := []) (rest := []) (b := x0) kJ20_init rfl rfl q1800 q1801 dJ21_init_1 rfl rfl (ct_J20_init g hst N h x0 _ e2) (Nat.le_of_ble_eq_true rfl) (Nat.le_of_ble_eq_true rfl) (fun v9 h9 z9 y9 => ?_)
  obtain ⟨rfl, y9⟩ := y9
  rw [y9]
  refine aw_st (st' := []) rfl ?_
  refine aw_aload_n (i := 0) dJ21_init_4 rfl rfl trivial ?_
  refine aw_iload_n (i := 1) dJ21_init_5 rfl rfl ?_
  replace hq := obind hq
  obtain ⟨h3, e4, hq⟩ := hq
  refine xw_putF e4 fJ21_205 tJ21_0f rfl gJ21_205 ⟨rfl, rfl⟩ dJ21_init_6 ?_
  cases hq
  exact aw_vret dJ21_init_9 rfl ⟨rfl, rfl⟩
theorem dfJ21 : ∀ j, j < 1 → defaultValue (tyJ21 j) = vp_V [.int 0] j := by decide +kernel
abbrev YJ21_valueOf : YC := (yJ21_valueOf, cJ21_valueOf, 1, (some (.object "java/lang/Integer")), [])
theorem kJ21_valueOf : aMk YJ21_valueOf 1 := ⟨rfl, q1791, q143, ⟨by decide +kernel, by decide +kernel, by decide +kernel⟩, Nat.le_of_ble_eq_true rfl⟩
def x_J21_valueOf_23 (g : AG) (N : Nat) (h : AH) (x0 : Int32) : Option (Option Nat × AH) :=
  (mkO g h 1 18 [.int 0]).bind fun h2 => (x_J21_init g N h2 h.2.1 x0).bind fun q4 => some ((some h.2.1), q4)
theorem p_x_J21_valueOf_23 (g : AG) (hst : (gL g).stackTraces = false) (N : Nat) : ∀ (h : AH) (x0 : Int32) (q : (Option Nat × AH)), x_J21_valueOf_23 g N h x0 = some q → AW g YJ21_valueOf 5 (xR q) h [some (.int x0)] 23 [] := by
  intro h x0 q hq
  unfold x_J21_valueOf_23 at hq
  replace hq := obind hq
  obtain ⟨h2, e3, hq⟩ := hq
  refine xw_new (r := (RJ21, TJ21, 1)) e3 q1245 q1796 q143 (by decide) rfl okJ21 rfl dfJ21 dJ21_valueOf_23 ?_
  refine aw_dup dJ21_valueOf_26 rfl ?_
  refine aw_iload_n (i := 0) dJ21_valueOf_27 rfl rfl ?_
  replace hq := obind hq
  obtain ⟨q4, e5, hq⟩ := hq
  refine aw_callI (Y2 := YJ21_init) (As := [.int x0]) (rest := [.ref h.2.1]) (b := h.2.1) kJ21_init rfl rfl q1797 q1798 dJ21_valueOf_28 rfl rfl (ct_J21_init g hst N h2 h.2.1 x0 _ e5) (Nat.le_of_ble_eq_true rfl) (Nat.le_of_ble_eq_true rfl) (fun v9 h9 z9 y9 => ?_)
  obtain ⟨rfl, y9⟩ := y9
  rw [y9]
  refine aw_st (st' := [.ref h.2.1]) rfl ?_
  cases hq
  exact aw_areturn dJ21_valueOf_31 rfl (Or.inl ⟨_, rfl⟩) trivial ⟨rfl, rfl⟩
def x_J21_valueOf (g : AG) (N : Nat) (h : AH) (x0 : Int32) : Option (Option Nat × AH) :=
  if x0 < (-128 : Int32) then (x_J21_valueOf_23 g N  h x0) else ((vI (gV g 19)).bind fun i6 => if i6 < x0 then (x_J21_valueOf_23 g N  h x0) else ((vR (gV g 20)).bind fun o9 => (o9).bind fun a11 => (rdQ h a11 (x0 + (128 : Int32))).bind fun o13 => some (o13, h)))
theorem ct_J21_valueOf (g : AG) (hst : (gL g).stackTraces = false) (N : Nat) : ∀ (h : AH) (x0 : Int32) (q : (Option Nat × AH)), x_J21_valueOf g N h x0 = some q → CT g YJ21_valueOf 5 [.int x0] h (xR q) := by
  intro h x0 q hq
  refine CT.of rfl (by decide +kernel) (loc := [some (.int x0)]) (by first | exact Nat.le_of_ble_eq_true rfl | (simp only [lgl_rf, lgl_i, lgl_j, lgl_ref, lgl_nil]; exact Nat.le_of_ble_eq_true rfl)) (by first | rfl | (simp only [aent_rf, aent_i, aent_j, aent_ref, aent_nil]; rfl)) ?_
  unfold x_J21_valueOf at hq
  refine aw_iload_n (i := 0) dJ21_valueOf_0 rfl rfl ?_
  refine aw_bipush (v := (-128)) dJ21_valueOf_1 (by decide) ?_
  refine aw_icmp_lt (tgt := 23) dJ21_valueOf_3 (by decide) (fun c1 => ?_) (fun c1 => ?_)
  · rw [if_pos c1] at hq
    exact p_x_J21_valueOf_23 g hst N   h x0 _ hq
  · rw [if_neg c1] at hq
    refine aw_iload_n (i := 0) dJ21_valueOf_6 rfl rfl ?_
    replace hq := obind hq
    obtain ⟨i6, e7, hq⟩ := hq
    refine xw_gets (i := 19) (vI_eq e7) rfl q1792 dJ21_valueOf_7 rfl ?_
    refine aw_icmp_gt (tgt := 23) dJ21_valueOf_10 (by decide) (fun c8 => ?_) (fun c8 => ?_)
    · rw [if_pos c8] at hq
      exact p_x_J21_valueOf_23 g hst N   h x0 _ hq
    · rw [if_neg c8] at hq
      replace hq := obind hq
      obtain ⟨o9, e10, hq⟩ := hq
      refine xw_gets (i := 20) (vR_eq e10) rfl q1794 dJ21_valueOf_13 rfl ?_
      refine aw_iload_n (i := 0) dJ21_valueOf_16 rfl rfl ?_
      refine aw_sipush (v := 128) dJ21_valueOf_17 (by decide) ?_
      refine aw_iadd dJ21_valueOf_20 ?_
      replace hq := obind hq
      obtain ⟨a11, e12, hq⟩ := hq
      subst e12
      replace hq := obind hq
      obtain ⟨o13, e14, hq⟩ := hq
      refine xw_aald e14 dJ21_valueOf_21 ?_
      cases hq
      exact aw_areturn dJ21_valueOf_22 rfl (Or.inl ⟨_, rfl⟩) (aIsR_rf _) ⟨rfl, rfl⟩
theorem fJ22_7 : ∀ q ∈ ([(19, 0)] : List (Nat × Nat)), aFl RJ22 7 q.1 q.2 := by
  intro q hq
  simp only [List.mem_cons, List.not_mem_nil, or_false] at hq
  subst hq
  exact aFl.of (RX7, TX7, 1) rfl (Nat.le_of_ble_eq_true rfl) q2831
abbrev YJ22_ordinal : YC := (yJ22_ordinal, cJ22_ordinal, 1, (some .int), [])
theorem kJ22_ordinal : aMk YJ22_ordinal 0 := ⟨rfl, q1062, q145, ⟨by decide +kernel, by decide +kernel, by decide +kernel⟩, Nat.le_of_ble_eq_true rfl⟩
def x_J22_ordinal (g : AG) (N : Nat) (h : AH) (x0 : Nat) : Option (Int32 × AH) :=
  (rdI h x0 [(19, 0)]).bind fun i1 => some (i1, h)
theorem ct_J22_ordinal (g : AG) (hst : (gL g).stackTraces = false) (N : Nat) : ∀ (h : AH) (x0 : Nat) (q : (Int32 × AH)), x_J22_ordinal g N h x0 = some q → CT g YJ22_ordinal 1 [.ref x0] h (xI q) := by
  intro h x0 q hq
  refine CT.of rfl (by decide +kernel) (loc := [some (.ref x0)]) (by first | exact Nat.le_of_ble_eq_true rfl | (simp only [lgl_rf, lgl_i, lgl_j, lgl_ref, lgl_nil]; exact Nat.le_of_ble_eq_true rfl)) (by first | rfl | (simp only [aent_rf, aent_i, aent_j, aent_ref, aent_nil]; rfl)) ?_
  unfold x_J22_ordinal at hq
  refine aw_aload_n (i := 0) dJ22_ordinal_0 rfl rfl trivial ?_
  replace hq := obind hq
  obtain ⟨i1, e2, hq⟩ := hq
  refine xw_getI e2 fJ22_7 dJ22_ordinal_1 ?_
  cases hq
  exact aw_ireturn dJ22_ordinal_4 rfl rfl ⟨rfl, rfl⟩
abbrev YJ26_checkIndex : YC := (yJ26_checkIndex, cJ26_checkIndex, 2, (some .int), [])
theorem kJ26_checkIndex : aMk YJ26_checkIndex 2 := ⟨rfl, q2009, q153, ⟨by decide +kernel, by decide +kernel, by decide +kernel⟩, Nat.le_of_ble_eq_true rfl⟩
def x_J26_checkIndex (g : AG) (N : Nat) (h : AH) (x0 : Int32) (x1 : Int32) : Option (Int32 × AH) :=
  (x_J19_checkIndex g N h x0 x1 (none)).bind fun q1 => some (q1.1, q1.2)
theorem ct_J26_checkIndex (g : AG) (hst : (gL g).stackTraces = false) (N : Nat) : ∀ (h : AH) (x0 : Int32) (x1 : Int32) (q : (Int32 × AH)), x_J26_checkIndex g N h x0 x1 = some q → CT g YJ26_checkIndex 2 [.int x0, .int x1] h (xI q) := by
  intro h x0 x1 q hq
  refine CT.of rfl (by decide +kernel) (loc := [some (.int x0), some (.int x1)]) (by first | exact Nat.le_of_ble_eq_true rfl | (simp only [lgl_rf, lgl_i, lgl_j, lgl_ref, lgl_nil]; exact Nat.le_of_ble_eq_true rfl)) (by first | rfl | (simp only [aent_rf, aent_i, aent_j, aent_ref, aent_nil]; rfl)) ?_
  unfold x_J26_checkIndex at hq
  refine aw_iload_n (i := 0) dJ26_checkIndex_0 rfl rfl ?_
  refine aw_iload_n (i := 1) dJ26_checkIndex_1 rfl rfl ?_
  refine aw_null dJ26_checkIndex_2 ?_
  replace hq := obind hq
  obtain ⟨q1, e2, hq⟩ := hq
  refine aw_callS (Y2 := YJ19_checkIndex) (As := [.int x0, .int x1, .null]) (rest := []) kJ19_checkIndex q2010 q613 dJ26_checkIndex_3 rfl rfl (ct_J19_checkIndex g hst N h x0 x1 (none) _ e2) (Nat.le_of_ble_eq_true rfl) (Nat.le_of_ble_eq_true rfl) (fun v9 h9 z9 y9 => ?_)
  obtain ⟨rfl, rfl⟩ := y9
  refine aw_st (st' := [.int q1.1]) rfl ?_
  cases hq
  exact aw_ireturn dJ26_checkIndex_6 rfl rfl ⟨rfl, rfl⟩
abbrev YJ26_requireNonNull : YC := (yJ26_requireNonNull, cJ26_requireNonNull, 1, (some (.object "java/lang/Object")), [])
theorem kJ26_requireNonNull : aMk YJ26_requireNonNull 1 := ⟨rfl, q1515, q153, ⟨by decide +kernel, by decide +kernel, by decide +kernel⟩, Nat.le_of_ble_eq_true rfl⟩
def x_J26_requireNonNull (g : AG) (N : Nat) (h : AH) (r0 : Option Nat) : Option (Option Nat × AH) :=
  ocase r0 (none) (fun a1 => some ((some a1), h))
theorem ct_J26_requireNonNull (g : AG) (hst : (gL g).stackTraces = false) (N : Nat) : ∀ (h : AH) (r0 : Option Nat) (q : (Option Nat × AH)), x_J26_requireNonNull g N h r0 = some q → CT g YJ26_requireNonNull 1 [va_rf r0] h (xR q) := by
  intro h r0 q hq
  refine CT.of rfl (by decide +kernel) (loc := [some (va_rf r0)]) (by first | exact Nat.le_of_ble_eq_true rfl | (simp only [lgl_rf, lgl_i, lgl_j, lgl_ref, lgl_nil]; exact Nat.le_of_ble_eq_true rfl)) (by first | rfl | (simp only [aent_rf, aent_i, aent_j, aent_ref, aent_nil]; rfl)) ?_
  unfold x_J26_requireNonNull at hq
  refine aw_aload_n (i := 0) dJ26_requireNonNull_0 rfl rfl (aIsR_rf _) ?_
  rcases r0 with _ | a1
  · replace hq := ocase_n hq
    refine xw_ifnonN (tgt := 12) dJ26_requireNonNull_1 (by decide) ?_
    cases hq
  · replace hq := ocase_s hq
    refine xw_ifnonS (tgt := 12) dJ26_requireNonNull_1 (by decide) ?_
    refine aw_aload_n (i := 0) dJ26_requireNonNull_12 rfl rfl trivial ?_
    cases hq
    exact aw_areturn dJ26_requireNonNull_13 rfl (Or.inl ⟨_, rfl⟩) trivial ⟨rfl, rfl⟩
abbrev YJ2_init : YC := (yJ2_init, cJ2_init, 1, none, [])
theorem kJ2_init : aMk YJ2_init 0 := ⟨rfl, q259, q121, ⟨by decide +kernel, by decide +kernel, by decide +kernel⟩, Nat.le_of_ble_eq_true rfl⟩
def x_J2_init (g : AG) (N : Nat) (h : AH) (x0 : Nat) : Option AH :=
  some h
theorem ct_J2_init (g : AG) (hst : (gL g).stackTraces = false) (N : Nat) : ∀ (h : AH) (x0 : Nat) (q : AH), x_J2_init g N h x0 = some q → CT g YJ2_init 3 [.ref x0] h (xV q) := by
  intro h x0 q hq
  refine CT.of rfl (by decide +kernel) (loc := [some (.ref x0)]) (by first | exact Nat.le_of_ble_eq_true rfl | (simp only [lgl_rf, lgl_i, lgl_j, lgl_ref, lgl_nil]; exact Nat.le_of_ble_eq_true rfl)) (by first | rfl | (simp only [aent_rf, aent_i, aent_j, aent_ref, aent_nil]; rfl)) ?_
  unfold x_J2_init at hq
  refine aw_aload_n (i := 0) dJ2_init_0 rfl rfl trivial ?_
  refine aw_objInit q260 qObjI qObjC (by omega) (Nat.le_of_ble_eq_true rfl) dJ2_init_1 ?_
  cases hq
  exact aw_vret dJ2_init_4 rfl ⟨rfl, rfl⟩
theorem fJ30_9 : ∀ q ∈ ([(15, 5)] : List (Nat × Nat)), aFl RJ30 9 q.1 q.2 := by
  intro q hq
  simp only [List.mem_cons, List.not_mem_nil, or_false] at hq
  subst hq
  exact aFl.of (RJ30, TJ30, 6) rfl (Nat.le_of_ble_eq_true rfl) q1699
theorem okJ30 : aCK (RJ30, TJ30, 6) tyJ30 := ⟨in_J30, tyJ30_ok, nmJ30⟩
theorem tJ30_5 : ∀ q ∈ ([(15, 5)] : List (Nat × Nat)), aFt q.1 q.2 false .boolean := by
  intro q hq
  simp only [List.mem_cons, List.not_mem_nil, or_false] at hq
  subst hq
  exact ⟨(RJ30, TJ30, 6), tyJ30, Nat.le_of_ble_eq_true rfl, rfl, Nat.le_of_ble_eq_true rfl, okJ30, rfl, rfl⟩
theorem fJ30_15 : ∀ q ∈ ([(15, 0)] : List (Nat × Nat)), aFl RJ30 15 q.1 q.2 := by
  intro q hq
  simp only [List.mem_cons, List.not_mem_nil, or_false] at hq
  subst hq
  exact aFl.of (RJ30, TJ30, 6) rfl (Nat.le_of_ble_eq_true rfl) q1691
theorem tJ30_0 : ∀ q ∈ ([(15, 0)] : List (Nat × Nat)), aFt q.1 q.2 false (.object "java/lang/Object") := by
  intro q hq
  simp only [List.mem_cons, List.not_mem_nil, or_false] at hq
  subst hq
  exact ⟨(RJ30, TJ30, 6), tyJ30, Nat.le_of_ble_eq_true rfl, rfl, Nat.le_of_ble_eq_true rfl, okJ30, rfl, rfl⟩
theorem fJ30_19 : ∀ q ∈ ([(15, 1)] : List (Nat × Nat)), aFl RJ30 19 q.1 q.2 := by
  intro q hq
  simp only [List.mem_cons, List.not_mem_nil, or_false] at hq
  subst hq
  exact aFl.of (RJ30, TJ30, 6) rfl (Nat.le_of_ble_eq_true rfl) q1693
theorem tJ30_1 : ∀ q ∈ ([(15, 1)] : List (Nat × Nat)), aFt q.1 q.2 false (.object "java/lang/Object") := by
  intro q hq
  simp only [List.mem_cons, List.not_mem_nil, or_false] at hq
  subst hq
  exact ⟨(RJ30, TJ30, 6), tyJ30, Nat.le_of_ble_eq_true rfl, rfl, Nat.le_of_ble_eq_true rfl, okJ30, rfl, rfl⟩
theorem fJ30_22 : ∀ q ∈ ([(15, 4)] : List (Nat × Nat)), aFl RJ30 22 q.1 q.2 := by
  intro q hq
  simp only [List.mem_cons, List.not_mem_nil, or_false] at hq
  subst hq
  exact aFl.of (RJ30, TJ30, 6) rfl (Nat.le_of_ble_eq_true rfl) q1697
theorem tJ30_4 : ∀ q ∈ ([(15, 4)] : List (Nat × Nat)), aFt q.1 q.2 false (.object "java/util/TreeMap$Entry") := by
  intro q hq
  simp only [List.mem_cons, List.not_mem_nil, or_false] at hq
  subst hq
  exact ⟨(RJ30, TJ30, 6), tyJ30, Nat.le_of_ble_eq_true rfl, rfl, Nat.le_of_ble_eq_true rfl, okJ30, rfl, rfl⟩
abbrev YJ30_init : YC := (yJ30_init, cJ30_init, 4, none, [])
theorem kJ30_init : aMk YJ30_init 3 := ⟨rfl, q1689, q157, ⟨by decide +kernel, by decide +kernel, by decide +kernel⟩, Nat.le_of_ble_eq_true rfl⟩
def x_J30_init (g : AG) (N : Nat) (h : AH) (x0 : Nat) (r1 : Option Nat) (r2 : Option Nat) (r3 : Option Nat) : Option AH :=
  (wrV g h x0 [(15, 5)] (.int (1 : Int32))).bind fun h1 => (wrV g h1 x0 [(15, 0)] (va_rf r1)).bind fun h3 => (wrV g h3 x0 [(15, 1)] (va_rf r2)).bind fun h5 => (wrV g h5 x0 [(15, 4)] (va_rf r3)).bind fun h7 => some h7
theorem ct_J30_init (g : AG) (hst : (gL g).stackTraces = false) (N : Nat) : ∀ (h : AH) (x0 : Nat) (r1 : Option Nat) (r2 : Option Nat) (r3 : Option Nat) (q : AH), x_J30_init g N h x0 r1 r2 r3 = some q → CT g YJ30_init 3 [.ref x0, va_rf r1, va_rf r2, va_rf r3] h (xV q) := by
  intro h x0 r1 r2 r3 q hq
  refine CT.of rfl (by decide +kernel) (loc := [some (.ref x0), some (va_rf r1), some (va_rf r2), some (va_rf r3)]) (by first | exact Nat.le_of_ble_eq_true rfl | (simp only [lgl_rf, lgl_i, lgl_j, lgl_ref, lgl_nil]; exact Nat.le_of_ble_eq_true rfl)) (by first | rfl | (simp only [aent_rf, aent_i, aent_j, aent_ref, aent_nil]; rfl)) ?_
  unfold x_J30_init at hq
  refine aw_aload_n (i := 0) dJ30_init_0 rfl rfl trivial ?_
  refine aw_objInit q1690 qObjI qObjC (by omega) (Nat.le_of_ble_eq_true rfl) dJ30_init_1 ?_
  refine aw_aload_n (i := 0) dJ30_init_4 rfl rfl trivial ?_
  refine aw_iconst (v := 1) dJ30_init_5 (by decide) ?_
  replace hq := obind hq
  obtain ⟨h1, e2, hq⟩ := hq
  refine xw_put e2 fJ30_9 tJ30_5 (isb_ok (by decide)) dJ30_init_6 ?_
  refine aw_aload_n (i := 0) dJ30_init_9 rfl rfl trivial ?_
  refine aw_aload_n (i := 1) dJ30_init_10 rfl rfl (aIsR_rf _) ?_
  replace hq := obind hq
  obtain ⟨h3, e4, hq⟩ := hq
  refine xw_put e4 fJ30_15 tJ30_0 (fits_rf _ r1) dJ30_init_11 ?_
  refine aw_aload_n (i := 0) dJ30_init_14 rfl rfl trivial ?_
  refine aw_aload_n (i := 2) dJ30_init_15 rfl rfl (aIsR_rf _) ?_
  replace hq := obind hq
  obtain ⟨h5, e6, hq⟩ := hq
  refine xw_put e6 fJ30_19 tJ30_1 (fits_rf _ r2) dJ30_init_16 ?_
  refine aw_aload_n (i := 0) dJ30_init_19 rfl rfl trivial ?_
  refine aw_aload_n (i := 3) dJ30_init_20 rfl rfl (aIsR_rf _) ?_
  replace hq := obind hq
  obtain ⟨h7, e8, hq⟩ := hq
  refine xw_put e8 fJ30_22 tJ30_4 (fits_rf _ r3) dJ30_init_21 ?_
  cases hq
  exact aw_vret dJ30_init_24 rfl ⟨rfl, rfl⟩
abbrev YJ33_init : YC := (yJ33_init, cJ33_init, 1, none, [])
theorem kJ33_init : aMk YJ33_init 0 := ⟨rfl, q2061, q162, ⟨by decide +kernel, by decide +kernel, by decide +kernel⟩, Nat.le_of_ble_eq_true rfl⟩
def x_J33_init (g : AG) (N : Nat) (h : AH) (x0 : Nat) : Option AH :=
  some h
theorem ct_J33_init (g : AG) (hst : (gL g).stackTraces = false) (N : Nat) : ∀ (h : AH) (x0 : Nat) (q : AH), x_J33_init g N h x0 = some q → CT g YJ33_init 3 [.ref x0] h (xV q) := by
  intro h x0 q hq
  refine CT.of rfl (by decide +kernel) (loc := [some (.ref x0)]) (by first | exact Nat.le_of_ble_eq_true rfl | (simp only [lgl_rf, lgl_i, lgl_j, lgl_ref, lgl_nil]; exact Nat.le_of_ble_eq_true rfl)) (by first | rfl | (simp only [aent_rf, aent_i, aent_j, aent_ref, aent_nil]; rfl)) ?_
  unfold x_J33_init at hq
  refine aw_aload_n (i := 0) dJ33_init_0 rfl rfl trivial ?_
  refine aw_objInit q2062 qObjI qObjC (by omega) (Nat.le_of_ble_eq_true rfl) dJ33_init_1 ?_
  cases hq
  exact aw_vret dJ33_init_4 rfl ⟨rfl, rfl⟩
theorem fJ3_7 : ∀ q ∈ ([(13, 0)] : List (Nat × Nat)), aFl RJ3 7 q.1 q.2 := by
  intro q hq
  simp only [List.mem_cons, List.not_mem_nil, or_false] at hq
  subst hq
  exact aFl.of (RJ4, TJ4, 3) rfl (Nat.le_of_ble_eq_true rfl) q265
theorem okJ4 : aCK (RJ4, TJ4, 3) tyJ4 := ⟨in_J4, tyJ4_ok, nmJ4⟩
theorem tJ4_0 : ∀ q ∈ ([(13, 0)] : List (Nat × Nat)), aFt q.1 q.2 false .int := by
  intro q hq
  simp only [List.mem_cons, List.not_mem_nil, or_false] at hq
  subst hq
  exact ⟨(RJ4, TJ4, 3), tyJ4, Nat.le_of_ble_eq_true rfl, rfl, Nat.le_of_ble_eq_true rfl, okJ4, rfl, rfl⟩
abbrev YJ3_init : YC := (yJ3_init, cJ3_init, 1, none, [])
theorem kJ3_init : aMk YJ3_init 0 := ⟨rfl, q256, q122, ⟨by decide +kernel, by decide +kernel, by decide +kernel⟩, Nat.le_of_ble_eq_true rfl⟩
def x_J3_init (g : AG) (N : Nat) (h : AH) (x0 : Nat) : Option AH :=
  (x_J2_init g N h x0).bind fun q1 => (wrV g q1 x0 [(13, 0)] (.int (0 : Int32))).bind fun h3 => some h3
theorem ct_J3_init (g : AG) (hst : (gL g).stackTraces = false) (N : Nat) : ∀ (h : AH) (x0 : Nat) (q : AH), x_J3_init g N h x0 = some q → CT g YJ3_init 4 [.ref x0] h (xV q) := by
  intro h x0 q hq
  refine CT.of rfl (by decide +kernel) (loc := [some (.ref x0)]) (by first | exact Nat.le_of_ble_eq_true rfl | (simp only [lgl_rf, lgl_i, lgl_j, lgl_ref, lgl_nil]; exact Nat.le_of_ble_eq_true rfl)) (by first | rfl | (simp only [aent_rf, aent_i, aent_j, aent_ref, aent_nil]; rfl)) ?_
  unfold x_J3_init at hq
  refine aw_aload_n (i := 0) dJ3_init_0 rfl rfl trivial ?_
  replace hq := obind hq
  obtain ⟨q1, e2, hq⟩ := hq
  refine aw_callI (Y2 := YJ2_init) (As := []) (rest := []) (b := x0) kJ2_init rfl rfl q257 q258 dJ3_init_1 rfl rfl (ct_J2_init g hst N h x0 _ e2) (Nat.le_of_ble_eq_true rfl) (Nat.le_of_ble_eq_true rfl) (fun v9 h9 z9 y9 => ?_)
  obtain ⟨rfl, y9⟩ := y9
  rw [y9]
  refine aw_st (st' := []) rfl ?_
  refine aw_aload_n (i := 0) dJ3_init_4 rfl rfl trivial ?_
  refine aw_iconst (v := 0) dJ3_init_5 (by decide) ?_
  replace hq := obind hq
  obtain ⟨h3, e4, hq⟩ := hq
  refine xw_put e4 fJ3_7 tJ4_0 ⟨rfl, rfl⟩ dJ3_init_6 ?_
  cases hq
  exact aw_vret dJ3_init_9 rfl ⟨rfl, rfl⟩
theorem fJ4_9 : ∀ q ∈ ([(13, 1)] : List (Nat × Nat)), aFl RJ4 9 q.1 q.2 := by
  intro q hq
  simp only [List.mem_cons, List.not_mem_nil, or_false] at hq
  subst hq
  exact aFl.of (RJ4, TJ4, 3) rfl (Nat.le_of_ble_eq_true rfl) q263
theorem tJ4_1 : ∀ q ∈ ([(13, 1)] : List (Nat × Nat)), aFt q.1 q.2 false (.array (.object "java/lang/Object")) := by
  intro q hq
  simp only [List.mem_cons, List.not_mem_nil, or_false] at hq
  subst hq
  exact ⟨(RJ4, TJ4, 3), tyJ4, Nat.le_of_ble_eq_true rfl, rfl, Nat.le_of_ble_eq_true rfl, okJ4, rfl, rfl⟩
abbrev YJ4_grow_2 : YC := (yJ4_grow_2, cJ4_grow_2, 4, (some (.array (.object "java/lang/Object"))), [])
theorem kJ4_grow_2 : aMk YJ4_grow_2 1 := ⟨rfl, q990, q123, ⟨by decide +kernel, by decide +kernel, by decide +kernel⟩, Nat.le_of_ble_eq_true rfl⟩
def x_J4_grow_2_20 (g : AG) (N : Nat) (h : AH) (x0 : Nat) (x1 : Int32) (x2 : Int32) : Option (Option Nat × AH) :=
  (x_J15_newLength g N h x2 (x1 - x2) (x2 >>> ((1 : Int32) &&& 31))).bind fun q8 => (rdR q8.2 x0 [(13, 1)]).bind fun o10 => (x_J17_copyOf_2 g N q8.2 o10 q8.1).bind fun q12 => (wrV g q12.2 x0 [(13, 1)] (va_rf q12.1)).bind fun h14 => some (q12.1, h14)
theorem p_x_J4_grow_2_20 (g : AG) (hst : (gL g).stackTraces = false) (N : Nat) : ∀ (h : AH) (x0 : Nat) (x1 : Int32) (x2 : Int32) (q : (Option Nat × AH)), x_J4_grow_2_20 g N h x0 x1 x2 = some q → AW g YJ4_grow_2 5 (xR q) h [some (.ref x0), some (.int x1), some (.int x2), none] 20 [] := by
  intro h x0 x1 x2 q hq
  unfold x_J4_grow_2_20 at hq
  refine aw_iload_n (i := 2) dJ4_grow_2_20 rfl rfl ?_
  refine aw_iload_n (i := 1) dJ4_grow_2_21 rfl rfl ?_
  refine aw_iload_n (i := 2) dJ4_grow_2_22 rfl rfl ?_
  refine aw_isub dJ4_grow_2_23 ?_
  refine aw_iload_n (i := 2) dJ4_grow_2_24 rfl rfl ?_
  refine aw_iconst (v := 1) dJ4_grow_2_25 (by decide) ?_
  refine aw_ishr dJ4_grow_2_26 ?_
  replace hq := obind hq
  obtain ⟨q8, e9, hq⟩ := hq
  refine aw_callS (Y2 := YJ15_newLength) (As := [.int x2, .int (x1 - x2), .int (x2 >>> ((1 : Int32) &&& 31))]) (rest := []) kJ15_newLength q991 q536 dJ4_grow_2_27 rfl rfl (ct_J15_newLength g hst N h x2 (x1 - x2) (x2 >>> ((1 : Int32) &&& 31)) _ e9) (Nat.le_of_ble_eq_true rfl) (Nat.le_of_ble_eq_true rfl) (fun v9 h9 z9 y9 => ?_)
  obtain ⟨rfl, rfl⟩ := y9
  refine aw_st (st' := [.int q8.1]) rfl ?_
  refine aw_istore_n (i := 3) (loc' := [some (.ref x0), some (.int x1), some (.int x2), some (.int q8.1)]) dJ4_grow_2_30 rfl (Nat.le_of_ble_eq_true rfl) rfl ?_
  refine aw_aload_n (i := 0) dJ4_grow_2_31 rfl rfl trivial ?_
  refine aw_aload_n (i := 0) dJ4_grow_2_32 rfl rfl trivial ?_
  replace hq := obind hq
  obtain ⟨o10, e11, hq⟩ := hq
  refine xw_getR e11 fJ4_9 dJ4_grow_2_33 ?_
  refine aw_iload_n (i := 3) dJ4_grow_2_36 rfl rfl ?_
  replace hq := obind hq
  obtain ⟨q12, e13, hq⟩ := hq
  refine aw_callS (Y2 := YJ17_copyOf_2) (As := [va_rf o10, .int q8.1]) (rest := [.ref x0]) kJ17_copyOf_2 q992 q993 dJ4_grow_2_37 rfl rfl (ct_J17_copyOf_2 g hst N q8.2 o10 q8.1 _ e13) (Nat.le_of_ble_eq_true rfl) (Nat.le_of_ble_eq_true rfl) (fun v9 h9 z9 y9 => ?_)
  obtain ⟨rfl, rfl⟩ := y9
  refine aw_st (st' := [va_rf q12.1, .ref x0]) rfl ?_
  refine aw_dup_x1 dJ4_grow_2_40 (cat_rf _) rfl ?_
  replace hq := obind hq
  obtain ⟨h14, e15, hq⟩ := hq
  refine xw_put e15 fJ4_9 tJ4_1 (fits_rfA _ q12.1) dJ4_grow_2_41 ?_
  cases hq
  exact aw_areturn dJ4_grow_2_44 rfl (Or.inr ⟨_, rfl⟩) (aIsR_rf _) ⟨rfl, rfl⟩
def x_J4_grow_2 (g : AG) (N : Nat) (h : AH) (x0 : Nat) (x1 : Int32) : Option (Option Nat × AH) :=
  (rdR h x0 [(13, 1)]).bind fun o1 => (o1).bind fun a3 => (rdN h a3).bind fun i5 => if 0 < i5 then (x_J4_grow_2_20 g N  h x0 x1 i5) else ((rdR h x0 [(13, 1)]).bind fun o16 => (vR (gV g 17)).bind fun o18 => if o16 = o18 then ((mkA g h 4 (if (10 : Int32) < x1 then x1 else (10 : Int32)) .null).bind fun h21 => (wrV g h21 x0 [(13, 1)] (.ref h.2.1)).bind fun h23 => some ((some h.2.1), h23)) else (x_J4_grow_2_20 g N  h x0 x1 i5))
theorem ct_J4_grow_2 (g : AG) (hst : (gL g).stackTraces = false) (N : Nat) : ∀ (h : AH) (x0 : Nat) (x1 : Int32) (q : (Option Nat × AH)), x_J4_grow_2 g N h x0 x1 = some q → CT g YJ4_grow_2 5 [.ref x0, .int x1] h (xR q) := by
  intro h x0 x1 q hq
  refine CT.of rfl (by decide +kernel) (loc := [some (.ref x0), some (.int x1), none, none]) (by first | exact Nat.le_of_ble_eq_true rfl | (simp only [lgl_rf, lgl_i, lgl_j, lgl_ref, lgl_nil]; exact Nat.le_of_ble_eq_true rfl)) (by first | rfl | (simp only [aent_rf, aent_i, aent_j, aent_ref, aent_nil]; rfl)) ?_
  unfold x_J4_grow_2 at hq
  refine aw_aload_n (i := 0) dJ4_grow_2_0 rfl rfl trivial ?_
  replace hq := obind hq
  obtain ⟨o1, e2, hq⟩ := hq
  refine xw_getR e2 fJ4_9 dJ4_grow_2_1 ?_
  replace hq := obind hq
  obtain ⟨a3, e4, hq⟩ := hq
  subst e4
  replace hq := obind hq
  obtain ⟨i5, e6, hq⟩ := hq
  refine xw_alen e6 dJ4_grow_2_4 ?_
  refine aw_istore_n (i := 2) (loc' := [some (.ref x0), some (.int x1), some (.int i5), none]) dJ4_grow_2_5 rfl (Nat.le_of_ble_eq_true rfl) rfl ?_
  refine aw_iload_n (i := 2) dJ4_grow_2_6 rfl rfl ?_
  refine aw_if_gt (tgt := 20) dJ4_grow_2_7 (by decide) (fun c7 => ?_) (fun c7 => ?_)
  · rw [if_pos c7] at hq
    exact p_x_J4_grow_2_20 g hst N   h x0 x1 i5 _ hq
  · rw [if_neg c7] at hq
    refine aw_aload_n (i := 0) dJ4_grow_2_10 rfl rfl trivial ?_
    replace hq := obind hq
    obtain ⟨o16, e17, hq⟩ := hq
    refine xw_getR e17 fJ4_9 dJ4_grow_2_11 ?_
    replace hq := obind hq
    obtain ⟨o18, e19, hq⟩ := hq
    refine xw_gets (i := 17) (vR_eq e19) rfl q261 dJ4_grow_2_14 rfl ?_
    refine xw_acmp_eq (v := o16) (w := o18) (tgt := 45) dJ4_grow_2_17 (by decide) (fun c20 => ?_) (fun c20 => ?_)
    · rw [if_pos c20] at hq
      refine aw_aload_n (i := 0) dJ4_grow_2_45 rfl rfl trivial ?_
      refine aw_bipush (v := 10) dJ4_grow_2_46 (by decide) ?_
      refine aw_iload_n (i := 1) dJ4_grow_2_48 rfl rfl ?_
      refine aw_mmax q1030 (by omega) (Nat.le_of_ble_eq_true rfl) dJ4_grow_2_49 ?_
      replace hq := obind hq
      obtain ⟨h21, e22, hq⟩ := hq
      refine xw_anew e22 q881 q882 rfl (by decide) dJ4_grow_2_52 ?_
      refine aw_dup_x1 dJ4_grow_2_55 rfl rfl ?_
      replace hq := obind hq
      obtain ⟨h23, e24, hq⟩ := hq
      refine xw_put e24 fJ4_9 tJ4_1 (fits_rfA _ (some h.2.1)) dJ4_grow_2_56 ?_
      cases hq
      exact aw_areturn dJ4_grow_2_59 rfl (Or.inr ⟨_, rfl⟩) trivial ⟨rfl, rfl⟩
    · rw [if_neg c20] at hq
      exact p_x_J4_grow_2_20 g hst N   h x0 x1 i5 _ hq
theorem fJ4_48 : ∀ q ∈ ([(13, 2)] : List (Nat × Nat)), aFl RJ4 48 q.1 q.2 := by
  intro q hq
  simp only [List.mem_cons, List.not_mem_nil, or_false] at hq
  subst hq
  exact aFl.of (RJ4, TJ4, 3) rfl (Nat.le_of_ble_eq_true rfl) q264
abbrev YJ4_grow : YC := (yJ4_grow, cJ4_grow, 1, (some (.array (.object "java/lang/Object"))), [])
theorem kJ4_grow : aMk YJ4_grow 0 := ⟨rfl, q986, q123, ⟨by decide +kernel, by decide +kernel, by decide +kernel⟩, Nat.le_of_ble_eq_true rfl⟩
def x_J4_grow (g : AG) (N : Nat) (h : AH) (x0 : Nat) : Option (Option Nat × AH) :=
  (rdI h x0 [(13, 2)]).bind fun i1 => bif clB h x0 [13] then ((x_J4_grow_2 g N h x0 (i1 + (1 : Int32))).bind fun q4 => some (q4.1, q4.2)) else none
theorem ct_J4_grow (g : AG) (hst : (gL g).stackTraces = false) (N : Nat) : ∀ (h : AH) (x0 : Nat) (q : (Option Nat × AH)), x_J4_grow g N h x0 = some q → CT g YJ4_grow 6 [.ref x0] h (xR q) := by
  intro h x0 q hq
  refine CT.of rfl (by decide +kernel) (loc := [some (.ref x0)]) (by first | exact Nat.le_of_ble_eq_true rfl | (simp only [lgl_rf, lgl_i, lgl_j, lgl_ref, lgl_nil]; exact Nat.le_of_ble_eq_true rfl)) (by first | rfl | (simp only [aent_rf, aent_i, aent_j, aent_ref, aent_nil]; rfl)) ?_
  unfold x_J4_grow at hq
  refine aw_aload_n (i := 0) dJ4_grow_0 rfl rfl trivial ?_
  refine aw_aload_n (i := 0) dJ4_grow_1 rfl rfl trivial ?_
  replace hq := obind hq
  obtain ⟨i1, e2, hq⟩ := hq
  refine xw_getI e2 fJ4_48 dJ4_grow_2 ?_
  refine aw_iconst (v := 1) dJ4_grow_5 (by decide) ?_
  refine aw_iadd dJ4_grow_6 ?_
  replace hq := cond_t hq
  obtain ⟨z3, hq⟩ := hq
  obtain ⟨fs9, ha9⟩ := clB1 z3
  replace hq := obind hq
  obtain ⟨q4, e5, hq⟩ := hq
  refine aw_callV (Y2 := YJ4_grow_2) (As := [.int (i1 + (1 : Int32))]) (rest := []) (r := (RJ4, TJ4, 3)) kJ4_grow_2 ha9 rfl rfl q987 q989 qs21 dJ4_grow_7 rfl rfl (ct_J4_grow_2 g hst N h x0 (i1 + (1 : Int32)) _ e5) (Nat.le_of_ble_eq_true rfl) (Nat.le_of_ble_eq_true rfl) (fun v9 h9 z9 y9 => ?_)
  obtain ⟨rfl, rfl⟩ := y9
  refine aw_st (st' := [va_rf q4.1]) rfl ?_
  cases hq
  exact aw_areturn dJ4_grow_10 rfl (Or.inr ⟨_, rfl⟩) (aIsR_rf _) ⟨rfl, rfl⟩
theorem tJ4_2 : ∀ q ∈ ([(13, 2)] : List (Nat × Nat)), aFt q.1 q.2 false .int := by
  intro q hq
  simp only [List.mem_cons, List.not_mem_nil, or_false] at hq
  subst hq
  exact ⟨(RJ4, TJ4, 3), tyJ4, Nat.le_of_ble_eq_true rfl, rfl, Nat.le_of_ble_eq_true rfl, okJ4, rfl, rfl⟩
abbrev YJ4_add_2 : YC := (yJ4_add_2, cJ4_add_2, 4, none, [])
theorem kJ4_add_2 : aMk YJ4_add_2 3 := ⟨rfl, q982, q123, ⟨by decide +kernel, by decide +kernel, by decide +kernel⟩, Nat.le_of_ble_eq_true rfl⟩
def x_J4_add_2_11 (g : AG) (N : Nat) (h : AH) (x0 : Nat) (r1 : Option Nat) (r2 : Option Nat) (x3 : Int32) : Option AH :=
  (r2).bind fun a6 => (wrQ g h a6 x3 r1).bind fun h8 => (wrV g h8 x0 [(13, 2)] (.int (x3 + (1 : Int32)))).bind fun h10 => some h10
theorem p_x_J4_add_2_11 (g : AG) (hst : (gL g).stackTraces = false) (N : Nat) : ∀ (h : AH) (x0 : Nat) (r1 : Option Nat) (r2 : Option Nat) (x3 : Int32) (q : AH), x_J4_add_2_11 g N h x0 r1 r2 x3 = some q → AW g YJ4_add_2 7 (xV q) h [some (.ref x0), some (va_rf r1), some (va_rf r2), some (.int x3)] 11 [] := by
  intro h x0 r1 r2 x3 q hq
  unfold x_J4_add_2_11 at hq
  refine aw_aload_n (i := 2) dJ4_add_2_11 rfl rfl (aIsR_rf _) ?_
  refine aw_iload_n (i := 3) dJ4_add_2_12 rfl rfl ?_
  refine aw_aload_n (i := 1) dJ4_add_2_13 rfl rfl (aIsR_rf _) ?_
  replace hq := obind hq
  obtain ⟨a6, e7, hq⟩ := hq
  subst e7
  replace hq := obind hq
  obtain ⟨h8, e9, hq⟩ := hq
  refine xw_aast (v := r1) e9 dJ4_add_2_14 ?_
  refine aw_aload_n (i := 0) dJ4_add_2_15 rfl rfl trivial ?_
  refine aw_iload_n (i := 3) dJ4_add_2_16 rfl rfl ?_
  refine aw_iconst (v := 1) dJ4_add_2_17 (by decide) ?_
  refine aw_iadd dJ4_add_2_18 ?_
  replace hq := obind hq
  obtain ⟨h10, e11, hq⟩ := hq
  refine xw_put e11 fJ4_48 tJ4_2 ⟨rfl, rfl⟩ dJ4_add_2_19 ?_
  cases hq
  exact aw_vret dJ4_add_2_22 rfl ⟨rfl, rfl⟩
def x_J4_add_2 (g : AG) (N : Nat) (h : AH) (x0 : Nat) (r1 : Option Nat) (r2 : Option Nat) (x3 : Int32) : Option AH :=
  (r2).bind fun a1 => (rdN h a1).bind fun i3 => if x3 = i3 then (bif clB h x0 [13] then ((x_J4_grow g N h x0).bind fun q13 => x_J4_add_2_11 g N  q13.2 x0 r1 q13.1 x3) else none) else (x_J4_add_2_11 g N  h x0 r1 (some a1) x3)
theorem ct_J4_add_2 (g : AG) (hst : (gL g).stackTraces = false) (N : Nat) : ∀ (h : AH) (x0 : Nat) (r1 : Option Nat) (r2 : Option Nat) (x3 : Int32) (q : AH), x_J4_add_2 g N h x0 r1 r2 x3 = some q → CT g YJ4_add_2 7 [.ref x0, va_rf r1, va_rf r2, .int x3] h (xV q) := by
  intro h x0 r1 r2 x3 q hq
  refine CT.of rfl (by decide +kernel) (loc := [some (.ref x0), some (va_rf r1), some (va_rf r2), some (.int x3)]) (by first | exact Nat.le_of_ble_eq_true rfl | (simp only [lgl_rf, lgl_i, lgl_j, lgl_ref, lgl_nil]; exact Nat.le_of_ble_eq_true rfl)) (by first | rfl | (simp only [aent_rf, aent_i, aent_j, aent_ref, aent_nil]; rfl)) ?_
  unfold x_J4_add_2 at hq
  refine aw_iload_n (i := 3) dJ4_add_2_0 rfl rfl ?_
  refine aw_aload_n (i := 2) dJ4_add_2_1 rfl rfl (aIsR_rf _) ?_
  replace hq := obind hq
  obtain ⟨a1, e2, hq⟩ := hq
  subst e2
  replace hq := obind hq
  obtain ⟨i3, e4, hq⟩ := hq
  refine xw_alen e4 dJ4_add_2_2 ?_
  refine aw_icmp_ne (tgt := 11) dJ4_add_2_3 (by decide) (fun c5 => ?_) (fun c5 => ?_)
  · rw [if_neg c5] at hq
    exact p_x_J4_add_2_11 g hst N   h x0 r1 (some a1) x3 _ hq
  · rw [if_pos c5] at hq
    refine aw_aload_n (i := 0) dJ4_add_2_6 rfl rfl trivial ?_
    replace hq := cond_t hq
    obtain ⟨z12, hq⟩ := hq
    obtain ⟨fs9, ha9⟩ := clB1 z12
    replace hq := obind hq
    obtain ⟨q13, e14, hq⟩ := hq
    refine aw_callV (Y2 := YJ4_grow) (As := []) (rest := []) (r := (RJ4, TJ4, 3)) kJ4_grow ha9 rfl rfl q983 q985 qs20 dJ4_add_2_7 rfl rfl (ct_J4_grow g hst N h x0 _ e14) (Nat.le_of_ble_eq_true rfl) (Nat.le_of_ble_eq_true rfl) (fun v9 h9 z9 y9 => ?_)
    obtain ⟨rfl, rfl⟩ := y9
    refine aw_st (st' := [va_rf q13.1]) rfl ?_
    refine aw_astore_n (i := 2) (loc' := [some (.ref x0), some (va_rf r1), some (va_rf q13.1), some (.int x3)]) dJ4_add_2_10 rfl (Nat.le_of_ble_eq_true rfl) (aIsR_rf _) (aset1_rf rfl) ?_
    exact p_x_J4_add_2_11 g hst N   q13.2 x0 r1 q13.1 x3 _ hq
theorem fJ4_63 : ∀ q ∈ ([(13, 0)] : List (Nat × Nat)), aFl RJ4 63 q.1 q.2 := by
  intro q hq
  simp only [List.mem_cons, List.not_mem_nil, or_false] at hq
  subst hq
  exact aFl.ofS (ref := "java/util/ArrayList") (RJ4, TJ4, 3) rfl (Nat.le_of_ble_eq_true rfl) q266 q267
abbrev YJ4_add : YC := (yJ4_add, cJ4_add, 2, (some .boolean), [])
theorem kJ4_add : aMk YJ4_add 1 := ⟨rfl, q978, q123, ⟨by decide +kernel, by decide +kernel, by decide +kernel⟩, Nat.le_of_ble_eq_true rfl⟩
def x_J4_add (g : AG) (N : Nat) (h : AH) (x0 : Nat) (r1 : Option Nat) : Option (Int32 × AH) :=
  (rdI h x0 [(13, 0)]).bind fun i1 => (wrV g h x0 [(13, 0)] (.int (i1 + (1 : Int32)))).bind fun h3 => (rdR h3 x0 [(13, 1)]).bind fun o5 => (rdI h3 x0 [(13, 2)]).bind fun i7 => bif clB h3 x0 [13] then ((x_J4_add_2 g N h3 x0 r1 o5 i7).bind fun q10 => some ((1 : Int32), q10)) else none
theorem ct_J4_add (g : AG) (hst : (gL g).stackTraces = false) (N : Nat) : ∀ (h : AH) (x0 : Nat) (r1 : Option Nat) (q : (Int32 × AH)), x_J4_add g N h x0 r1 = some q → CT g YJ4_add 8 [.ref x0, va_rf r1] h (xI q) := by
  intro h x0 r1 q hq
  refine CT.of rfl (by decide +kernel) (loc := [some (.ref x0), some (va_rf r1)]) (by first | exact Nat.le_of_ble_eq_true rfl | (simp only [lgl_rf, lgl_i, lgl_j, lgl_ref, lgl_nil]; exact Nat.le_of_ble_eq_true rfl)) (by first | rfl | (simp only [aent_rf, aent_i, aent_j, aent_ref, aent_nil]; rfl)) ?_
  unfold x_J4_add at hq
  refine aw_aload_n (i := 0) dJ4_add_0 rfl rfl trivial ?_
  refine aw_dup dJ4_add_1 rfl ?_
  replace hq := obind hq
  obtain ⟨i1, e2, hq⟩ := hq
  refine xw_getI e2 fJ4_63 dJ4_add_2 ?_
  refine aw_iconst (v := 1) dJ4_add_5 (by decide) ?_
  refine aw_iadd dJ4_add_6 ?_
  replace hq := obind hq
  obtain ⟨h3, e4, hq⟩ := hq
  refine xw_put e4 fJ4_63 tJ4_0 ⟨rfl, rfl⟩ dJ4_add_7 ?_
  refine aw_aload_n (i := 0) dJ4_add_10 rfl rfl trivial ?_
  refine aw_aload_n (i := 1) dJ4_add_11 rfl rfl (aIsR_rf _) ?_
  refine aw_aload_n (i := 0) dJ4_add_12 rfl rfl trivial ?_
  replace hq := obind hq
  obtain ⟨o5, e6, hq⟩ := hq
  refine xw_getR e6 fJ4_9 dJ4_add_13 ?_
  refine aw_aload_n (i := 0) dJ4_add_16 rfl rfl trivial ?_
  replace hq := obind hq
  obtain ⟨i7, e8, hq⟩ := hq
  refine xw_getI e8 fJ4_48 dJ4_add_17 ?_
  replace hq := cond_t hq
  obtain ⟨z9, hq⟩ := hq
  obtain ⟨fs9, ha9⟩ := clB1 z9
  replace hq := obind hq
  obtain ⟨q10, e11, hq⟩ := hq
  refine aw_callV (Y2 := YJ4_add_2) (As := [va_rf r1, va_rf o5, .int i7]) (rest := []) (r := (RJ4, TJ4, 3)) kJ4_add_2 ha9 rfl rfl q979 q981 qs19 dJ4_add_20 rfl rfl (ct_J4_add_2 g hst N h3 x0 r1 o5 i7 _ e11) (Nat.le_of_ble_eq_true rfl) (Nat.le_of_ble_eq_true rfl) (fun v9 h9 z9 y9 => ?_)
  obtain ⟨rfl, y9⟩ := y9
  rw [y9]
  refine aw_st (st' := []) rfl ?_
  refine aw_iconst (v := 1) dJ4_add_23 (by decide) ?_
  cases hq
  exact aw_ireturn dJ4_add_24 rfl rfl ⟨rfl, rfl⟩
abbrev YJ4_clear : YC := (yJ4_clear, cJ4_clear, 4, none, [])
theorem kJ4_clear : aMk YJ4_clear 0 := ⟨rfl, q1937, q123, ⟨by decide +kernel, by decide +kernel, by decide +kernel⟩, Nat.le_of_ble_eq_true rfl⟩
def x_J4_clear_27 (g : AG) (N : Nat) : Nat → AH → Nat → Option Nat → Int32 → Int32 → Option AH
  | 0, _, _, _, _, _ => none
  | n9 + 1, h, x0, r1, x2, x3 =>
  if x2 ≤ x3 then (some h) else ((r1).bind fun a12 => (wrQ g h a12 x3 (none)).bind fun h14 => x_J4_clear_27 g N n9 h14 x0 (some a12) x2 (x3 + 1))
theorem p_x_J4_clear_27 (g : AG) (hst : (gL g).stackTraces = false) (N : Nat) : ∀ (n9 : Nat) (h : AH) (x0 : Nat) (r1 : Option Nat) (x2 : Int32) (x3 : Int32) (q : AH), x_J4_clear_27 g N n9 h x0 r1 x2 x3 = some q → AW g YJ4_clear 1 (xV q) h [some (.ref x0), some (va_rf r1), some (.int x2), some (.int x3)] 27 [] := by
  intro n9
  induction n9 with
  | zero =>
    intro h x0 r1 x2 x3 q hq
    cases hq
  | succ n9 ih =>
    intro h x0 r1 x2 x3 q hq
    rw [x_J4_clear_27] at hq
    refine aw_iload_n (i := 3) dJ4_clear_27 rfl rfl ?_
    refine aw_iload_n (i := 2) dJ4_clear_28 rfl rfl ?_
    refine aw_icmp_ge (tgt := 42) dJ4_clear_29 (by decide) (fun c11 => ?_) (fun c11 => ?_)
    · rw [if_pos c11] at hq
      cases hq
      exact aw_vret dJ4_clear_42 rfl ⟨rfl, rfl⟩
    · rw [if_neg c11] at hq
      refine aw_aload_n (i := 1) dJ4_clear_32 rfl rfl (aIsR_rf _) ?_
      refine aw_iload_n (i := 3) dJ4_clear_33 rfl rfl ?_
      refine aw_null dJ4_clear_34 ?_
      replace hq := obind hq
      obtain ⟨a12, e13, hq⟩ := hq
      subst e13
      replace hq := obind hq
      obtain ⟨h14, e15, hq⟩ := hq
      refine xw_aast (v := (none)) e15 dJ4_clear_35 ?_
      refine aw_iinc (v := x3 + 1) (loc' := [some (.ref x0), some (.ref a12), some (.int x2), some (.int (x3 + 1))]) dJ4_clear_36 rfl rfl (Nat.le_of_ble_eq_true rfl) rfl ?_
      refine aw_goto (tgt := 27) dJ4_clear_39 (by decide) ?_
      exact ih h14 x0 (some a12) x2 (x3 + 1) _ hq
def x_J4_clear (g : AG) (N : Nat) (h : AH) (x0 : Nat) : Option AH :=
  (rdI h x0 [(13, 0)]).bind fun i1 => (wrV g h x0 [(13, 0)] (.int (i1 + (1 : Int32)))).bind fun h3 => (rdR h3 x0 [(13, 1)]).bind fun o5 => (rdI h3 x0 [(13, 2)]).bind fun i7 => (wrV g h3 x0 [(13, 2)] (.int (0 : Int32))).bind fun h9 => x_J4_clear_27 g N  N h9 x0 o5 i7 (0 : Int32)
theorem ct_J4_clear (g : AG) (hst : (gL g).stackTraces = false) (N : Nat) : ∀ (h : AH) (x0 : Nat) (q : AH), x_J4_clear g N h x0 = some q → CT g YJ4_clear 1 [.ref x0] h (xV q) := by
  intro h x0 q hq
  refine CT.of rfl (by decide +kernel) (loc := [some (.ref x0), none, none, none]) (by first | exact Nat.le_of_ble_eq_true rfl | (simp only [lgl_rf, lgl_i, lgl_j, lgl_ref, lgl_nil]; exact Nat.le_of_ble_eq_true rfl)) (by first | rfl | (simp only [aent_rf, aent_i, aent_j, aent_ref, aent_nil]; rfl)) ?_
  unfold x_J4_clear at hq
  refine aw_aload_n (i := 0) dJ4_clear_0 rfl rfl trivial ?_
  refine aw_dup dJ4_clear_1 rfl ?_
  replace hq := obind hq
  obtain ⟨i1, e2, hq⟩ := hq
  refine xw_getI e2 fJ4_63 dJ4_clear_2 ?_
  refine aw_iconst (v := 1) dJ4_clear_5 (by decide) ?_
  refine aw_iadd dJ4_clear_6 ?_
  replace hq := obind hq
  obtain ⟨h3, e4, hq⟩ := hq
  refine xw_put e4 fJ4_63 tJ4_0 ⟨rfl, rfl⟩ dJ4_clear_7 ?_
  refine aw_aload_n (i := 0) dJ4_clear_10 rfl rfl trivial ?_
  replace hq := obind hq
  obtain ⟨o5, e6, hq⟩ := hq
  refine xw_getR e6 fJ4_9 dJ4_clear_11 ?_
  refine aw_astore_n (i := 1) (loc' := [some (.ref x0), some (va_rf o5), none, none]) dJ4_clear_14 rfl (Nat.le_of_ble_eq_true rfl) (aIsR_rf _) rfl ?_
  refine aw_aload_n (i := 0) dJ4_clear_15 rfl rfl trivial ?_
  replace hq := obind hq
  obtain ⟨i7, e8, hq⟩ := hq
  refine xw_getI e8 fJ4_48 dJ4_clear_16 ?_
  refine aw_istore_n (i := 2) (loc' := [some (.ref x0), some (va_rf o5), some (.int i7), none]) dJ4_clear_19 rfl (Nat.le_of_ble_eq_true rfl) (aset1_rf rfl) ?_
  refine aw_aload_n (i := 0) dJ4_clear_20 rfl rfl trivial ?_
  refine aw_iconst (v := 0) dJ4_clear_21 (by decide) ?_
  refine aw_dup_x1 dJ4_clear_22 rfl rfl ?_
  replace hq := obind hq
  obtain ⟨h9, e10, hq⟩ := hq
  refine xw_put e10 fJ4_48 tJ4_2 ⟨rfl, rfl⟩ dJ4_clear_23 ?_
  refine aw_istore_n (i := 3) (loc' := [some (.ref x0), some (va_rf o5), some (.int i7), some (.int (0 : Int32))]) dJ4_clear_26 rfl (Nat.le_of_ble_eq_true rfl) rfl ?_
  exact p_x_J4_clear_27 g hst N   N h9 x0 o5 i7 (0 : Int32) _ hq
abbrev YJ4_elementData : YC := (yJ4_elementData, cJ4_elementData, 2, (some (.object "java/lang/Object")), [])
theorem kJ4_elementData : aMk YJ4_elementData 1 := ⟨rfl, q2014, q123, ⟨by decide +kernel, by decide +kernel, by decide +kernel⟩, Nat.le_of_ble_eq_true rfl⟩
def x_J4_elementData (g : AG) (N : Nat) (h : AH) (x0 : Nat) (x1 : Int32) : Option (Option Nat × AH) :=
  (rdR h x0 [(13, 1)]).bind fun o1 => (o1).bind fun a3 => (rdQ h a3 x1).bind fun o5 => some (o5, h)
theorem ct_J4_elementData (g : AG) (hst : (gL g).stackTraces = false) (N : Nat) : ∀ (h : AH) (x0 : Nat) (x1 : Int32) (q : (Option Nat × AH)), x_J4_elementData g N h x0 x1 = some q → CT g YJ4_elementData 1 [.ref x0, .int x1] h (xR q) := by
  intro h x0 x1 q hq
  refine CT.of rfl (by decide +kernel) (loc := [some (.ref x0), some (.int x1)]) (by first | exact Nat.le_of_ble_eq_true rfl | (simp only [lgl_rf, lgl_i, lgl_j, lgl_ref, lgl_nil]; exact Nat.le_of_ble_eq_true rfl)) (by first | rfl | (simp only [aent_rf, aent_i, aent_j, aent_ref, aent_nil]; rfl)) ?_
  unfold x_J4_elementData at hq
  refine aw_aload_n (i := 0) dJ4_elementData_0 rfl rfl trivial ?_
  replace hq := obind hq
  obtain ⟨o1, e2, hq⟩ := hq
  refine xw_getR e2 fJ4_9 dJ4_elementData_1 ?_
  refine aw_iload_n (i := 1) dJ4_elementData_4 rfl rfl ?_
  replace hq := obind hq
  obtain ⟨a3, e4, hq⟩ := hq
  subst e4
  replace hq := obind hq
  obtain ⟨o5, e6, hq⟩ := hq
  refine xw_aald e6 dJ4_elementData_5 ?_
  cases hq
  exact aw_areturn dJ4_elementData_6 rfl (Or.inl ⟨_, rfl⟩) (aIsR_rf _) ⟨rfl, rfl⟩
abbrev YJ4_get : YC := (yJ4_get, cJ4_get, 2, (some (.object "java/lang/Object")), [])
theorem kJ4_get : aMk YJ4_get 1 := ⟨rfl, q2006, q123, ⟨by decide +kernel, by decide +kernel, by decide +kernel⟩, Nat.le_of_ble_eq_true rfl⟩
def x_J4_get (g : AG) (N : Nat) (h : AH) (x0 : Nat) (x1 : Int32) : Option (Option Nat × AH) :=
  (rdI h x0 [(13, 2)]).bind fun i1 => (x_J26_checkIndex g N h x1 i1).bind fun q3 => bif clB q3.2 x0 [13] then ((x_J4_elementData g N q3.2 x0 x1).bind fun q6 => some (q6.1, q6.2)) else none
theorem ct_J4_get (g : AG) (hst : (gL g).stackTraces = false) (N : Nat) : ∀ (h : AH) (x0 : Nat) (x1 : Int32) (q : (Option Nat × AH)), x_J4_get g N h x0 x1 = some q → CT g YJ4_get 3 [.ref x0, .int x1] h (xR q) := by
  intro h x0 x1 q hq
  refine CT.of rfl (by decide +kernel) (loc := [some (.ref x0), some (.int x1)]) (by first | exact Nat.le_of_ble_eq_true rfl | (simp only [lgl_rf, lgl_i, lgl_j, lgl_ref, lgl_nil]; exact Nat.le_of_ble_eq_true rfl)) (by first | rfl | (simp only [aent_rf, aent_i, aent_j, aent_ref, aent_nil]; rfl)) ?_
  unfold x_J4_get at hq
  refine aw_iload_n (i := 1) dJ4_get_0 rfl rfl ?_
  refine aw_aload_n (i := 0) dJ4_get_1 rfl rfl trivial ?_
  replace hq := obind hq
  obtain ⟨i1, e2, hq⟩ := hq
  refine xw_getI e2 fJ4_48 dJ4_get_2 ?_
  replace hq := obind hq
  obtain ⟨q3, e4, hq⟩ := hq
  refine aw_callS (Y2 := YJ26_checkIndex) (As := [.int x1, .int i1]) (rest := []) kJ26_checkIndex q2007 q2008 dJ4_get_5 rfl rfl (ct_J26_checkIndex g hst N h x1 i1 _ e4) (Nat.le_of_ble_eq_true rfl) (Nat.le_of_ble_eq_true rfl) (fun v9 h9 z9 y9 => ?_)
  obtain ⟨rfl, rfl⟩ := y9
  refine aw_st (st' := [.int q3.1]) rfl ?_
  refine aw_pop dJ4_get_8 rfl ?_
  refine aw_aload_n (i := 0) dJ4_get_9 rfl rfl trivial ?_
  refine aw_iload_n (i := 1) dJ4_get_10 rfl rfl ?_
  replace hq := cond_t hq
  obtain ⟨z5, hq⟩ := hq
  obtain ⟨fs9, ha9⟩ := clB1 z5
  replace hq := obind hq
  obtain ⟨q6, e7, hq⟩ := hq
  refine aw_callV (Y2 := YJ4_elementData) (As := [.int x1]) (rest := []) (r := (RJ4, TJ4, 3)) kJ4_elementData ha9 rfl rfl q2011 q2012 q2013 dJ4_get_11 rfl rfl (ct_J4_elementData g hst N q3.2 x0 x1 _ e7) (Nat.le_of_ble_eq_true rfl) (Nat.le_of_ble_eq_true rfl) (fun v9 h9 z9 y9 => ?_)
  obtain ⟨rfl, rfl⟩ := y9
  refine aw_st (st' := [va_rf q6.1]) rfl ?_
  cases hq
  exact aw_areturn dJ4_get_14 rfl (Or.inl ⟨_, rfl⟩) (aIsR_rf _) ⟨rfl, rfl⟩
abbrev YJ4_init : YC := (yJ4_init, cJ4_init, 1, none, [])
theorem kJ4_init : aMk YJ4_init 0 := ⟨rfl, q253, q123, ⟨by decide +kernel, by decide +kernel, by decide +kernel⟩, Nat.le_of_ble_eq_true rfl⟩
def x_J4_init (g : AG) (N : Nat) (h : AH) (x0 : Nat) : Option AH :=
  (x_J3_init g N h x0).bind fun q1 => (vR (gV g 17)).bind fun o3 => (wrV g q1 x0 [(13, 1)] (va_rf o3)).bind fun h5 => some h5
theorem ct_J4_init (g : AG) (hst : (gL g).stackTraces = false) (N : Nat) : ∀ (h : AH) (x0 : Nat) (q : AH), x_J4_init g N h x0 = some q → CT g YJ4_init 5 [.ref x0] h (xV q) := by
  intro h x0 q hq
  refine CT.of rfl (by decide +kernel) (loc := [some (.ref x0)]) (by first | exact Nat.le_of_ble_eq_true rfl | (simp only [lgl_rf, lgl_i, lgl_j, lgl_ref, lgl_nil]; exact Nat.le_of_ble_eq_true rfl)) (by first | rfl | (simp only [aent_rf, aent_i, aent_j, aent_ref, aent_nil]; rfl)) ?_
  unfold x_J4_init at hq
  refine aw_aload_n (i := 0) dJ4_init_0 rfl rfl trivial ?_
  replace hq := obind hq
  obtain ⟨q1, e2, hq⟩ := hq
  refine aw_callI (Y2 := YJ3_init) (As := []) (rest := []) (b := x0) kJ3_init rfl rfl q254 q255 dJ4_init_1 rfl rfl (ct_J3_init g hst N h x0 _ e2) (Nat.le_of_ble_eq_true rfl) (Nat.le_of_ble_eq_true rfl) (fun v9 h9 z9 y9 => ?_)
  obtain ⟨rfl, y9⟩ := y9
  rw [y9]
  refine aw_st (st' := []) rfl ?_
  refine aw_aload_n (i := 0) dJ4_init_4 rfl rfl trivial ?_
  replace hq := obind hq
  obtain ⟨o3, e4, hq⟩ := hq
  refine xw_gets (i := 17) (vR_eq e4) rfl q261 dJ4_init_5 rfl ?_
  replace hq := obind hq
  obtain ⟨h5, e6, hq⟩ := hq
  refine xw_put e6 fJ4_9 tJ4_1 (fits_rfA _ o3) dJ4_init_8 ?_
  cases hq
  exact aw_vret dJ4_init_11 rfl ⟨rfl, rfl⟩
abbrev YJ4_init_2 : YC := (yJ4_init_2, cJ4_init_2, 2, none, [])
theorem kJ4_init_2 : aMk YJ4_init_2 1 := ⟨rfl, q880, q123, ⟨by decide +kernel, by decide +kernel, by decide +kernel⟩, Nat.le_of_ble_eq_true rfl⟩
def x_J4_init_2 (g : AG) (N : Nat) (h : AH) (x0 : Nat) (x1 : Int32) : Option AH :=
  (x_J3_init g N h x0).bind fun q1 => if x1 ≤ 0 then (if x1 = 0 then ((vR (gV g 18)).bind fun o5 => (wrV g q1 x0 [(13, 1)] (va_rf o5)).bind fun h7 => some h7) else (none)) else ((mkA g q1 4 x1 .null).bind fun h9 => (wrV g h9 x0 [(13, 1)] (.ref q1.2.1)).bind fun h11 => some h11)
theorem ct_J4_init_2 (g : AG) (hst : (gL g).stackTraces = false) (N : Nat) : ∀ (h : AH) (x0 : Nat) (x1 : Int32) (q : AH), x_J4_init_2 g N h x0 x1 = some q → CT g YJ4_init_2 5 [.ref x0, .int x1] h (xV q) := by
  intro h x0 x1 q hq
  refine CT.of rfl (by decide +kernel) (loc := [some (.ref x0), some (.int x1)]) (by first | exact Nat.le_of_ble_eq_true rfl | (simp only [lgl_rf, lgl_i, lgl_j, lgl_ref, lgl_nil]; exact Nat.le_of_ble_eq_true rfl)) (by first | rfl | (simp only [aent_rf, aent_i, aent_j, aent_ref, aent_nil]; rfl)) ?_
  unfold x_J4_init_2 at hq
  refine aw_aload_n (i := 0) dJ4_init_2_0 rfl rfl trivial ?_
  replace hq := obind hq
  obtain ⟨q1, e2, hq⟩ := hq
  refine aw_callI (Y2 := YJ3_init) (As := []) (rest := []) (b := x0) kJ3_init rfl rfl q254 q255 dJ4_init_2_1 rfl rfl (ct_J3_init g hst N h x0 _ e2) (Nat.le_of_ble_eq_true rfl) (Nat.le_of_ble_eq_true rfl) (fun v9 h9 z9 y9 => ?_)
  obtain ⟨rfl, y9⟩ := y9
  rw [y9]
  refine aw_st (st' := []) rfl ?_
  refine aw_iload_n (i := 1) dJ4_init_2_4 rfl rfl ?_
  refine aw_if_le (tgt := 19) dJ4_init_2_5 (by decide) (fun c3 => ?_) (fun c3 => ?_)
  · rw [if_pos c3] at hq
    refine aw_iload_n (i := 1) dJ4_init_2_19 rfl rfl ?_
    refine aw_if_ne (tgt := 33) dJ4_init_2_20 (by decide) (fun c4 => ?_) (fun c4 => ?_)
    · rw [if_neg c4] at hq
      cases hq
    · rw [if_pos c4] at hq
      refine aw_aload_n (i := 0) dJ4_init_2_23 rfl rfl trivial ?_
      replace hq := obind hq
      obtain ⟨o5, e6, hq⟩ := hq
      refine xw_gets (i := 18) (vR_eq e6) rfl q883 dJ4_init_2_24 rfl ?_
      replace hq := obind hq
      obtain ⟨h7, e8, hq⟩ := hq
      refine xw_put e8 fJ4_9 tJ4_1 (fits_rfA _ o5) dJ4_init_2_27 ?_
      refine aw_goto (tgt := 60) dJ4_init_2_30 (by decide) ?_
      cases hq
      exact aw_vret dJ4_init_2_60 rfl ⟨rfl, rfl⟩
  · rw [if_neg c3] at hq
    refine aw_aload_n (i := 0) dJ4_init_2_8 rfl rfl trivial ?_
    refine aw_iload_n (i := 1) dJ4_init_2_9 rfl rfl ?_
    replace hq := obind hq
    obtain ⟨h9, e10, hq⟩ := hq
    refine xw_anew e10 q881 q882 rfl (by decide) dJ4_init_2_10 ?_
    replace hq := obind hq
    obtain ⟨h11, e12, hq⟩ := hq
    refine xw_put e12 fJ4_9 tJ4_1 (fits_rfA _ (some q1.2.1)) dJ4_init_2_13 ?_
    refine aw_goto (tgt := 60) dJ4_init_2_16 (by decide) ?_
    cases hq
    exact aw_vret dJ4_init_2_60 rfl ⟨rfl, rfl⟩
abbrev YJ4_size : YC := (yJ4_size, cJ4_size, 1, (some .int), [])
theorem kJ4_size : aMk YJ4_size 0 := ⟨rfl, q386, q123, ⟨by decide +kernel, by decide +kernel, by decide +kernel⟩, Nat.le_of_ble_eq_true rfl⟩
def x_J4_size (g : AG) (N : Nat) (h : AH) (x0 : Nat) : Option (Int32 × AH) :=
  (rdI h x0 [(13, 2)]).bind fun i1 => some (i1, h)
theorem ct_J4_size (g : AG) (hst : (gL g).stackTraces = false) (N : Nat) : ∀ (h : AH) (x0 : Nat) (q : (Int32 × AH)), x_J4_size g N h x0 = some q → CT g YJ4_size 1 [.ref x0] h (xI q) := by
  intro h x0 q hq
  refine CT.of rfl (by decide +kernel) (loc := [some (.ref x0)]) (by first | exact Nat.le_of_ble_eq_true rfl | (simp only [lgl_rf, lgl_i, lgl_j, lgl_ref, lgl_nil]; exact Nat.le_of_ble_eq_true rfl)) (by first | rfl | (simp only [aent_rf, aent_i, aent_j, aent_ref, aent_nil]; rfl)) ?_
  unfold x_J4_size at hq
  refine aw_aload_n (i := 0) dJ4_size_0 rfl rfl trivial ?_
  replace hq := obind hq
  obtain ⟨i1, e2, hq⟩ := hq
  refine xw_getI e2 fJ4_48 dJ4_size_1 ?_
  cases hq
  exact aw_ireturn dJ4_size_4 rfl rfl ⟨rfl, rfl⟩
theorem fJ5_124 : ∀ q ∈ ([(15, 4)] : List (Nat × Nat)), aFl RJ5 124 q.1 q.2 := by
  intro q hq
  simp only [List.mem_cons, List.not_mem_nil, or_false] at hq
  subst hq
  exact aFl.of (RJ30, TJ30, 6) rfl (Nat.le_of_ble_eq_true rfl) q1698
abbrev YJ5_parentOf : YC := (yJ5_parentOf, cJ5_parentOf, 1, (some (.object "java/util/TreeMap$Entry")), [])
theorem kJ5_parentOf : aMk YJ5_parentOf 1 := ⟨rfl, q1724, q124, ⟨by decide +kernel, by decide +kernel, by decide +kernel⟩, Nat.le_of_ble_eq_true rfl⟩
def x_J5_parentOf (g : AG) (N : Nat) (h : AH) (r0 : Option Nat) : Option (Option Nat × AH) :=
  ocase r0 (some ((none), h)) (fun a1 => (rdR h a1 [(15, 4)]).bind fun o2 => some (o2, h))
theorem ct_J5_parentOf (g : AG) (hst : (gL g).stackTraces = false) (N : Nat) : ∀ (h : AH) (r0 : Option Nat) (q : (Option Nat × AH)), x_J5_parentOf g N h r0 = some q → CT g YJ5_parentOf 1 [va_rf r0] h (xR q) := by
  intro h r0 q hq
  refine CT.of rfl (by decide +kernel) (loc := [some (va_rf r0)]) (by first | exact Nat.le_of_ble_eq_true rfl | (simp only [lgl_rf, lgl_i, lgl_j, lgl_ref, lgl_nil]; exact Nat.le_of_ble_eq_true rfl)) (by first | rfl | (simp only [aent_rf, aent_i, aent_j, aent_ref, aent_nil]; rfl)) ?_
  unfold x_J5_parentOf at hq
  refine aw_aload_n (i := 0) dJ5_parentOf_0 rfl rfl (aIsR_rf _) ?_
  rcases r0 with _ | a1
  · replace hq := ocase_n hq
    refine xw_ifnonN (tgt := 8) dJ5_parentOf_1 (by decide) ?_
    refine aw_null dJ5_parentOf_4 ?_
    refine aw_goto (tgt := 12) dJ5_parentOf_5 (by decide) ?_
    cases hq
    exact aw_areturn dJ5_parentOf_12 rfl (Or.inl ⟨_, rfl⟩) trivial ⟨rfl, rfl⟩
  · replace hq := ocase_s hq
    refine xw_ifnonS (tgt := 8) dJ5_parentOf_1 (by decide) ?_
    refine aw_aload_n (i := 0) dJ5_parentOf_8 rfl rfl trivial ?_
    replace hq := obind hq
    obtain ⟨o2, e3, hq⟩ := hq
    refine xw_getR e3 fJ5_124 dJ5_parentOf_9 ?_
    cases hq
    exact aw_areturn dJ5_parentOf_12 rfl (Or.inl ⟨_, rfl⟩) (aIsR_rf _) ⟨rfl, rfl⟩
theorem fJ5_111 : ∀ q ∈ ([(15, 2)] : List (Nat × Nat)), aFl RJ5 111 q.1 q.2 := by
  intro q hq
  simp only [List.mem_cons, List.not_mem_nil, or_false] at hq
  subst hq
  exact aFl.of (RJ30, TJ30, 6) rfl (Nat.le_of_ble_eq_true rfl) q1695
abbrev YJ5_leftOf : YC := (yJ5_leftOf, cJ5_leftOf, 1, (some (.object "java/util/TreeMap$Entry")), [])
theorem kJ5_leftOf : aMk YJ5_leftOf 1 := ⟨rfl, q1727, q124, ⟨by decide +kernel, by decide +kernel, by decide +kernel⟩, Nat.le_of_ble_eq_true rfl⟩
def x_J5_leftOf (g : AG) (N : Nat) (h : AH) (r0 : Option Nat) : Option (Option Nat × AH) :=
  ocase r0 (some ((none), h)) (fun a1 => (rdR h a1 [(15, 2)]).bind fun o2 => some (o2, h))
theorem ct_J5_leftOf (g : AG) (hst : (gL g).stackTraces = false) (N : Nat) : ∀ (h : AH) (r0 : Option Nat) (q : (Option Nat × AH)), x_J5_leftOf g N h r0 = some q → CT g YJ5_leftOf 1 [va_rf r0] h (xR q) := by
  intro h r0 q hq
  refine CT.of rfl (by decide +kernel) (loc := [some (va_rf r0)]) (by first | exact Nat.le_of_ble_eq_true rfl | (simp only [lgl_rf, lgl_i, lgl_j, lgl_ref, lgl_nil]; exact Nat.le_of_ble_eq_true rfl)) (by first | rfl | (simp only [aent_rf, aent_i, aent_j, aent_ref, aent_nil]; rfl)) ?_
  unfold x_J5_leftOf at hq
  refine aw_aload_n (i := 0) dJ5_leftOf_0 rfl rfl (aIsR_rf _) ?_
  rcases r0 with _ | a1
  · replace hq := ocase_n hq
    refine xw_ifnonN (tgt := 8) dJ5_leftOf_1 (by decide) ?_
    refine aw_null dJ5_leftOf_4 ?_
    refine aw_goto (tgt := 12) dJ5_leftOf_5 (by decide) ?_
    cases hq
    exact aw_areturn dJ5_leftOf_12 rfl (Or.inl ⟨_, rfl⟩) trivial ⟨rfl, rfl⟩
  · replace hq := ocase_s hq
    refine xw_ifnonS (tgt := 8) dJ5_leftOf_1 (by decide) ?_
    refine aw_aload_n (i := 0) dJ5_leftOf_8 rfl rfl trivial ?_
    replace hq := obind hq
    obtain ⟨o2, e3, hq⟩ := hq
    refine xw_getR e3 fJ5_111 dJ5_leftOf_9 ?_
    cases hq
    exact aw_areturn dJ5_leftOf_12 rfl (Or.inl ⟨_, rfl⟩) (aIsR_rf _) ⟨rfl, rfl⟩
theorem fJ5_114 : ∀ q ∈ ([(15, 3)] : List (Nat × Nat)), aFl RJ5 114 q.1 q.2 := by
  intro q hq
  simp only [List.mem_cons, List.not_mem_nil, or_false] at hq
  subst hq
  exact aFl.of (RJ30, TJ30, 6) rfl (Nat.le_of_ble_eq_true rfl) q1696
abbrev YJ5_rightOf : YC := (yJ5_rightOf, cJ5_rightOf, 1, (some (.object "java/util/TreeMap$Entry")), [])
theorem kJ5_rightOf : aMk YJ5_rightOf 1 := ⟨rfl, q1730, q124, ⟨by decide +kernel, by decide +kernel, by decide +kernel⟩, Nat.le_of_ble_eq_true rfl⟩
def x_J5_rightOf (g : AG) (N : Nat) (h : AH) (r0 : Option Nat) : Option (Option Nat × AH) :=
  ocase r0 (some ((none), h)) (fun a1 => (rdR h a1 [(15, 3)]).bind fun o2 => some (o2, h))
theorem ct_J5_rightOf (g : AG) (hst : (gL g).stackTraces = false) (N : Nat) : ∀ (h : AH) (r0 : Option Nat) (q : (Option Nat × AH)), x_J5_rightOf g N h r0 = some q → CT g YJ5_rightOf 1 [va_rf r0] h (xR q) := by
  intro h r0 q hq
  refine CT.of rfl (by decide +kernel) (loc := [some (va_rf r0)]) (by first | exact Nat.le_of_ble_eq_true rfl | (simp only [lgl_rf, lgl_i, lgl_j, lgl_ref, lgl_nil]; exact Nat.le_of_ble_eq_true rfl)) (by first | rfl | (simp only [aent_rf, aent_i, aent_j, aent_ref, aent_nil]; rfl)) ?_
  unfold x_J5_rightOf at hq
  refine aw_aload_n (i := 0) dJ5_rightOf_0 rfl rfl (aIsR_rf _) ?_
  rcases r0 with _ | a1
  · replace hq := ocase_n hq
    refine xw_ifnonN (tgt := 8) dJ5_rightOf_1 (by decide) ?_
    refine aw_null dJ5_rightOf_4 ?_
    refine aw_goto (tgt := 12) dJ5_rightOf_5 (by decide) ?_
    cases hq
    exact aw_areturn dJ5_rightOf_12 rfl (Or.inl ⟨_, rfl⟩) trivial ⟨rfl, rfl⟩
  · replace hq := ocase_s hq
    refine xw_ifnonS (tgt := 8) dJ5_rightOf_1 (by decide) ?_
    refine aw_aload_n (i := 0) dJ5_rightOf_8 rfl rfl trivial ?_
    replace hq := obind hq
    obtain ⟨o2, e3, hq⟩ := hq
    refine xw_getR e3 fJ5_114 dJ5_rightOf_9 ?_
    cases hq
    exact aw_areturn dJ5_rightOf_12 rfl (Or.inl ⟨_, rfl⟩) (aIsR_rf _) ⟨rfl, rfl⟩
