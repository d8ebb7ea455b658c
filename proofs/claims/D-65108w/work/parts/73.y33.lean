/-! THE COMPONENT AND THE JDK as functions of the heap, and their contracts: printed by wip gen/dec2.py -/
set_option maxRecDepth 100000
theorem tX2_7 : ∀ q ∈ ([(1, 7)] : List (Nat × Nat)), aFt q.1 q.2 false (.object "java/lang/String") := by
  intro q hq
  simp only [List.mem_cons, List.not_mem_nil, or_false] at hq
  subst hq
  exact ⟨(RX2, TX2, 9), tyX2, Nat.le_of_ble_eq_true rfl, rfl, Nat.le_of_ble_eq_true rfl, okX2, rfl, rfl⟩
theorem tX2_8 : ∀ q ∈ ([(1, 8)] : List (Nat × Nat)), aFt q.1 q.2 false .boolean := by
  intro q hq
  simp only [List.mem_cons, List.not_mem_nil, or_false] at hq
  subst hq
  exact ⟨(RX2, TX2, 9), tyX2, Nat.le_of_ble_eq_true rfl, rfl, Nat.le_of_ble_eq_true rfl, okX2, rfl, rfl⟩
abbrev YX2_whole : YC := (yX2_whole, cX2_whole, 3, (some (.object "ProbeConsole$Node")), [])
theorem kX2_whole : aMk YX2_whole 2 := ⟨rfl, q813, q117, ⟨by decide +kernel, by decide +kernel, by decide +kernel⟩, Nat.le_of_ble_eq_true rfl⟩
def x_X2_whole (g : AG) (N : Nat) (h : AH) (x0 : Nat) (r1 : Option Nat) (x2 : Int32) : Option ((String ⊕ Option Nat) × AH) :=
  (wrV g h x0 [(1, 5)] (.int (0 : Int32))).bind fun h1 => (wrV g h1 x0 [(1, 6)] (.int (0 : Int32))).bind fun h3 => (wrV g h3 x0 [(1, 7)] (va_rf r1)).bind fun h5 => bif isb x2 then ((wrV g h5 x0 [(1, 8)] (.int x2)).bind fun h8 => bif clB h8 x0 [1] then ((x_X2_expression g N h8 x0).bind fun q11 => tcase q11.1 (fun E13 => some (.inl E13, q11.2)) (fun v14 => some (.inr v14, q11.2))) else none) else none
theorem ct_X2_whole (g : AG) (hst : (gL g).stackTraces = false) (N : Nat) : ∀ (h : AH) (x0 : Nat) (r1 : Option Nat) (x2 : Int32) (q : ((String ⊕ Option Nat) × AH)), x_X2_whole g N h x0 r1 x2 = some q → CT g YX2_whole 514 [.ref x0, va_rf r1, .int x2] h (tR q) := by
  intro h x0 r1 x2 q hq
  refine CT.of rfl (by decide +kernel) (loc := [some (.ref x0), some (va_rf r1), some (.int x2)]) (by first | exact Nat.le_of_ble_eq_true rfl | (simp only [lgl_rf, lgl_i, lgl_j, lgl_ref, lgl_nil]; exact Nat.le_of_ble_eq_true rfl)) (by first | rfl | (simp only [aent_rf, aent_i, aent_j, aent_ref, aent_nil]; rfl)) ?_
  unfold x_X2_whole at hq
  refine aw_aload_n (i := 0) dX2_whole_0 rfl rfl trivial ?_
  refine aw_iconst (v := 0) dX2_whole_1 (by decide) ?_
  replace hq := obind hq
  obtain ⟨h1, e2, hq⟩ := hq
  refine xw_put e2 fX2_69 tX2_5 ⟨rfl, rfl⟩ dX2_whole_2 ?_
  refine aw_aload_n (i := 0) dX2_whole_5 rfl rfl trivial ?_
  refine aw_iconst (v := 0) dX2_whole_6 (by decide) ?_
  replace hq := obind hq
  obtain ⟨h3, e4, hq⟩ := hq
  refine xw_put e4 fX2_152 tX2_6 ⟨rfl, rfl⟩ dX2_whole_7 ?_
  refine aw_aload_n (i := 0) dX2_whole_10 rfl rfl trivial ?_
  refine aw_aload_n (i := 1) dX2_whole_11 rfl rfl (aIsR_rf _) ?_
  replace hq := obind hq
  obtain ⟨h5, e6, hq⟩ := hq
  refine xw_put e6 fX2_17 tX2_7 (fits_rf _ r1) dX2_whole_12 ?_
  refine aw_aload_n (i := 0) dX2_whole_15 rfl rfl trivial ?_
  refine aw_iload_n (i := 2) dX2_whole_16 rfl rfl ?_
  replace hq := cond_t hq
  obtain ⟨z7, hq⟩ := hq
  replace hq := obind hq
  obtain ⟨h8, e9, hq⟩ := hq
  refine xw_put e9 fX2_120 tX2_8 (isb_ok z7) dX2_whole_17 ?_
  refine aw_aload_n (i := 0) dX2_whole_20 rfl rfl trivial ?_
  replace hq := cond_t hq
  obtain ⟨z10, hq⟩ := hq
  obtain ⟨fs9, ha9⟩ := clB1 z10
  replace hq := obind hq
  obtain ⟨q11, e12, hq⟩ := hq
  refine aw_callVX (Y2 := YX2_expression) (As := []) (rest := []) (r := (RX2, TX2, 9)) kX2_expression ha9 rfl rfl q814 q816 qs6 dX2_whole_21 rfl rfl (ct_X2_expression g hst N h8 x0 _ e12) (Nat.le_of_ble_eq_true rfl) (Nat.le_of_ble_eq_true rfl) (fun v9 h9 z9 y9 => ?_) (fun E13 h9 z9 y9 => ?_)
  rotate_left
  · obtain ⟨e9, rfl⟩ := tR_exc y9
    replace hq := tcase_l e9 hq
    cases hq
    exact ax_out (by decide) ⟨rfl, rfl⟩
  obtain ⟨v14, e9, rfl, rfl⟩ := tR_ret y9
  replace hq := tcase_r e9 hq
  refine aw_st (st' := [va_rf v14]) rfl ?_
  cases hq
  exact aw_areturn dX2_whole_24 rfl (Or.inl ⟨_, rfl⟩) (aIsR_rf _) ⟨rfl, rfl⟩
abbrev YX2_probe : YC := (yX2_probe, cX2_probe, 2, (some (.object "ProbeConsole$Node")), [])
theorem kX2_probe : aMk YX2_probe 0 := ⟨rfl, q1897, q117, ⟨by decide +kernel, by decide +kernel, by decide +kernel⟩, Nat.le_of_ble_eq_true rfl⟩
def x_X2_probe (g : AG) (N : Nat) (h : AH) (x0 : Nat) : Option ((String ⊕ Option Nat) × AH) :=
  bif clB h x0 [1] then ((x_X2_blanks g N h x0).bind fun q2 => bif clB q2 x0 [1] then ((x_X2_whole g N q2 x0 (some (gS g 2)) (0 : Int32)).bind fun q5 => tcase q5.1 (fun E7 => some (.inl E7, q5.2)) (fun v8 => bif clB q5.2 x0 [1] then ((x_X2_isBehindWord g N q5.2 x0).bind fun q10 => (rdI q10.2 x0 [(1, 2)]).bind fun i12 => bif clB q10.2 x0 [1] then ((x_X2_want g N q10.2 x0 q10.1 (1 : Int32) i12).bind fun q15 => tcase q15.1 (fun E17 => some (.inl E17, q15.2)) (fun v18 => some (.inr v8, q15.2))) else none) else none)) else none) else none
theorem ct_X2_probe (g : AG) (hst : (gL g).stackTraces = false) (N : Nat) : ∀ (h : AH) (x0 : Nat) (q : ((String ⊕ Option Nat) × AH)), x_X2_probe g N h x0 = some q → CT g YX2_probe 515 [.ref x0] h (tR q) := by
  intro h x0 q hq
  refine CT.of rfl (by decide +kernel) (loc := [some (.ref x0), none]) (by first | exact Nat.le_of_ble_eq_true rfl | (simp only [lgl_rf, lgl_i, lgl_j, lgl_ref, lgl_nil]; exact Nat.le_of_ble_eq_true rfl)) (by first | rfl | (simp only [aent_rf, aent_i, aent_j, aent_ref, aent_nil]; rfl)) ?_
  unfold x_X2_probe at hq
  refine aw_aload_n (i := 0) dX2_probe_0 rfl rfl trivial ?_
  replace hq := cond_t hq
  obtain ⟨z1, hq⟩ := hq
  obtain ⟨fs9, ha9⟩ := clB1 z1
  replace hq := obind hq
  obtain ⟨q2, e3, hq⟩ := hq
  refine aw_callV (Y2 := YX2_blanks) (As := []) (rest := []) (r := (RX2, TX2, 9)) kX2_blanks ha9 rfl rfl q1768 q1769 q1770 dX2_probe_1 rfl rfl (ct_X2_blanks g hst N h x0 _ e3) (Nat.le_of_ble_eq_true rfl) (Nat.le_of_ble_eq_true rfl) (fun v9 h9 z9 y9 => ?_)
  obtain ⟨rfl, y9⟩ := y9
  rw [y9]
  refine aw_st (st' := []) rfl ?_
  refine aw_aload_n (i := 0) dX2_probe_4 rfl rfl trivial ?_
  refine aw_ldcS (i := 2) rfl dX2_probe_5 ?_
  refine aw_iconst (v := 0) dX2_probe_7 (by decide) ?_
  replace hq := cond_t hq
  obtain ⟨z4, hq⟩ := hq
  obtain ⟨fs9, ha9⟩ := clB1 z4
  replace hq := obind hq
  obtain ⟨q5, e6, hq⟩ := hq
  refine aw_callVX (Y2 := YX2_whole) (As := [.ref (gS g 2), .int (0 : Int32)]) (rest := []) (r := (RX2, TX2, 9)) kX2_whole ha9 rfl rfl q810 q812 qs5 dX2_probe_8 rfl rfl (ct_X2_whole g hst N q2 x0 (some (gS g 2)) (0 : Int32) _ e6) (Nat.le_of_ble_eq_true rfl) (Nat.le_of_ble_eq_true rfl) (fun v9 h9 z9 y9 => ?_) (fun E7 h9 z9 y9 => ?_)
  rotate_left
  · obtain ⟨e9, rfl⟩ := tR_exc y9
    replace hq := tcase_l e9 hq
    cases hq
    exact ax_out (by decide) ⟨rfl, rfl⟩
  obtain ⟨v8, e9, rfl, rfl⟩ := tR_ret y9
  replace hq := tcase_r e9 hq
  refine aw_st (st' := [va_rf v8]) rfl ?_
  refine aw_astore_n (i := 1) (loc' := [some (.ref x0), some (va_rf v8)]) dX2_probe_11 rfl (Nat.le_of_ble_eq_true rfl) (aIsR_rf _) rfl ?_
  refine aw_aload_n (i := 0) dX2_probe_12 rfl rfl trivial ?_
  refine aw_aload_n (i := 0) dX2_probe_13 rfl rfl trivial ?_
  replace hq := cond_t hq
  obtain ⟨z9, hq⟩ := hq
  obtain ⟨fs9, ha9⟩ := clB1 z9
  replace hq := obind hq
  obtain ⟨q10, e11, hq⟩ := hq
  refine aw_callV (Y2 := YX2_isBehindWord) (As := []) (rest := [.ref x0]) (r := (RX2, TX2, 9)) kX2_isBehindWord ha9 rfl rfl q1772 q1774 qs32 dX2_probe_14 rfl rfl (ct_X2_isBehindWord g hst N q5.2 x0 _ e11) (Nat.le_of_ble_eq_true rfl) (Nat.le_of_ble_eq_true rfl) (fun v9 h9 z9 y9 => ?_)
  obtain ⟨rfl, rfl⟩ := y9
  refine aw_st (st' := [.int q10.1, .ref x0]) rfl ?_
  refine aw_iconst (v := 1) dX2_probe_17 (by decide) ?_
  refine aw_aload_n (i := 0) dX2_probe_18 rfl rfl trivial ?_
  replace hq := obind hq
  obtain ⟨i12, e13, hq⟩ := hq
  refine xw_getI e13 fX2_38 dX2_probe_19 ?_
  replace hq := cond_t hq
  obtain ⟨z14, hq⟩ := hq
  obtain ⟨fs9, ha9⟩ := clB1 z14
  replace hq := obind hq
  obtain ⟨q15, e16, hq⟩ := hq
  refine aw_callVX (Y2 := YX2_want) (As := [.int q10.1, .int (1 : Int32), .int i12]) (rest := []) (r := (RX2, TX2, 9)) kX2_want ha9 rfl rfl q407 q408 q409 dX2_probe_22 rfl rfl (ct_X2_want g hst N q10.2 x0 q10.1 (1 : Int32) i12 _ e16) (Nat.le_of_ble_eq_true rfl) (Nat.le_of_ble_eq_true rfl) (fun v9 h9 z9 y9 => ?_) (fun E17 h9 z9 y9 => ?_)
  rotate_left
  · obtain ⟨e9, rfl⟩ := tV_exc y9
    replace hq := tcase_l e9 hq
    cases hq
    exact ax_out (by decide) ⟨rfl, rfl⟩
  obtain ⟨v18, e9, rfl, rfl⟩ := tV_ret y9
  replace hq := tcase_r e9 hq
  refine aw_st (st' := []) rfl ?_
  refine aw_aload_n (i := 1) dX2_probe_25 rfl rfl (aIsR_rf _) ?_
  cases hq
  exact aw_areturn dX2_probe_26 rfl (Or.inl ⟨_, rfl⟩) (aIsR_rf _) ⟨rfl, rfl⟩
theorem fX2_258 : ∀ q ∈ ([(7, 3)] : List (Nat × Nat)), aFl RX2 258 q.1 q.2 := by
  intro q hq
  simp only [List.mem_cons, List.not_mem_nil, or_false] at hq
  subst hq
  exact aFl.ofN (RX9, TX9, 8) rfl (Nat.le_of_ble_eq_true rfl) q1861
theorem tX9_3 : ∀ q ∈ ([(7, 3)] : List (Nat × Nat)), aFt q.1 q.2 false (.object "ProbeConsole$Node") := by
  intro q hq
  simp only [List.mem_cons, List.not_mem_nil, or_false] at hq
  subst hq
  exact ⟨(RX9, TX9, 8), tyX9, Nat.le_of_ble_eq_true rfl, rfl, Nat.le_of_ble_eq_true rfl, okX9, rfl, rfl⟩
theorem fX2_263 : ∀ q ∈ ([(7, 4)] : List (Nat × Nat)), aFl RX2 263 q.1 q.2 := by
  intro q hq
  simp only [List.mem_cons, List.not_mem_nil, or_false] at hq
  subst hq
  exact aFl.ofN (RX9, TX9, 8) rfl (Nat.le_of_ble_eq_true rfl) q1863
theorem tX9_4 : ∀ q ∈ ([(7, 4)] : List (Nat × Nat)), aFt q.1 q.2 false (.object "ProbeConsole$Node") := by
  intro q hq
  simp only [List.mem_cons, List.not_mem_nil, or_false] at hq
  subst hq
  exact ⟨(RX9, TX9, 8), tyX9, Nat.le_of_ble_eq_true rfl, rfl, Nat.le_of_ble_eq_true rfl, okX9, rfl, rfl⟩
theorem fX2_266 : ∀ q ∈ ([(7, 5)] : List (Nat × Nat)), aFl RX2 266 q.1 q.2 := by
  intro q hq
  simp only [List.mem_cons, List.not_mem_nil, or_false] at hq
  subst hq
  exact aFl.ofN (RX9, TX9, 8) rfl (Nat.le_of_ble_eq_true rfl) q1867
abbrev YX2_watch : YC := (yX2_watch, cX2_watch, 3, none, [])
theorem kX2_watch : aMk YX2_watch 1 := ⟨rfl, q1893, q117, ⟨by decide +kernel, by decide +kernel, by decide +kernel⟩, Nat.le_of_ble_eq_true rfl⟩
def x_X2_watch_69 (g : AG) (N : Nat) (h : AH) (x0 : Nat) (r1 : Option Nat) (x2 : Int32) (s1 : Int32) : Option ((String ⊕ Unit) × AH) :=
  bif clB h x0 [1] then ((x_X2_want g N h x0 s1 (2 : Int32) x2).bind fun q44 => tcase q44.1 (fun E46 => some (.inl E46, q44.2)) (fun v47 => bif clB q44.2 x0 [1] then ((x_X2_isBehindWord g N q44.2 x0).bind fun q49 => (rdI q49.2 x0 [(1, 2)]).bind fun i51 => bif clB q49.2 x0 [1] then ((x_X2_want g N q49.2 x0 q49.1 (1 : Int32) i51).bind fun q54 => tcase q54.1 (fun E56 => some (.inl E56, q54.2)) (fun v57 => some (.inr (), q54.2))) else none) else none)) else none
theorem p_x_X2_watch_69 (g : AG) (hst : (gL g).stackTraces = false) (N : Nat) : ∀ (h : AH) (x0 : Nat) (r1 : Option Nat) (x2 : Int32) (s1 : Int32) (q : ((String ⊕ Unit) × AH)), x_X2_watch_69 g N h x0 r1 x2 s1 = some q → AW g YX2_watch 516 (tV q) h [some (.ref x0), some (va_rf r1), some (.int x2)] 69 [.int s1, .ref x0] := by
  intro h x0 r1 x2 s1 q hq
  unfold x_X2_watch_69 at hq
  refine aw_iconst (v := 2) dX2_watch_69 (by decide) ?_
  refine aw_iload_n (i := 2) dX2_watch_70 rfl rfl ?_
  replace hq := cond_t hq
  obtain ⟨z43, hq⟩ := hq
  obtain ⟨fs9, ha9⟩ := clB1 z43
  replace hq := obind hq
  obtain ⟨q44, e45, hq⟩ := hq
  refine aw_callVX (Y2 := YX2_want) (As := [.int s1, .int (2 : Int32), .int x2]) (rest := []) (r := (RX2, TX2, 9)) kX2_want ha9 rfl rfl q407 q408 q409 dX2_watch_71 rfl rfl (ct_X2_want g hst N h x0 s1 (2 : Int32) x2 _ e45) (Nat.le_of_ble_eq_true rfl) (Nat.le_of_ble_eq_true rfl) (fun v9 h9 z9 y9 => ?_) (fun E46 h9 z9 y9 => ?_)
  rotate_left
  · obtain ⟨e9, rfl⟩ := tV_exc y9
    replace hq := tcase_l e9 hq
    cases hq
    exact ax_out (by decide) ⟨rfl, rfl⟩
  obtain ⟨v47, e9, rfl, rfl⟩ := tV_ret y9
  replace hq := tcase_r e9 hq
  refine aw_st (st' := []) rfl ?_
  refine aw_aload_n (i := 0) dX2_watch_74 rfl rfl trivial ?_
  refine aw_aload_n (i := 0) dX2_watch_75 rfl rfl trivial ?_
  replace hq := cond_t hq
  obtain ⟨z48, hq⟩ := hq
  obtain ⟨fs9, ha9⟩ := clB1 z48
  replace hq := obind hq
  obtain ⟨q49, e50, hq⟩ := hq
  refine aw_callV (Y2 := YX2_isBehindWord) (As := []) (rest := [.ref x0]) (r := (RX2, TX2, 9)) kX2_isBehindWord ha9 rfl rfl q1772 q1774 qs32 dX2_watch_76 rfl rfl (ct_X2_isBehindWord g hst N q44.2 x0 _ e50) (Nat.le_of_ble_eq_true rfl) (Nat.le_of_ble_eq_true rfl) (fun v9 h9 z9 y9 => ?_)
  obtain ⟨rfl, rfl⟩ := y9
  refine aw_st (st' := [.int q49.1, .ref x0]) rfl ?_
  refine aw_iconst (v := 1) dX2_watch_79 (by decide) ?_
  refine aw_aload_n (i := 0) dX2_watch_80 rfl rfl trivial ?_
  replace hq := obind hq
  obtain ⟨i51, e52, hq⟩ := hq
  refine xw_getI e52 fX2_38 dX2_watch_81 ?_
  replace hq := cond_t hq
  obtain ⟨z53, hq⟩ := hq
  obtain ⟨fs9, ha9⟩ := clB1 z53
  replace hq := obind hq
  obtain ⟨q54, e55, hq⟩ := hq
  refine aw_callVX (Y2 := YX2_want) (As := [.int q49.1, .int (1 : Int32), .int i51]) (rest := []) (r := (RX2, TX2, 9)) kX2_want ha9 rfl rfl q407 q408 q409 dX2_watch_84 rfl rfl (ct_X2_want g hst N q49.2 x0 q49.1 (1 : Int32) i51 _ e55) (Nat.le_of_ble_eq_true rfl) (Nat.le_of_ble_eq_true rfl) (fun v9 h9 z9 y9 => ?_) (fun E56 h9 z9 y9 => ?_)
  rotate_left
  · obtain ⟨e9, rfl⟩ := tV_exc y9
    replace hq := tcase_l e9 hq
    cases hq
    exact ax_out (by decide) ⟨rfl, rfl⟩
  obtain ⟨v57, e9, rfl, rfl⟩ := tV_ret y9
  replace hq := tcase_r e9 hq
  refine aw_st (st' := []) rfl ?_
  cases hq
  exact aw_vret dX2_watch_87 rfl ⟨rfl, rfl⟩
def x_X2_watch (g : AG) (N : Nat) (h : AH) (x0 : Nat) (r1 : Option Nat) : Option ((String ⊕ Unit) × AH) :=
  bif clB h x0 [1] then ((x_X2_probe g N h x0).bind fun q2 => tcase q2.1 (fun E4 => some (.inl E4, q2.2)) (fun v5 => (r1).bind fun a6 => (wrV g q2.2 a6 [(7, 3)] (va_rf v5)).bind fun h8 => bif clB h8 x0 [1] then ((x_X2_blanks g N h8 x0).bind fun q11 => bif clB q11 x0 [1] then ((x_X2_peek g N q11 x0).bind fun q14 => if q14.1 = (-1 : Int32) then (some (.inr (), q14.2)) else (bif clB q14.2 x0 [1] then ((x_X2_probe g N q14.2 x0).bind fun q18 => tcase q18.1 (fun E20 => some (.inl E20, q18.2)) (fun v21 => (wrV g q18.2 a6 [(7, 4)] (va_rf v21)).bind fun h22 => bif clB h22 x0 [1] then ((x_X2_blanks g N h22 x0).bind fun q25 => bif clB q25 x0 [1] then ((x_X2_peek g N q25 x0).bind fun q28 => if q28.1 = (-1 : Int32) then (some (.inr (), q28.2)) else ((rdI q28.2 x0 [(1, 2)]).bind fun i31 => bif clB q28.2 x0 [1] then ((x_X2_number g N q28.2 x0 (99 : Int32)).bind fun q34 => tcase q34.1 (fun E36 => some (.inl E36, q34.2)) (fun v37 => (wrV g q34.2 a6 [(7, 5)] (.int v37)).bind fun h38 => (rdI h38 a6 [(7, 5)]).bind fun i40 => if i40 ≤ 0 then (x_X2_watch_69 g N  h38 x0 (some a6) i31 (0 : Int32)) else (x_X2_watch_69 g N  h38 x0 (some a6) i31 (1 : Int32)))) else none)) else none) else none)) else none)) else none) else none)) else none
theorem ct_X2_watch (g : AG) (hst : (gL g).stackTraces = false) (N : Nat) : ∀ (h : AH) (x0 : Nat) (r1 : Option Nat) (q : ((String ⊕ Unit) × AH)), x_X2_watch g N h x0 r1 = some q → CT g YX2_watch 516 [.ref x0, va_rf r1] h (tV q) := by
  intro h x0 r1 q hq
  refine CT.of rfl (by decide +kernel) (loc := [some (.ref x0), some (va_rf r1), none]) (by first | exact Nat.le_of_ble_eq_true rfl | (simp only [lgl_rf, lgl_i, lgl_j, lgl_ref, lgl_nil]; exact Nat.le_of_ble_eq_true rfl)) (by first | rfl | (simp only [aent_rf, aent_i, aent_j, aent_ref, aent_nil]; rfl)) ?_
  unfold x_X2_watch at hq
  refine aw_aload_n (i := 1) dX2_watch_0 rfl rfl (aIsR_rf _) ?_
  refine aw_aload_n (i := 0) dX2_watch_1 rfl rfl trivial ?_
  replace hq := cond_t hq
  obtain ⟨z1, hq⟩ := hq
  obtain ⟨fs9, ha9⟩ := clB1 z1
  replace hq := obind hq
  obtain ⟨q2, e3, hq⟩ := hq
  refine aw_callVX (Y2 := YX2_probe) (As := []) (rest := [va_rf r1]) (r := (RX2, TX2, 9)) kX2_probe ha9 rfl rfl q1894 q1896 qs40 dX2_watch_2 rfl rfl (ct_X2_probe g hst N h x0 _ e3) (Nat.le_of_ble_eq_true rfl) (by simp only [List.map_cons, List.map_nil, List.sum_cons, List.sum_nil, cat_rf]; exact Nat.le_of_ble_eq_true rfl) (fun v9 h9 z9 y9 => ?_) (fun E4 h9 z9 y9 => ?_)
  rotate_left
  · obtain ⟨e9, rfl⟩ := tR_exc y9
    replace hq := tcase_l e9 hq
    cases hq
    exact ax_out (by decide) ⟨rfl, rfl⟩
  obtain ⟨v5, e9, rfl, rfl⟩ := tR_ret y9
  replace hq := tcase_r e9 hq
  refine aw_st (st' := [va_rf v5, va_rf r1]) rfl ?_
  replace hq := obind hq
  obtain ⟨a6, e7, hq⟩ := hq
  subst e7
  replace hq := obind hq
  obtain ⟨h8, e9, hq⟩ := hq
  refine xw_put e9 fX2_258 tX9_3 (fits_rf _ v5) dX2_watch_5 ?_
  refine aw_aload_n (i := 0) dX2_watch_8 rfl rfl trivial ?_
  replace hq := cond_t hq
  obtain ⟨z10, hq⟩ := hq
  obtain ⟨fs9, ha9⟩ := clB1 z10
  replace hq := obind hq
  obtain ⟨q11, e12, hq⟩ := hq
  refine aw_callV (Y2 := YX2_blanks) (As := []) (rest := []) (r := (RX2, TX2, 9)) kX2_blanks ha9 rfl rfl q1768 q1769 q1770 dX2_watch_9 rfl rfl (ct_X2_blanks g hst N h8 x0 _ e12) (Nat.le_of_ble_eq_true rfl) (Nat.le_of_ble_eq_true rfl) (fun v9 h9 z9 y9 => ?_)
  obtain ⟨rfl, y9⟩ := y9
  rw [y9]
  refine aw_st (st' := []) rfl ?_
  refine aw_aload_n (i := 0) dX2_watch_12 rfl rfl trivial ?_
  replace hq := cond_t hq
  obtain ⟨z13, hq⟩ := hq
  obtain ⟨fs9, ha9⟩ := clB1 z13
  replace hq := obind hq
  obtain ⟨q14, e15, hq⟩ := hq
  refine aw_callV (Y2 := YX2_peek) (As := []) (rest := []) (r := (RX2, TX2, 9)) kX2_peek ha9 rfl rfl q400 q401 q402 dX2_watch_13 rfl rfl (ct_X2_peek g hst N q11 x0 _ e15) (Nat.le_of_ble_eq_true rfl) (Nat.le_of_ble_eq_true rfl) (fun v9 h9 z9 y9 => ?_)
  obtain ⟨rfl, rfl⟩ := y9
  refine aw_st (st' := [.int q14.1]) rfl ?_
  refine aw_iconst (v := (-1)) dX2_watch_16 (by decide) ?_
  refine aw_icmp_ne (tgt := 21) dX2_watch_17 (by decide) (fun c16 => ?_) (fun c16 => ?_)
  · rw [if_neg c16] at hq
    refine aw_aload_n (i := 1) dX2_watch_21 rfl rfl trivial ?_
    refine aw_aload_n (i := 0) dX2_watch_22 rfl rfl trivial ?_
    replace hq := cond_t hq
    obtain ⟨z17, hq⟩ := hq
    obtain ⟨fs9, ha9⟩ := clB1 z17
    replace hq := obind hq
    obtain ⟨q18, e19, hq⟩ := hq
    refine aw_callVX (Y2 := YX2_probe) (As := []) (rest := [.ref a6]) (r := (RX2, TX2, 9)) kX2_probe ha9 rfl rfl q1894 q1896 qs40 dX2_watch_23 rfl rfl (ct_X2_probe g hst N q14.2 x0 _ e19) (Nat.le_of_ble_eq_true rfl) (Nat.le_of_ble_eq_true rfl) (fun v9 h9 z9 y9 => ?_) (fun E20 h9 z9 y9 => ?_)
    rotate_left
    · obtain ⟨e9, rfl⟩ := tR_exc y9
      replace hq := tcase_l e9 hq
      cases hq
      exact ax_out (by decide) ⟨rfl, rfl⟩
    obtain ⟨v21, e9, rfl, rfl⟩ := tR_ret y9
    replace hq := tcase_r e9 hq
    refine aw_st (st' := [va_rf v21, .ref a6]) rfl ?_
    replace hq := obind hq
    obtain ⟨h22, e23, hq⟩ := hq
    refine xw_put e23 fX2_263 tX9_4 (fits_rf _ v21) dX2_watch_26 ?_
    refine aw_aload_n (i := 0) dX2_watch_29 rfl rfl trivial ?_
    replace hq := cond_t hq
    obtain ⟨z24, hq⟩ := hq
    obtain ⟨fs9, ha9⟩ := clB1 z24
    replace hq := obind hq
    obtain ⟨q25, e26, hq⟩ := hq
    refine aw_callV (Y2 := YX2_blanks) (As := []) (rest := []) (r := (RX2, TX2, 9)) kX2_blanks ha9 rfl rfl q1768 q1769 q1770 dX2_watch_30 rfl rfl (ct_X2_blanks g hst N h22 x0 _ e26) (Nat.le_of_ble_eq_true rfl) (Nat.le_of_ble_eq_true rfl) (fun v9 h9 z9 y9 => ?_)
    obtain ⟨rfl, y9⟩ := y9
    rw [y9]
    refine aw_st (st' := []) rfl ?_
    refine aw_aload_n (i := 0) dX2_watch_33 rfl rfl trivial ?_
    replace hq := cond_t hq
    obtain ⟨z27, hq⟩ := hq
    obtain ⟨fs9, ha9⟩ := clB1 z27
    replace hq := obind hq
    obtain ⟨q28, e29, hq⟩ := hq
    refine aw_callV (Y2 := YX2_peek) (As := []) (rest := []) (r := (RX2, TX2, 9)) kX2_peek ha9 rfl rfl q400 q401 q402 dX2_watch_34 rfl rfl (ct_X2_peek g hst N q25 x0 _ e29) (Nat.le_of_ble_eq_true rfl) (Nat.le_of_ble_eq_true rfl) (fun v9 h9 z9 y9 => ?_)
    obtain ⟨rfl, rfl⟩ := y9
    refine aw_st (st' := [.int q28.1]) rfl ?_
    refine aw_iconst (v := (-1)) dX2_watch_37 (by decide) ?_
    refine aw_icmp_eq (tgt := 87) dX2_watch_38 (by decide) (fun c30 => ?_) (fun c30 => ?_)
    · rw [if_pos c30] at hq
      cases hq
      exact aw_vret dX2_watch_87 rfl ⟨rfl, rfl⟩
    · rw [if_neg c30] at hq
      refine aw_aload_n (i := 0) dX2_watch_41 rfl rfl trivial ?_
      replace hq := obind hq
      obtain ⟨i31, e32, hq⟩ := hq
      refine xw_getI e32 fX2_38 dX2_watch_42 ?_
      refine aw_istore_n (i := 2) (loc' := [some (.ref x0), some (.ref a6), some (.int i31)]) dX2_watch_45 rfl (Nat.le_of_ble_eq_true rfl) rfl ?_
      refine aw_aload_n (i := 1) dX2_watch_46 rfl rfl trivial ?_
      refine aw_aload_n (i := 0) dX2_watch_47 rfl rfl trivial ?_
      refine aw_bipush (v := 99) dX2_watch_48 (by decide) ?_
      replace hq := cond_t hq
      obtain ⟨z33, hq⟩ := hq
      obtain ⟨fs9, ha9⟩ := clB1 z33
      replace hq := obind hq
      obtain ⟨q34, e35, hq⟩ := hq
      refine aw_callVX (Y2 := YX2_number) (As := [.int (99 : Int32)]) (rest := [.ref a6]) (r := (RX2, TX2, 9)) kX2_number ha9 rfl rfl q863 q865 qs17 dX2_watch_50 rfl rfl (ct_X2_number g hst N q28.2 x0 (99 : Int32) _ e35) (Nat.le_of_ble_eq_true rfl) (Nat.le_of_ble_eq_true rfl) (fun v9 h9 z9 y9 => ?_) (fun E36 h9 z9 y9 => ?_)
      rotate_left
      · obtain ⟨e9, rfl⟩ := tI_exc y9
        replace hq := tcase_l e9 hq
        cases hq
        exact ax_out (by decide) ⟨rfl, rfl⟩
      obtain ⟨v37, e9, rfl, rfl⟩ := tI_ret y9
      replace hq := tcase_r e9 hq
      refine aw_st (st' := [.int v37, .ref a6]) rfl ?_
      replace hq := obind hq
      obtain ⟨h38, e39, hq⟩ := hq
      refine xw_put e39 fX2_266 tX9_5 ⟨rfl, rfl⟩ dX2_watch_53 ?_
      refine aw_aload_n (i := 0) dX2_watch_56 rfl rfl trivial ?_
      refine aw_aload_n (i := 1) dX2_watch_57 rfl rfl trivial ?_
      replace hq := obind hq
      obtain ⟨i40, e41, hq⟩ := hq
      refine xw_getI e41 fX2_266 dX2_watch_58 ?_
      refine aw_if_le (tgt := 68) dX2_watch_61 (by decide) (fun c42 => ?_) (fun c42 => ?_)
      · rw [if_pos c42] at hq
        refine aw_iconst (v := 0) dX2_watch_68 (by decide) ?_
        exact p_x_X2_watch_69 g hst N   h38 x0 (some a6) i31 (0 : Int32) _ hq
      · rw [if_neg c42] at hq
        refine aw_iconst (v := 1) dX2_watch_64 (by decide) ?_
        refine aw_goto (tgt := 69) dX2_watch_65 (by decide) ?_
        exact p_x_X2_watch_69 g hst N   h38 x0 (some a6) i31 (1 : Int32) _ hq
  · rw [if_pos c16] at hq
    cases hq
    exact aw_vret dX2_watch_20 rfl ⟨rfl, rfl⟩
theorem dfX9 : ∀ j, j < 8 → defaultValue (tyX9 j) = vp_V [.int 0, .null, .int 0, .null, .null, .int 0, .int 0, .null] j := by decide +kernel
theorem fX2_285 : ∀ q ∈ ([(7, 2)] : List (Nat × Nat)), aFl RX2 285 q.1 q.2 := by
  intro q hq
  simp only [List.mem_cons, List.not_mem_nil, or_false] at hq
  subst hq
  exact aFl.ofN (RX9, TX9, 8) rfl (Nat.le_of_ble_eq_true rfl) q1859
theorem tX9_2 : ∀ q ∈ ([(7, 2)] : List (Nat × Nat)), aFt q.1 q.2 false .int := by
  intro q hq
  simp only [List.mem_cons, List.not_mem_nil, or_false] at hq
  subst hq
  exact ⟨(RX9, TX9, 8), tyX9, Nat.le_of_ble_eq_true rfl, rfl, Nat.le_of_ble_eq_true rfl, okX9, rfl, rfl⟩
abbrev YX2_job : YC := (yX2_job, cX2_job, 4, (some (.object "ProbeConsole$Job")), [])
theorem kX2_job : aMk YX2_job 1 := ⟨rfl, q1838, q117, ⟨by decide +kernel, by decide +kernel, by decide +kernel⟩, Nat.le_of_ble_eq_true rfl⟩
def x_X2_job_64 (g : AG) (N : Nat) (h : AH) (x0 : Nat) (x1 : Int32) (x2 : Int32) (r3 : Option Nat) : Option ((String ⊕ Option Nat) × AH) :=
  bif clB h x0 [1] then ((x_X2_ends g N h x0).bind fun q15 => tcase q15.1 (fun E17 => some (.inl E17, q15.2)) (fun v18 => some (.inr r3, q15.2))) else none
theorem p_x_X2_job_64 (g : AG) (hst : (gL g).stackTraces = false) (N : Nat) : ∀ (h : AH) (x0 : Nat) (x1 : Int32) (x2 : Int32) (r3 : Option Nat) (q : ((String ⊕ Option Nat) × AH)), x_X2_job_64 g N h x0 x1 x2 r3 = some q → AW g YX2_job 517 (tR q) h [some (.ref x0), some (.int x1), some (.int x2), some (va_rf r3)] 64 [] := by
  intro h x0 x1 x2 r3 q hq
  unfold x_X2_job_64 at hq
  refine aw_aload_n (i := 0) dX2_job_64 rfl rfl trivial ?_
  replace hq := cond_t hq
  obtain ⟨z14, hq⟩ := hq
  obtain ⟨fs9, ha9⟩ := clB1 z14
  replace hq := obind hq
  obtain ⟨q15, e16, hq⟩ := hq
  refine aw_callVX (Y2 := YX2_ends) (As := []) (rest := []) (r := (RX2, TX2, 9)) kX2_ends ha9 rfl rfl q1898 q1786 q1787 dX2_job_65 rfl rfl (ct_X2_ends g hst N h x0 _ e16) (Nat.le_of_ble_eq_true rfl) (Nat.le_of_ble_eq_true rfl) (fun v9 h9 z9 y9 => ?_) (fun E17 h9 z9 y9 => ?_)
  rotate_left
  · obtain ⟨e9, rfl⟩ := tV_exc y9
    replace hq := tcase_l e9 hq
    cases hq
    exact ax_out (by decide) ⟨rfl, rfl⟩
  obtain ⟨v18, e9, rfl, rfl⟩ := tV_ret y9
  replace hq := tcase_r e9 hq
  refine aw_st (st' := []) rfl ?_
  refine aw_aload_n (i := 3) dX2_job_68 rfl rfl (aIsR_rf _) ?_
  cases hq
  exact aw_areturn dX2_job_69 rfl (Or.inl ⟨_, rfl⟩) (aIsR_rf _) ⟨rfl, rfl⟩
def x_X2_job_35 (g : AG) (N : Nat) (h : AH) (x0 : Nat) (x1 : Int32) (s0 : Int32) : Option ((String ⊕ Option Nat) × AH) :=
  (mkO g h 8 7 [.int 0, .null, .int 0, .null, .null, .int 0, .int 0, .null]).bind fun h2 => bif clB h2 x0 [1] then ((x_X2_pattern g N h2 x0).bind fun q5 => tcase q5.1 (fun E7 => some (.inl E7, q5.2)) (fun v8 => (x_X9_init g N q5.2 h.2.1 x1 v8).bind fun q9 => (wrV g q9 h.2.1 [(7, 2)] (.int s0)).bind fun h11 => if x1 = (1 : Int32) then (bif clB h11 x0 [1] then ((x_X2_watch g N h11 x0 (some h.2.1)).bind fun q20 => tcase q20.1 (fun E22 => some (.inl E22, q20.2)) (fun v23 => x_X2_job_64 g N  q20.2 x0 x1 s0 (some h.2.1))) else none) else (x_X2_job_64 g N  h11 x0 x1 s0 (some h.2.1)))) else none
theorem p_x_X2_job_35 (g : AG) (hst : (gL g).stackTraces = false) (N : Nat) : ∀ (h : AH) (x0 : Nat) (x1 : Int32) (s0 : Int32) (q : ((String ⊕ Option Nat) × AH)), x_X2_job_35 g N h x0 x1 s0 = some q → AW g YX2_job 517 (tR q) h [some (.ref x0), some (.int x1), none, none] 35 [.int s0] := by
  intro h x0 x1 s0 q hq
  unfold x_X2_job_35 at hq
  refine aw_istore_n (i := 2) (loc' := [some (.ref x0), some (.int x1), some (.int s0), none]) dX2_job_35 rfl (Nat.le_of_ble_eq_true rfl) rfl ?_
  replace hq := obind hq
  obtain ⟨h2, e3, hq⟩ := hq
  refine xw_new (r := (RX9, TX9, 8)) e3 q1844 q1845 q159 (by decide) rfl okX9 rfl dfX9 dX2_job_36 ?_
  refine aw_dup dX2_job_39 rfl ?_
  refine aw_iload_n (i := 1) dX2_job_40 rfl rfl ?_
  refine aw_aload_n (i := 0) dX2_job_41 rfl rfl trivial ?_
  replace hq := cond_t hq
  obtain ⟨z4, hq⟩ := hq
  obtain ⟨fs9, ha9⟩ := clB1 z4
  replace hq := obind hq
  obtain ⟨q5, e6, hq⟩ := hq
  refine aw_callVX (Y2 := YX2_pattern) (As := []) (rest := [.int x1, .ref h.2.1, .ref h.2.1]) (r := (RX2, TX2, 9)) kX2_pattern ha9 rfl rfl q1846 q1848 qs38 dX2_job_42 rfl rfl (ct_X2_pattern g hst N h2 x0 _ e6) (Nat.le_of_ble_eq_true rfl) (Nat.le_of_ble_eq_true rfl) (fun v9 h9 z9 y9 => ?_) (fun E7 h9 z9 y9 => ?_)
  rotate_left
  · obtain ⟨e9, rfl⟩ := tR_exc y9
    replace hq := tcase_l e9 hq
    cases hq
    exact ax_out (by decide) ⟨rfl, rfl⟩
  obtain ⟨v8, e9, rfl, rfl⟩ := tR_ret y9
  replace hq := tcase_r e9 hq
  refine aw_st (st' := [va_rf v8, .int x1, .ref h.2.1, .ref h.2.1]) rfl ?_
  replace hq := obind hq
  obtain ⟨q9, e10, hq⟩ := hq
  refine aw_callI (Y2 := YX9_init) (As := [.int x1, va_rf v8]) (rest := [.ref h.2.1]) (b := h.2.1) kX9_init rfl rfl q1850 q1851 dX2_job_45 rfl rfl (ct_X9_init g hst N q5.2 h.2.1 x1 v8 _ e10) (Nat.le_of_ble_eq_true rfl) (Nat.le_of_ble_eq_true rfl) (fun v9 h9 z9 y9 => ?_)
  obtain ⟨rfl, y9⟩ := y9
  rw [y9]
  refine aw_st (st' := [.ref h.2.1]) rfl ?_
  refine aw_astore_n (i := 3) (loc' := [some (.ref x0), some (.int x1), some (.int s0), some (.ref h.2.1)]) dX2_job_48 rfl (Nat.le_of_ble_eq_true rfl) trivial rfl ?_
  refine aw_aload_n (i := 3) dX2_job_49 rfl rfl trivial ?_
  refine aw_iload_n (i := 2) dX2_job_50 rfl rfl ?_
  replace hq := obind hq
  obtain ⟨h11, e12, hq⟩ := hq
  refine xw_put e12 fX2_285 tX9_2 ⟨rfl, rfl⟩ dX2_job_51 ?_
  refine aw_iload_n (i := 1) dX2_job_54 rfl rfl ?_
  refine aw_iconst (v := 1) dX2_job_55 (by decide) ?_
  refine aw_icmp_ne (tgt := 64) dX2_job_56 (by decide) (fun c13 => ?_) (fun c13 => ?_)
  · rw [if_neg c13] at hq
    exact p_x_X2_job_64 g hst N   h11 x0 x1 s0 (some h.2.1) _ hq
  · rw [if_pos c13] at hq
    refine aw_aload_n (i := 0) dX2_job_59 rfl rfl trivial ?_
    refine aw_aload_n (i := 3) dX2_job_60 rfl rfl trivial ?_
    replace hq := cond_t hq
    obtain ⟨z19, hq⟩ := hq
    obtain ⟨fs9, ha9⟩ := clB1 z19
    replace hq := obind hq
    obtain ⟨q20, e21, hq⟩ := hq
    refine aw_callVX (Y2 := YX2_watch) (As := [.ref h.2.1]) (rest := []) (r := (RX2, TX2, 9)) kX2_watch ha9 rfl rfl q1890 q1892 qs39 dX2_job_61 rfl rfl (ct_X2_watch g hst N h11 x0 (some h.2.1) _ e21) (Nat.le_of_ble_eq_true rfl) (Nat.le_of_ble_eq_true rfl) (fun v9 h9 z9 y9 => ?_) (fun E22 h9 z9 y9 => ?_)
    rotate_left
    · obtain ⟨e9, rfl⟩ := tV_exc y9
      replace hq := tcase_l e9 hq
      cases hq
      exact ax_out (by decide) ⟨rfl, rfl⟩
    obtain ⟨v23, e9, rfl, rfl⟩ := tV_ret y9
    replace hq := tcase_r e9 hq
    refine aw_st (st' := []) rfl ?_
    exact p_x_X2_job_64 g hst N   q20.2 x0 x1 s0 (some h.2.1) _ hq
def x_X2_job (g : AG) (N : Nat) (h : AH) (x0 : Nat) (x1 : Int32) : Option ((String ⊕ Option Nat) × AH) :=
  if x1 = (1 : Int32) then ((mkA g h 5 (3 : Int32) .null).bind fun h24 => (wrQ g h24 h.2.1 (0 : Int32) (some (gS g 12))).bind fun h26 => (wrQ g h26 h.2.1 (1 : Int32) (some (gS g 13))).bind fun h28 => (wrQ g h28 h.2.1 (2 : Int32) (some (gS g 14))).bind fun h30 => bif clB h30 x0 [1] then ((x_X2_word g N h30 x0 (some h.2.1)).bind fun q33 => tcase q33.1 (fun E35 => some (.inl E35, q33.2)) (fun v36 => x_X2_job_35 g N  q33.2 x0 x1 v36)) else none) else (x_X2_job_35 g N  h x0 x1 (0 : Int32))
theorem ct_X2_job (g : AG) (hst : (gL g).stackTraces = false) (N : Nat) : ∀ (h : AH) (x0 : Nat) (x1 : Int32) (q : ((String ⊕ Option Nat) × AH)), x_X2_job g N h x0 x1 = some q → CT g YX2_job 517 [.ref x0, .int x1] h (tR q) := by
  intro h x0 x1 q hq
  refine CT.of rfl (by decide +kernel) (loc := [some (.ref x0), some (.int x1), none, none]) (by first | exact Nat.le_of_ble_eq_true rfl | (simp only [lgl_rf, lgl_i, lgl_j, lgl_ref, lgl_nil]; exact Nat.le_of_ble_eq_true rfl)) (by first | rfl | (simp only [aent_rf, aent_i, aent_j, aent_ref, aent_nil]; rfl)) ?_
  unfold x_X2_job at hq
  refine aw_iload_n (i := 1) dX2_job_0 rfl rfl ?_
  refine aw_iconst (v := 1) dX2_job_1 (by decide) ?_
  refine aw_icmp_ne (tgt := 34) dX2_job_2 (by decide) (fun c1 => ?_) (fun c1 => ?_)
  · rw [if_neg c1] at hq
    refine aw_iconst (v := 0) dX2_job_34 (by decide) ?_
    exact p_x_X2_job_35 g hst N   h x0 x1 (0 : Int32) _ hq
  · rw [if_pos c1] at hq
    refine aw_aload_n (i := 0) dX2_job_5 rfl rfl trivial ?_
    refine aw_iconst (v := 3) dX2_job_6 (by decide) ?_
    replace hq := obind hq
    obtain ⟨h24, e25, hq⟩ := hq
    refine xw_anew e25 q1839 q1758 rfl (by decide) dX2_job_7 ?_
    refine aw_dup dX2_job_10 rfl ?_
    refine aw_iconst (v := 0) dX2_job_11 (by decide) ?_
    refine aw_ldcwS (i := 12) rfl dX2_job_12 ?_
    replace hq := obind hq
    obtain ⟨h26, e27, hq⟩ := hq
    refine xw_aast (v := (some (gS g 12))) e27 dX2_job_15 ?_
    refine aw_dup dX2_job_16 rfl ?_
    refine aw_iconst (v := 1) dX2_job_17 (by decide) ?_
    refine aw_ldcwS (i := 13) rfl dX2_job_18 ?_
    replace hq := obind hq
    obtain ⟨h28, e29, hq⟩ := hq
    refine xw_aast (v := (some (gS g 13))) e29 dX2_job_21 ?_
    refine aw_dup dX2_job_22 rfl ?_
    refine aw_iconst (v := 2) dX2_job_23 (by decide) ?_
    refine aw_ldcwS (i := 14) rfl dX2_job_24 ?_
    replace hq := obind hq
    obtain ⟨h30, e31, hq⟩ := hq
    refine xw_aast (v := (some (gS g 14))) e31 dX2_job_27 ?_
    replace hq := cond_t hq
    obtain ⟨z32, hq⟩ := hq
    obtain ⟨fs9, ha9⟩ := clB1 z32
    replace hq := obind hq
    obtain ⟨q33, e34, hq⟩ := hq
    refine aw_callVX (Y2 := YX2_word) (As := [.ref h.2.1]) (rest := []) (r := (RX2, TX2, 9)) kX2_word ha9 rfl rfl q1843 q1765 q1766 dX2_job_28 rfl rfl (ct_X2_word g hst N h30 x0 (some h.2.1) _ e34) (Nat.le_of_ble_eq_true rfl) (Nat.le_of_ble_eq_true rfl) (fun v9 h9 z9 y9 => ?_) (fun E35 h9 z9 y9 => ?_)
    rotate_left
    · obtain ⟨e9, rfl⟩ := tI_exc y9
      replace hq := tcase_l e9 hq
      cases hq
      exact ax_out (by decide) ⟨rfl, rfl⟩
    obtain ⟨v36, e9, rfl, rfl⟩ := tI_ret y9
    replace hq := tcase_r e9 hq
    refine aw_st (st' := [.int v36]) rfl ?_
    refine aw_goto (tgt := 35) dX2_job_31 (by decide) ?_
    exact p_x_X2_job_35 g hst N   q33.2 x0 x1 v36 _ hq
abbrev YX1_put : YC := (yX1_put, cX1_put, 3, (some .int), [])
theorem kX1_put : aMk YX1_put 1 := ⟨rfl, q1902, q116, ⟨by decide +kernel, by decide +kernel, by decide +kernel⟩, Nat.le_of_ble_eq_true rfl⟩
def x_X1_put_2 (g : AG) (N : Nat) (K25 : AH → Nat → Option Nat → Int32 → Option (Int32 × AH)) : Nat → AH → Nat → Option Nat → Int32 → Option (Int32 × AH)
  | 0, _, _, _, _ => none
  | n9 + 1, h, x0, r1, x2 =>
  (rdR h x0 [(0, 3)]).bind fun o1 => (o1).bind fun a3 => (rdR h a3 [(2, 2)]).bind fun o5 => (x_J21_valueOf g N h x2).bind fun q7 => (o5).bind fun a9 => bif clB q7.2 a9 [14] then ((x_J5_containsKey g N q7.2 a9 q7.1).bind fun q12 => if q12.1 = 0 then (K25 q12.2 x0 r1 x2) else (x_X1_put_2 g N K25 n9 q12.2 x0 r1 (x2 + 1))) else none
theorem p_x_X1_put_2 (g : AG) (hst : (gL g).stackTraces = false) (N : Nat) (K25 : AH → Nat → Option Nat → Int32 → Option (Int32 × AH)) (hK25 : ∀ (h : AH) (x0 : Nat) (r1 : Option Nat) (x2 : Int32) (q : (Int32 × AH)), K25 h x0 r1 x2 = some q → AW g YX1_put 8 (xI q) h [some (.ref x0), some (va_rf r1), some (.int x2)] 25 []) : ∀ (n9 : Nat) (h : AH) (x0 : Nat) (r1 : Option Nat) (x2 : Int32) (q : (Int32 × AH)), x_X1_put_2 g N K25 n9 h x0 r1 x2 = some q → AW g YX1_put 8 (xI q) h [some (.ref x0), some (va_rf r1), some (.int x2)] 2 [] := by
  intro n9
  induction n9 with
  | zero =>
    intro h x0 r1 x2 q hq
    cases hq
  | succ n9 ih =>
    intro h x0 r1 x2 q hq
    rw [x_X1_put_2] at hq
    refine aw_aload_n (i := 0) dX1_put_2 rfl rfl trivial ?_
    replace hq := obind hq
    obtain ⟨o1, e2, hq⟩ := hq
    refine xw_getR e2 fX1_25 dX1_put_3 ?_
    replace hq := obind hq
    obtain ⟨a3, e4, hq⟩ := hq
    subst e4
    replace hq := obind hq
    obtain ⟨o5, e6, hq⟩ := hq
    refine xw_getR e6 fX1_102 dX1_put_6 ?_
    refine aw_iload_n (i := 2) dX1_put_9 rfl rfl ?_
    replace hq := obind hq
    obtain ⟨q7, e8, hq⟩ := hq
    refine aw_callS (Y2 := YJ21_valueOf) (As := [.int x2]) (rest := [va_rf o5]) kJ21_valueOf q1789 q1790 dX1_put_10 rfl rfl (ct_J21_valueOf g hst N h x2 _ e8) (Nat.le_of_ble_eq_true rfl) (by simp only [List.map_cons, List.map_nil, List.sum_cons, List.sum_nil, cat_rf]; exact Nat.le_of_ble_eq_true rfl) (fun v9 h9 z9 y9 => ?_)
    obtain ⟨rfl, rfl⟩ := y9
    refine aw_st (st' := [va_rf q7.1, va_rf o5]) rfl ?_
    replace hq := obind hq
    obtain ⟨a9, e10, hq⟩ := hq
    subst e10
    replace hq := cond_t hq
    obtain ⟨z11, hq⟩ := hq
    obtain ⟨fs9, ha9⟩ := clB1 z11
    replace hq := obind hq
    obtain ⟨q12, e13, hq⟩ := hq
    refine aw_callV (Y2 := YJ5_containsKey) (As := [va_rf q7.1]) (rest := []) (r := (RJ5, TJ5, 9)) kJ5_containsKey ha9 rfl rfl q1903 q1498 q2783 dX1_put_13 rfl rfl (ct_J5_containsKey g hst N q7.2 a9 q7.1 _ e13) (Nat.le_of_ble_eq_true rfl) (Nat.le_of_ble_eq_true rfl) (fun v9 h9 z9 y9 => ?_)
    obtain ⟨rfl, rfl⟩ := y9
    refine aw_st (st' := [.int q12.1]) rfl ?_
    refine aw_if_eq (tgt := 25) dX1_put_16 (by decide) (fun c14 => ?_) (fun c14 => ?_)
    · rw [if_pos c14] at hq
      exact hK25 q12.2 x0 r1 x2 _ hq
    · rw [if_neg c14] at hq
      refine aw_iinc (v := x2 + 1) (loc' := [some (.ref x0), some (va_rf r1), some (.int (x2 + 1))]) dX1_put_19 rfl rfl (Nat.le_of_ble_eq_true rfl) (aset1_rf rfl) ?_
      refine aw_goto (tgt := 2) dX1_put_22 (by decide) ?_
      exact ih q12.2 x0 r1 (x2 + 1) _ hq
def x_X1_put_37 (g : AG) (N : Nat) (h : AH) (x0 : Nat) (r1 : Option Nat) (x2 : Int32) (s1 : Int32) : Option (Int32 × AH) :=
  bif clB h x0 [0] then ((x_X1_atEnd g N h x0 s1).bind fun q17 => if q17.1 = 0 then (some ((-1 : Int32), q17.2)) else ((rdR q17.2 x0 [(0, 3)]).bind fun o20 => (o20).bind fun a22 => (rdR q17.2 a22 [(2, 2)]).bind fun o24 => (x_J21_valueOf g N q17.2 x2).bind fun q26 => (o24).bind fun a28 => bif clB q26.2 a28 [14] then ((x_J5_put g N q26.2 a28 q26.1 r1).bind fun q31 => some (x2, q31.2)) else none)) else none
theorem p_x_X1_put_37 (g : AG) (hst : (gL g).stackTraces = false) (N : Nat) : ∀ (h : AH) (x0 : Nat) (r1 : Option Nat) (x2 : Int32) (s1 : Int32) (q : (Int32 × AH)), x_X1_put_37 g N h x0 r1 x2 s1 = some q → AW g YX1_put 8 (xI q) h [some (.ref x0), some (va_rf r1), some (.int x2)] 37 [.int s1, .ref x0] := by
  intro h x0 r1 x2 s1 q hq
  unfold x_X1_put_37 at hq
  replace hq := cond_t hq
  obtain ⟨z16, hq⟩ := hq
  obtain ⟨fs9, ha9⟩ := clB1 z16
  replace hq := obind hq
  obtain ⟨q17, e18, hq⟩ := hq
  refine aw_callV (Y2 := YX1_atEnd) (As := [.int s1]) (rest := []) (r := (RX1, TX1, 5)) kX1_atEnd ha9 rfl rfl q1519 q1521 qs24 dX1_put_37 rfl rfl (ct_X1_atEnd g hst N h x0 s1 _ e18) (Nat.le_of_ble_eq_true rfl) (Nat.le_of_ble_eq_true rfl) (fun v9 h9 z9 y9 => ?_)
  obtain ⟨rfl, rfl⟩ := y9
  refine aw_st (st' := [.int q17.1]) rfl ?_
  refine aw_if_ne (tgt := 45) dX1_put_40 (by decide) (fun c19 => ?_) (fun c19 => ?_)
  · rw [if_neg c19] at hq
    refine aw_aload_n (i := 0) dX1_put_45 rfl rfl trivial ?_
    replace hq := obind hq
    obtain ⟨o20, e21, hq⟩ := hq
    refine xw_getR e21 fX1_25 dX1_put_46 ?_
    replace hq := obind hq
    obtain ⟨a22, e23, hq⟩ := hq
    subst e23
    replace hq := obind hq
    obtain ⟨o24, e25, hq⟩ := hq
    refine xw_getR e25 fX1_102 dX1_put_49 ?_
    refine aw_iload_n (i := 2) dX1_put_52 rfl rfl ?_
    replace hq := obind hq
    obtain ⟨q26, e27, hq⟩ := hq
    refine aw_callS (Y2 := YJ21_valueOf) (As := [.int x2]) (rest := [va_rf o24]) kJ21_valueOf q1789 q1790 dX1_put_53 rfl rfl (ct_J21_valueOf g hst N q17.2 x2 _ e27) (Nat.le_of_ble_eq_true rfl) (by simp only [List.map_cons, List.map_nil, List.sum_cons, List.sum_nil, cat_rf]; exact Nat.le_of_ble_eq_true rfl) (fun v9 h9 z9 y9 => ?_)
    obtain ⟨rfl, rfl⟩ := y9
    refine aw_st (st' := [va_rf q26.1, va_rf o24]) rfl ?_
    refine aw_aload_n (i := 1) dX1_put_56 rfl rfl (aIsR_rf _) ?_
    replace hq := obind hq
    obtain ⟨a28, e29, hq⟩ := hq
    subst e29
    replace hq := cond_t hq
    obtain ⟨z30, hq⟩ := hq
    obtain ⟨fs9, ha9⟩ := clB1 z30
    replace hq := obind hq
    obtain ⟨q31, e32, hq⟩ := hq
    refine aw_callV (Y2 := YJ5_put) (As := [va_rf q26.1, va_rf r1]) (rest := []) (r := (RJ5, TJ5, 9)) kJ5_put ha9 rfl rfl q1904 q1670 q2784 dX1_put_57 rfl rfl (ct_J5_put g hst N q26.2 a28 q26.1 r1 _ e32) (Nat.le_of_ble_eq_true rfl) (Nat.le_of_ble_eq_true rfl) (fun v9 h9 z9 y9 => ?_)
    obtain ⟨rfl, rfl⟩ := y9
    refine aw_st (st' := [va_rf q31.1]) rfl ?_
    refine aw_pop dX1_put_60 (cat_rf _) ?_
    refine aw_iload_n (i := 2) dX1_put_61 rfl rfl ?_
    cases hq
    exact aw_ireturn dX1_put_62 rfl rfl ⟨rfl, rfl⟩
  · rw [if_pos c19] at hq
    refine aw_iconst (v := (-1)) dX1_put_43 (by decide) ?_
    cases hq
    exact aw_ireturn dX1_put_44 rfl rfl ⟨rfl, rfl⟩
def x_X1_put (g : AG) (N : Nat) (h : AH) (x0 : Nat) (r1 : Option Nat) : Option (Int32 × AH) :=
  x_X1_put_2 g N (fun h x0 r1 x2 => if (8 : Int32) ≤ x2 then (x_X1_put_37 g N  h x0 r1 x2 (0 : Int32)) else (x_X1_put_37 g N  h x0 r1 x2 (1 : Int32))) N h x0 r1 (0 : Int32)
theorem ct_X1_put (g : AG) (hst : (gL g).stackTraces = false) (N : Nat) : ∀ (h : AH) (x0 : Nat) (r1 : Option Nat) (q : (Int32 × AH)), x_X1_put g N h x0 r1 = some q → CT g YX1_put 8 [.ref x0, va_rf r1] h (xI q) := by
  intro h x0 r1 q hq
  refine CT.of rfl (by decide +kernel) (loc := [some (.ref x0), some (va_rf r1), none]) (by first | exact Nat.le_of_ble_eq_true rfl | (simp only [lgl_rf, lgl_i, lgl_j, lgl_ref, lgl_nil]; exact Nat.le_of_ble_eq_true rfl)) (by first | rfl | (simp only [aent_rf, aent_i, aent_j, aent_ref, aent_nil]; rfl)) ?_
  unfold x_X1_put at hq
  refine aw_iconst (v := 0) dX1_put_0 (by decide) ?_
  refine aw_istore_n (i := 2) (loc' := [some (.ref x0), some (va_rf r1), some (.int (0 : Int32))]) dX1_put_1 rfl (Nat.le_of_ble_eq_true rfl) (aset1_rf rfl) ?_
  refine p_x_X1_put_2 g hst N _ ?_ N h x0 r1 (0 : Int32) _ hq
  · intro h x0 r1 x2 q hq
    refine aw_aload_n (i := 0) dX1_put_25 rfl rfl trivial ?_
    refine aw_iload_n (i := 2) dX1_put_26 rfl rfl ?_
    refine aw_bipush (v := 8) dX1_put_27 (by decide) ?_
    refine aw_icmp_ge (tgt := 36) dX1_put_29 (by decide) (fun c15 => ?_) (fun c15 => ?_)
    · rw [if_pos c15] at hq
      refine aw_iconst (v := 0) dX1_put_36 (by decide) ?_
      exact p_x_X1_put_37 g hst N   h x0 r1 x2 (0 : Int32) _ hq
    · rw [if_neg c15] at hq
      refine aw_iconst (v := 1) dX1_put_32 (by decide) ?_
      refine aw_goto (tgt := 37) dX1_put_33 (by decide) ?_
      exact p_x_X1_put_37 g hst N   h x0 r1 x2 (1 : Int32) _ hq
abbrev YX1_obey : YC := (yX1_obey, cX1_obey, 2, (some .int), [])
theorem kX1_obey : aMk YX1_obey 0 := ⟨rfl, q1756, q116, ⟨by decide +kernel, by decide +kernel, by decide +kernel⟩, Nat.le_of_ble_eq_true rfl⟩
def x_X1_obey (g : AG) (N : Nat) (h : AH) (x0 : Nat) : Option ((String ⊕ Int32) × AH) :=
  (rdR h x0 [(0, 2)]).bind fun o1 => (mkA g h 5 (5 : Int32) .null).bind fun h3 => (wrQ g h3 h.2.1 (0 : Int32) (some (gS g 7))).bind fun h5 => (wrQ g h5 h.2.1 (1 : Int32) (some (gS g 8))).bind fun h7 => (wrQ g h7 h.2.1 (2 : Int32) (some (gS g 9))).bind fun h9 => (wrQ g h9 h.2.1 (3 : Int32) (some (gS g 10))).bind fun h11 => (wrQ g h11 h.2.1 (4 : Int32) (some (gS g 11))).bind fun h13 => (o1).bind fun a15 => bif clB h13 a15 [1] then ((x_X2_word g N h13 a15 (some h.2.1)).bind fun q18 => tcase q18.1 (fun E20 => some (.inl E20, q18.2)) (fun v21 => if v21 = (3 : Int32) then (bif clB q18.2 x0 [0] then ((x_X1_kill g N q18.2 x0).bind fun q42 => tcase q42.1 (fun E44 => some (.inl E44, q42.2)) (fun v45 => some (.inr v45, q42.2))) else none) else (if v21 = (4 : Int32) then (bif clB q18.2 x0 [0] then ((x_X1_reset g N q18.2 x0).bind fun q37 => tcase q37.1 (fun E39 => some (.inl E39, q37.2)) (fun v40 => some (.inr v40, q37.2))) else none) else ((rdR q18.2 x0 [(0, 2)]).bind fun o24 => (o24).bind fun a26 => bif clB q18.2 a26 [1] then ((x_X2_job g N q18.2 a26 (v21 + (1 : Int32))).bind fun q29 => tcase q29.1 (fun E31 => some (.inl E31, q29.2)) (fun v32 => bif clB q29.2 x0 [0] then ((x_X1_put g N q29.2 x0 v32).bind fun q34 => some (.inr q34.1, q34.2)) else none)) else none)))) else none
theorem ct_X1_obey (g : AG) (hst : (gL g).stackTraces = false) (N : Nat) : ∀ (h : AH) (x0 : Nat) (q : ((String ⊕ Int32) × AH)), x_X1_obey g N h x0 = some q → CT g YX1_obey 518 [.ref x0] h (tI q) := by
  intro h x0 q hq
  refine CT.of rfl (by decide +kernel) (loc := [some (.ref x0), none]) (by first | exact Nat.le_of_ble_eq_true rfl | (simp only [lgl_rf, lgl_i, lgl_j, lgl_ref, lgl_nil]; exact Nat.le_of_ble_eq_true rfl)) (by first | rfl | (simp only [aent_rf, aent_i, aent_j, aent_ref, aent_nil]; rfl)) ?_
  unfold x_X1_obey at hq
  refine aw_aload_n (i := 0) dX1_obey_0 rfl rfl trivial ?_
  replace hq := obind hq
  obtain ⟨o1, e2, hq⟩ := hq
  refine xw_getR e2 fX1_18 dX1_obey_1 ?_
  refine aw_iconst (v := 5) dX1_obey_4 (by decide) ?_
  replace hq := obind hq
  obtain ⟨h3, e4, hq⟩ := hq
  refine xw_anew e4 q1757 q1758 rfl (by decide) dX1_obey_5 ?_
  refine aw_dup dX1_obey_8 rfl ?_
  refine aw_iconst (v := 0) dX1_obey_9 (by decide) ?_
  refine aw_ldcS (i := 7) rfl dX1_obey_10 ?_
  replace hq := obind hq
  obtain ⟨h5, e6, hq⟩ := hq
  refine xw_aast (v := (some (gS g 7))) e6 dX1_obey_12 ?_
  refine aw_dup dX1_obey_13 rfl ?_
  refine aw_iconst (v := 1) dX1_obey_14 (by decide) ?_
  refine aw_ldcS (i := 8) rfl dX1_obey_15 ?_
  replace hq := obind hq
  obtain ⟨h7, e8, hq⟩ := hq
  refine xw_aast (v := (some (gS g 8))) e8 dX1_obey_17 ?_
  refine aw_dup dX1_obey_18 rfl ?_
  refine aw_iconst (v := 2) dX1_obey_19 (by decide) ?_
  refine aw_ldcS (i := 9) rfl dX1_obey_20 ?_
  replace hq := obind hq
  obtain ⟨h9, e10, hq⟩ := hq
  refine xw_aast (v := (some (gS g 9))) e10 dX1_obey_22 ?_
  refine aw_dup dX1_obey_23 rfl ?_
  refine aw_iconst (v := 3) dX1_obey_24 (by decide) ?_
  refine aw_ldcS (i := 10) rfl dX1_obey_25 ?_
  replace hq := obind hq
  obtain ⟨h11, e12, hq⟩ := hq
  refine xw_aast (v := (some (gS g 10))) e12 dX1_obey_27 ?_
  refine aw_dup dX1_obey_28 rfl ?_
  refine aw_iconst (v := 4) dX1_obey_29 (by decide) ?_
  refine aw_ldcS (i := 11) rfl dX1_obey_30 ?_
  replace hq := obind hq
  obtain ⟨h13, e14, hq⟩ := hq
  refine xw_aast (v := (some (gS g 11))) e14 dX1_obey_32 ?_
  replace hq := obind hq
  obtain ⟨a15, e16, hq⟩ := hq
  subst e16
  replace hq := cond_t hq
  obtain ⟨z17, hq⟩ := hq
  obtain ⟨fs9, ha9⟩ := clB1 z17
  replace hq := obind hq
  obtain ⟨q18, e19, hq⟩ := hq
  refine aw_callVX (Y2 := YX2_word) (As := [.ref h.2.1]) (rest := []) (r := (RX2, TX2, 9)) kX2_word ha9 rfl rfl q1764 q1765 q1766 dX1_obey_33 rfl rfl (ct_X2_word g hst N h13 a15 (some h.2.1) _ e19) (Nat.le_of_ble_eq_true rfl) (Nat.le_of_ble_eq_true rfl) (fun v9 h9 z9 y9 => ?_) (fun E20 h9 z9 y9 => ?_)
  rotate_left
  · obtain ⟨e9, rfl⟩ := tI_exc y9
    replace hq := tcase_l e9 hq
    cases hq
    exact ax_out (by decide) ⟨rfl, rfl⟩
  obtain ⟨v21, e9, rfl, rfl⟩ := tI_ret y9
  replace hq := tcase_r e9 hq
  refine aw_st (st' := [.int v21]) rfl ?_
  refine aw_istore_n (i := 1) (loc' := [some (.ref x0), some (.int v21)]) dX1_obey_36 rfl (Nat.le_of_ble_eq_true rfl) rfl ?_
  refine aw_iload_n (i := 1) dX1_obey_37 rfl rfl ?_
  refine aw_iconst (v := 3) dX1_obey_38 (by decide) ?_
  refine aw_icmp_ne (tgt := 49) dX1_obey_39 (by decide) (fun c22 => ?_) (fun c22 => ?_)
  · rw [if_neg c22] at hq
    refine aw_iload_n (i := 1) dX1_obey_49 rfl rfl ?_
    refine aw_iconst (v := 4) dX1_obey_50 (by decide) ?_
    refine aw_icmp_ne (tgt := 61) dX1_obey_51 (by decide) (fun c23 => ?_) (fun c23 => ?_)
    · rw [if_neg c23] at hq
      refine aw_aload_n (i := 0) dX1_obey_61 rfl rfl trivial ?_
      refine aw_aload_n (i := 0) dX1_obey_62 rfl rfl trivial ?_
      replace hq := obind hq
      obtain ⟨o24, e25, hq⟩ := hq
      refine xw_getR e25 fX1_18 dX1_obey_63 ?_
      refine aw_iload_n (i := 1) dX1_obey_66 rfl rfl ?_
      refine aw_iconst (v := 1) dX1_obey_67 (by decide) ?_
      refine aw_iadd dX1_obey_68 ?_
      replace hq := obind hq
      obtain ⟨a26, e27, hq⟩ := hq
      subst e27
      replace hq := cond_t hq
      obtain ⟨z28, hq⟩ := hq
      obtain ⟨fs9, ha9⟩ := clB1 z28
      replace hq := obind hq
      obtain ⟨q29, e30, hq⟩ := hq
      refine aw_callVX (Y2 := YX2_job) (As := [.int (v21 + (1 : Int32))]) (rest := [.ref x0]) (r := (RX2, TX2, 9)) kX2_job ha9 rfl rfl q1835 q1836 q1837 dX1_obey_69 rfl rfl (ct_X2_job g hst N q18.2 a26 (v21 + (1 : Int32)) _ e30) (Nat.le_of_ble_eq_true rfl) (Nat.le_of_ble_eq_true rfl) (fun v9 h9 z9 y9 => ?_) (fun E31 h9 z9 y9 => ?_)
      rotate_left
      · obtain ⟨e9, rfl⟩ := tR_exc y9
        replace hq := tcase_l e9 hq
        cases hq
        exact ax_out (by decide) ⟨rfl, rfl⟩
      obtain ⟨v32, e9, rfl, rfl⟩ := tR_ret y9
      replace hq := tcase_r e9 hq
      refine aw_st (st' := [va_rf v32, .ref x0]) rfl ?_
      replace hq := cond_t hq
      obtain ⟨z33, hq⟩ := hq
      obtain ⟨fs9, ha9⟩ := clB1 z33
      replace hq := obind hq
      obtain ⟨q34, e35, hq⟩ := hq
      refine aw_callV (Y2 := YX1_put) (As := [va_rf v32]) (rest := []) (r := (RX1, TX1, 5)) kX1_put ha9 rfl rfl q1899 q1901 qs41 dX1_obey_72 rfl rfl (ct_X1_put g hst N q29.2 x0 v32 _ e35) (Nat.le_of_ble_eq_true rfl) (Nat.le_of_ble_eq_true rfl) (fun v9 h9 z9 y9 => ?_)
      obtain ⟨rfl, rfl⟩ := y9
      refine aw_st (st' := [.int q34.1]) rfl ?_
      cases hq
      exact aw_ireturn dX1_obey_75 rfl rfl ⟨rfl, rfl⟩
    · rw [if_pos c23] at hq
      refine aw_aload_n (i := 0) dX1_obey_54 rfl rfl trivial ?_
      replace hq := cond_t hq
      obtain ⟨z36, hq⟩ := hq
      obtain ⟨fs9, ha9⟩ := clB1 z36
      replace hq := obind hq
      obtain ⟨q37, e38, hq⟩ := hq
      refine aw_callVX (Y2 := YX1_reset) (As := []) (rest := []) (r := (RX1, TX1, 5)) kX1_reset ha9 rfl rfl q1823 q1825 qs37 dX1_obey_55 rfl rfl (ct_X1_reset g hst N q18.2 x0 _ e38) (Nat.le_of_ble_eq_true rfl) (Nat.le_of_ble_eq_true rfl) (fun v9 h9 z9 y9 => ?_) (fun E39 h9 z9 y9 => ?_)
      rotate_left
      · obtain ⟨e9, rfl⟩ := tI_exc y9
        replace hq := tcase_l e9 hq
        cases hq
        exact ax_out (by decide) ⟨rfl, rfl⟩
      obtain ⟨v40, e9, rfl, rfl⟩ := tI_ret y9
      replace hq := tcase_r e9 hq
      refine aw_st (st' := [.int v40]) rfl ?_
      refine aw_goto (tgt := 75) dX1_obey_58 (by decide) ?_
      cases hq
      exact aw_ireturn dX1_obey_75 rfl rfl ⟨rfl, rfl⟩
  · rw [if_pos c22] at hq
    refine aw_aload_n (i := 0) dX1_obey_42 rfl rfl trivial ?_
    replace hq := cond_t hq
    obtain ⟨z41, hq⟩ := hq
    obtain ⟨fs9, ha9⟩ := clB1 z41
    replace hq := obind hq
    obtain ⟨q42, e43, hq⟩ := hq
    refine aw_callVX (Y2 := YX1_kill) (As := []) (rest := []) (r := (RX1, TX1, 5)) kX1_kill ha9 rfl rfl q1777 q1779 qs33 dX1_obey_43 rfl rfl (ct_X1_kill g hst N q18.2 x0 _ e43) (Nat.le_of_ble_eq_true rfl) (Nat.le_of_ble_eq_true rfl) (fun v9 h9 z9 y9 => ?_) (fun E44 h9 z9 y9 => ?_)
    rotate_left
    · obtain ⟨e9, rfl⟩ := tI_exc y9
      replace hq := tcase_l e9 hq
      cases hq
      exact ax_out (by decide) ⟨rfl, rfl⟩
    obtain ⟨v45, e9, rfl, rfl⟩ := tI_ret y9
    replace hq := tcase_r e9 hq
    refine aw_st (st' := [.int v45]) rfl ?_
    refine aw_goto (tgt := 75) dX1_obey_46 (by decide) ?_
    cases hq
    exact aw_ireturn dX1_obey_75 rfl rfl ⟨rfl, rfl⟩
abbrev YX1_command : YC := (yX1_command, cX1_command, 2, (some .int), [(11, 15, 16, 164)])
theorem kX1_command : aMkW YX1_command 0 := ⟨rfl, q1750, q116, ⟨by decide +kernel, by decide +kernel, by decide +kernel⟩, Nat.le_of_ble_eq_true rfl⟩
def x_X1_command (g : AG) (N : Nat) (h : AH) (x0 : Nat) : Option (Int32 × AH) :=
  (rdR h x0 [(0, 2)]).bind fun o1 => (rdI h x0 [(0, 1)]).bind fun i3 => (o1).bind fun a5 => bif clB h a5 [1] then ((x_X2_begin g N h a5 i3).bind fun q8 => bif clB q8 x0 [0] then ((x_X1_obey g N q8 x0).bind fun q11 => tcase q11.1 (fun E13 => if E13 = "java/lang/IllegalStateException" then (some ((-1 : Int32), q11.2)) else (none)) (fun v14 => some (v14, q11.2))) else none) else none
theorem ct_X1_command (g : AG) (hst : (gL g).stackTraces = false) (N : Nat) : ∀ (h : AH) (x0 : Nat) (q : (Int32 × AH)), x_X1_command g N h x0 = some q → CT g YX1_command 519 [.ref x0] h (xI q) := by
  intro h x0 q hq
  refine CT.ofW rfl (by decide +kernel) (loc := [some (.ref x0), none]) (by first | exact Nat.le_of_ble_eq_true rfl | (simp only [lgl_rf, lgl_i, lgl_j, lgl_ref, lgl_nil]; exact Nat.le_of_ble_eq_true rfl)) (by first | rfl | (simp only [aent_rf, aent_i, aent_j, aent_ref, aent_nil]; rfl)) ?_
  unfold x_X1_command at hq
  refine aw_aload_n (i := 0) dX1_command_0 rfl rfl trivial ?_
  replace hq := obind hq
  obtain ⟨o1, e2, hq⟩ := hq
  refine xw_getR e2 fX1_18 dX1_command_1 ?_
  refine aw_aload_n (i := 0) dX1_command_4 rfl rfl trivial ?_
  replace hq := obind hq
  obtain ⟨i3, e4, hq⟩ := hq
  refine xw_getI e4 fX1_45 dX1_command_5 ?_
  replace hq := obind hq
  obtain ⟨a5, e6, hq⟩ := hq
  subst e6
  replace hq := cond_t hq
  obtain ⟨z7, hq⟩ := hq
  obtain ⟨fs9, ha9⟩ := clB1 z7
  replace hq := obind hq
  obtain ⟨q8, e9, hq⟩ := hq
  refine aw_callV (Y2 := YX2_begin) (As := [.int i3]) (rest := []) (r := (RX2, TX2, 9)) kX2_begin ha9 rfl rfl q1752 q393 q394 dX1_command_8 rfl rfl (ct_X2_begin g hst N h a5 i3 _ e9) (Nat.le_of_ble_eq_true rfl) (Nat.le_of_ble_eq_true rfl) (fun v9 h9 z9 y9 => ?_)
  obtain ⟨rfl, y9⟩ := y9
  rw [y9]
  refine aw_st (st' := []) rfl ?_
  refine aw_aload_n (i := 0) dX1_command_11 rfl rfl trivial ?_
  replace hq := cond_t hq
  obtain ⟨z10, hq⟩ := hq
  obtain ⟨fs9, ha9⟩ := clB1 z10
  replace hq := obind hq
  obtain ⟨q11, e12, hq⟩ := hq
  refine aw_callVX (Y2 := YX1_obey) (As := []) (rest := []) (r := (RX1, TX1, 5)) kX1_obey ha9 rfl rfl q1753 q1755 qs31 dX1_command_12 rfl rfl (ct_X1_obey g hst N q8 x0 _ e12) (Nat.le_of_ble_eq_true rfl) (Nat.le_of_ble_eq_true rfl) (fun v9 h9 z9 y9 => ?_) (fun E13 h9 z9 y9 => ?_)
  rotate_left
  · obtain ⟨e9, rfl⟩ := tI_exc y9
    replace hq := tcase_l e9 hq
    by_cases c15 : E13 = "java/lang/IllegalStateException"
    · rw [if_pos c15] at hq
      subst c15
      refine xw_catch (x := ⟨11, 15, 16, 164⟩) (i := 1) (loc' := [some (.ref x0), none]) (pc9 := 17) dX1_command_16 rfl (pre := []) (suf := []) rfl (fun z hz => by cases hz) (by decide) (by decide) q1751 q412 (Nat.le_of_ble_eq_true rfl) rfl (Or.inr ⟨1, rfl, dX1_command_16⟩) (fun _ => by first | rfl | (unfold akill; first | rfl | (split <;> first | rfl | (rename_i zz; simp at zz)))) (Nat.le_of_ble_eq_true rfl) ?_
      refine aw_iconst (v := (-1)) dX1_command_17 (by decide) ?_
      cases hq
      exact aw_ireturn dX1_command_18 rfl rfl ⟨rfl, rfl⟩
    rw [if_neg c15] at hq
    cases hq
  obtain ⟨v14, e9, rfl, rfl⟩ := tI_ret y9
  replace hq := tcase_r e9 hq
  refine aw_st (st' := [.int v14]) rfl ?_
  cases hq
  exact aw_ireturn dX1_command_15 rfl rfl ⟨rfl, rfl⟩
abbrev YX1_fault : YC := (yX1_fault, cX1_fault, 1, (some .int), [])
theorem kX1_fault : aMk YX1_fault 0 := ⟨rfl, q1908, q116, ⟨by decide +kernel, by decide +kernel, by decide +kernel⟩, Nat.le_of_ble_eq_true rfl⟩
def x_X1_fault (g : AG) (N : Nat) (h : AH) (x0 : Nat) : Option (Int32 × AH) :=
  (rdR h x0 [(0, 2)]).bind fun o1 => (o1).bind fun a3 => (rdI h a3 [(1, 3)]).bind fun i5 => some (i5, h)
theorem ct_X1_fault (g : AG) (hst : (gL g).stackTraces = false) (N : Nat) : ∀ (h : AH) (x0 : Nat) (q : (Int32 × AH)), x_X1_fault g N h x0 = some q → CT g YX1_fault 1 [.ref x0] h (xI q) := by
  intro h x0 q hq
  refine CT.of rfl (by decide +kernel) (loc := [some (.ref x0)]) (by first | exact Nat.le_of_ble_eq_true rfl | (simp only [lgl_rf, lgl_i, lgl_j, lgl_ref, lgl_nil]; exact Nat.le_of_ble_eq_true rfl)) (by first | rfl | (simp only [aent_rf, aent_i, aent_j, aent_ref, aent_nil]; rfl)) ?_
  unfold x_X1_fault at hq
  refine aw_aload_n (i := 0) dX1_fault_0 rfl rfl trivial ?_
  replace hq := obind hq
  obtain ⟨o1, e2, hq⟩ := hq
  refine xw_getR e2 fX1_18 dX1_fault_1 ?_
  replace hq := obind hq
  obtain ⟨a3, e4, hq⟩ := hq
  subst e4
  replace hq := obind hq
  obtain ⟨i5, e6, hq⟩ := hq
  refine xw_getI e6 fX1_49 dX1_fault_4 ?_
  cases hq
  exact aw_ireturn dX1_fault_7 rfl rfl ⟨rfl, rfl⟩
theorem tX2_0f : ∀ q ∈ ([(1, 0)] : List (Nat × Nat)), aFt q.1 q.2 true (.array .byte) := by
  intro q hq
  simp only [List.mem_cons, List.not_mem_nil, or_false] at hq
  subst hq
  exact ⟨(RX2, TX2, 9), tyX2, Nat.le_of_ble_eq_true rfl, rfl, Nat.le_of_ble_eq_true rfl, okX2, rfl, rfl⟩
theorem gX2_21 : ∀ q ∈ ([(1, 0)] : List (Nat × Nat)), ∃ r0 : vw_C, aCl[q.1]? = some r0 ∧ (r0.2.1 q.2).1 = RX2 ∧ Cond.fieldLink RX2 21 (r0.2.1 q.2).1 (r0.2.1 q.2).2.1 (r0.2.1 q.2).2.2.1 ∈ lw_all := by
  intro q hq
  simp only [List.mem_cons, List.not_mem_nil, or_false] at hq
  subst hq
  exact ⟨(RX2, TX2, 9), rfl, rfl, q180⟩
abbrev YX2_init : YC := (yX2_init, cX2_init, 2, none, [])
theorem kX2_init : aMk YX2_init 1 := ⟨rfl, q177, q117, ⟨by decide +kernel, by decide +kernel, by decide +kernel⟩, Nat.le_of_ble_eq_true rfl⟩
def x_X2_init (g : AG) (N : Nat) (h : AH) (x0 : Nat) (r1 : Option Nat) : Option AH :=
  (wrV g h x0 [(1, 4)] (.int (-1 : Int32))).bind fun h1 => (wrV g h1 x0 [(1, 7)] (.ref (gS g 0))).bind fun h3 => (wrV g h3 x0 [(1, 0)] (va_rf r1)).bind fun h5 => some h5
theorem ct_X2_init (g : AG) (hst : (gL g).stackTraces = false) (N : Nat) : ∀ (h : AH) (x0 : Nat) (r1 : Option Nat) (q : AH), x_X2_init g N h x0 r1 = some q → CT g YX2_init 3 [.ref x0, va_rf r1] h (xV q) := by
  intro h x0 r1 q hq
  refine CT.of rfl (by decide +kernel) (loc := [some (.ref x0), some (va_rf r1)]) (by first | exact Nat.le_of_ble_eq_true rfl | (simp only [lgl_rf, lgl_i, lgl_j, lgl_ref, lgl_nil]; exact Nat.le_of_ble_eq_true rfl)) (by first | rfl | (simp only [aent_rf, aent_i, aent_j, aent_ref, aent_nil]; rfl)) ?_
  unfold x_X2_init at hq
  refine aw_aload_n (i := 0) dX2_init_0 rfl rfl trivial ?_
  refine aw_objInit q178 qObjI qObjC (by omega) (Nat.le_of_ble_eq_true rfl) dX2_init_1 ?_
  refine aw_aload_n (i := 0) dX2_init_4 rfl rfl trivial ?_
  refine aw_iconst (v := (-1)) dX2_init_5 (by decide) ?_
  replace hq := obind hq
  obtain ⟨h1, e2, hq⟩ := hq
  refine xw_put e2 fX2_9 tX2_4 ⟨rfl, rfl⟩ dX2_init_6 ?_
  refine aw_aload_n (i := 0) dX2_init_9 rfl rfl trivial ?_
  refine aw_ldcS (i := 0) rfl dX2_init_10 ?_
  replace hq := obind hq
  obtain ⟨h3, e4, hq⟩ := hq
  refine xw_put e4 fX2_17 tX2_7 (fits_rf _ (some (gS g 0))) dX2_init_12 ?_
  refine aw_aload_n (i := 0) dX2_init_15 rfl rfl trivial ?_
  refine aw_aload_n (i := 1) dX2_init_16 rfl rfl (aIsR_rf _) ?_
  replace hq := obind hq
  obtain ⟨h5, e6, hq⟩ := hq
  refine xw_putF e6 fX2_21 tX2_0f rfl gX2_21 (fits_rfA _ r1) dX2_init_17 ?_
  cases hq
  exact aw_vret dX2_init_20 rfl ⟨rfl, rfl⟩
theorem fX4_9 : ∀ q ∈ ([(3, 0)] : List (Nat × Nat)), aFl RX4 9 q.1 q.2 := by
  intro q hq
  simp only [List.mem_cons, List.not_mem_nil, or_false] at hq
  subst hq
  exact aFl.of (RX4, TX4, 1) rfl (Nat.le_of_ble_eq_true rfl) q309
theorem okX4 : aCK (RX4, TX4, 1) tyX4 := ⟨in_X4, tyX4_ok, nmX4⟩
theorem tX4_0f : ∀ q ∈ ([(3, 0)] : List (Nat × Nat)), aFt q.1 q.2 true (.array .int) := by
  intro q hq
  simp only [List.mem_cons, List.not_mem_nil, or_false] at hq
  subst hq
  exact ⟨(RX4, TX4, 1), tyX4, Nat.le_of_ble_eq_true rfl, rfl, Nat.le_of_ble_eq_true rfl, okX4, rfl, rfl⟩
theorem gX4_9 : ∀ q ∈ ([(3, 0)] : List (Nat × Nat)), ∃ r0 : vw_C, aCl[q.1]? = some r0 ∧ (r0.2.1 q.2).1 = RX4 ∧ Cond.fieldLink RX4 9 (r0.2.1 q.2).1 (r0.2.1 q.2).2.1 (r0.2.1 q.2).2.2.1 ∈ lw_all := by
  intro q hq
  simp only [List.mem_cons, List.not_mem_nil, or_false] at hq
  subst hq
  exact ⟨(RX4, TX4, 1), rfl, rfl, q309⟩
abbrev YX4_init : YC := (yX4_init, cX4_init, 1, none, [])
theorem kX4_init : aMk YX4_init 0 := ⟨rfl, q307, q125, ⟨by decide +kernel, by decide +kernel, by decide +kernel⟩, Nat.le_of_ble_eq_true rfl⟩
def x_X4_init (g : AG) (N : Nat) (h : AH) (x0 : Nat) : Option AH :=
  (mkA g h 0 (7 : Int32) (.int 0)).bind fun h1 => (wrV g h1 x0 [(3, 0)] (.ref h.2.1)).bind fun h3 => some h3
theorem ct_X4_init (g : AG) (hst : (gL g).stackTraces = false) (N : Nat) : ∀ (h : AH) (x0 : Nat) (q : AH), x_X4_init g N h x0 = some q → CT g YX4_init 3 [.ref x0] h (xV q) := by
  intro h x0 q hq
  refine CT.of rfl (by decide +kernel) (loc := [some (.ref x0)]) (by first | exact Nat.le_of_ble_eq_true rfl | (simp only [lgl_rf, lgl_i, lgl_j, lgl_ref, lgl_nil]; exact Nat.le_of_ble_eq_true rfl)) (by first | rfl | (simp only [aent_rf, aent_i, aent_j, aent_ref, aent_nil]; rfl)) ?_
  unfold x_X4_init at hq
  refine aw_aload_n (i := 0) dX4_init_0 rfl rfl trivial ?_
  refine aw_objInit q308 qObjI qObjC (by omega) (Nat.le_of_ble_eq_true rfl) dX4_init_1 ?_
  refine aw_aload_n (i := 0) dX4_init_4 rfl rfl trivial ?_
  refine aw_bipush (v := 7) dX4_init_5 (by decide) ?_
  replace hq := obind hq
  obtain ⟨h1, e2, hq⟩ := hq
  refine xw_newa (atype := .int) e2 q314 rfl (by decide) rfl (by decide) dX4_init_7 ?_
  replace hq := obind hq
  obtain ⟨h3, e4, hq⟩ := hq
  refine xw_putF e4 fX4_9 tX4_0f rfl gX4_9 (fits_rfA _ (some h.2.1)) dX4_init_9 ?_
  cases hq
  exact aw_vret dX4_init_12 rfl ⟨rfl, rfl⟩
