/-! THE COMPONENT AND THE JDK as functions of the heap, and their contracts: printed by wip gen/dec2.py -/
set_option maxRecDepth 100000
theorem fX1_188 : ∀ q ∈ ([(2, 3)] : List (Nat × Nat)), aFl RX1 188 q.1 q.2 := by
  intro q hq
  simp only [List.mem_cons, List.not_mem_nil, or_false] at hq
  subst hq
  exact aFl.ofN (RX3, TX3, 10) rfl (Nat.le_of_ble_eq_true rfl) q322
theorem casProbeConsole_Seen : ∀ c ∈ ([9] : List Nat), ∃ r : vw_C, aCl[c]? = some r ∧ (r.1 = "ProbeConsole$Seen" ∨ Cond.castable r.1 "ProbeConsole$Seen" ∈ lw_tbl) := by
  intro c hc
  simp only [List.mem_cons, List.not_mem_nil, or_false] at hc
  subst hc
  exact ⟨(RX11, TX11, 5), rfl, Or.inl rfl⟩
abbrev YX1_record : YC := (yX1_record, cX1_record, 4, (some .int), [])
theorem kX1_record : aMk YX1_record 2 := ⟨rfl, q2153, q116, ⟨by decide +kernel, by decide +kernel, by decide +kernel⟩, Nat.le_of_ble_eq_true rfl⟩
def x_X1_record_30 (g : AG) (N : Nat) (h : AH) (x0 : Nat) (x1 : Int32) (x2 : Int32) (s0 : Int32) : Option ((String ⊕ Int32) × AH) :=
  (x_X1_fits g N h s0).bind fun q17 => tcase q17.1 (fun E19 => some (.inl E19, q17.2)) (fun v20 => (rdR q17.2 x0 [(0, 3)]).bind fun o21 => (o21).bind fun a23 => (rdR q17.2 a23 [(2, 3)]).bind fun o25 => (o25).bind fun a27 => bif clB q17.2 a27 [13] then ((x_J4_get g N q17.2 a27 x1).bind fun q30 => bif casB q30.2 q30.1 [9] then (if x2.toInt < 0 ∨ 3 < x2.toInt then ((q30.1).bind fun a34 => bif clB q30.2 a34 [9] then ((x_X11_depth g N q30.2 a34).bind fun q37 => some (.inr q37.1, q37.2)) else none) else (if x2 = 0 then ((q30.1).bind fun a40 => bif clB q30.2 a40 [9] then ((x_X11_job g N q30.2 a40).bind fun q43 => some (.inr q43.1, q43.2)) else none) else (if x2 = 1 then ((q30.1).bind fun a46 => bif clB q30.2 a46 [9] then ((x_X11_method g N q30.2 a46).bind fun q49 => some (.inr q49.1, q49.2)) else none) else (if x2 = 2 then ((q30.1).bind fun a52 => bif clB q30.2 a52 [9] then ((x_X11_value g N q30.2 a52).bind fun q55 => some (.inr q55.1, q55.2)) else none) else (if x2 = 3 then ((q30.1).bind fun a58 => bif clB q30.2 a58 [9] then ((x_X11_error g N q30.2 a58).bind fun q61 => if q61.1 = 0 then (some (.inr (0 : Int32), q61.2)) else (some (.inr (1 : Int32), q61.2))) else none) else (none)))))) else none) else none)
theorem p_x_X1_record_30 (g : AG) (hst : (gL g).stackTraces = false) (N : Nat) : ∀ (h : AH) (x0 : Nat) (x1 : Int32) (x2 : Int32) (s0 : Int32) (q : ((String ⊕ Int32) × AH)), x_X1_record_30 g N h x0 x1 x2 s0 = some q → AW g YX1_record 11 (tI q) h [some (.ref x0), some (.int x1), some (.int x2), none] 30 [.int s0] := by
  intro h x0 x1 x2 s0 q hq
  unfold x_X1_record_30 at hq
  replace hq := obind hq
  obtain ⟨q17, e18, hq⟩ := hq
  refine aw_callSX (Y2 := YX1_fits) (As := [.int s0]) (rest := []) kX1_fits q1950 q1951 dX1_record_30 rfl rfl (ct_X1_fits g hst N h s0 _ e18) (Nat.le_of_ble_eq_true rfl) (Nat.le_of_ble_eq_true rfl) (fun v9 h9 z9 y9 => ?_) (fun E19 h9 z9 y9 => ?_)
  rotate_left
  · obtain ⟨e9, rfl⟩ := tV_exc y9
    replace hq := tcase_l e9 hq
    cases hq
    exact ax_out (by decide) ⟨rfl, rfl⟩
  obtain ⟨v20, e9, rfl, rfl⟩ := tV_ret y9
  replace hq := tcase_r e9 hq
  refine aw_st (st' := []) rfl ?_
  refine aw_aload_n (i := 0) dX1_record_33 rfl rfl trivial ?_
  replace hq := obind hq
  obtain ⟨o21, e22, hq⟩ := hq
  refine xw_getR e22 fX1_25 dX1_record_34 ?_
  replace hq := obind hq
  obtain ⟨a23, e24, hq⟩ := hq
  subst e24
  replace hq := obind hq
  obtain ⟨o25, e26, hq⟩ := hq
  refine xw_getR e26 fX1_188 dX1_record_37 ?_
  refine aw_iload_n (i := 1) dX1_record_40 rfl rfl ?_
  replace hq := obind hq
  obtain ⟨a27, e28, hq⟩ := hq
  subst e28
  replace hq := cond_t hq
  obtain ⟨z29, hq⟩ := hq
  obtain ⟨fs9, ha9⟩ := clB1 z29
  replace hq := obind hq
  obtain ⟨q30, e31, hq⟩ := hq
  refine aw_callF (Y2 := YJ4_get) (As := [.int x1]) (rest := []) (r := (RJ4, TJ4, 3)) (x := ⟨"java/util/List", "get", "(I)Ljava/lang/Object;"⟩) kJ4_get ha9 rfl (by decide) (by decide) ⟨by decide +kernel, by decide +kernel, by decide +kernel⟩ q1999 q2004 q2002 dX1_record_41 rfl rfl (ct_J4_get g hst N q17.2 a27 x1 _ e31) (Nat.le_of_ble_eq_true rfl) (Nat.le_of_ble_eq_true rfl) (fun v9 h9 z9 y9 => ?_)
  obtain ⟨rfl, rfl⟩ := y9
  refine aw_st (st' := [va_rf q30.1]) rfl ?_
  replace hq := cond_t hq
  obtain ⟨z32, hq⟩ := hq
  refine xw_cast (r := q30.1) z32 q2154 casProbeConsole_Seen dX1_record_46 ?_
  refine aw_astore_n (i := 3) (loc' := [some (.ref x0), some (.int x1), some (.int x2), some (va_rf q30.1)]) dX1_record_49 rfl (Nat.le_of_ble_eq_true rfl) (aIsR_rf _) rfl ?_
  refine aw_iload_n (i := 2) dX1_record_50 rfl rfl ?_
  by_cases c33 : x2.toInt < 0 ∨ 3 < x2.toInt
  · rw [if_pos c33] at hq
    refine aw_tableOut (tgt := 116) dX1_record_51 c33 (by decide) ?_
    refine aw_aload_n (i := 3) dX1_record_116 rfl rfl (aIsR_rf _) ?_
    replace hq := obind hq
    obtain ⟨a34, e35, hq⟩ := hq
    rw [e35]
    replace hq := cond_t hq
    obtain ⟨z36, hq⟩ := hq
    obtain ⟨fs9, ha9⟩ := clB1 z36
    replace hq := obind hq
    obtain ⟨q37, e38, hq⟩ := hq
    refine aw_callV (Y2 := YX11_depth) (As := []) (rest := []) (r := (RX11, TX11, 5)) kX11_depth ha9 rfl rfl q2171 q2172 q2173 dX1_record_117 rfl rfl (ct_X11_depth g hst N q30.2 a34 _ e38) (Nat.le_of_ble_eq_true rfl) (Nat.le_of_ble_eq_true rfl) (fun v9 h9 z9 y9 => ?_)
    obtain ⟨rfl, rfl⟩ := y9
    refine aw_st (st' := [.int q37.1]) rfl ?_
    cases hq
    exact aw_ireturn dX1_record_120 rfl rfl ⟨rfl, rfl⟩
  rw [if_neg c33] at hq
  by_cases c39 : x2 = 0
  · rw [if_pos c39] at hq
    refine aw_tableIn (off := 29) (tgt := 80) dX1_record_51 (by rw [c39]; decide) (by rw [c39]; decide) (by rw [c39]; rfl) (by decide) ?_
    refine aw_aload_n (i := 3) dX1_record_80 rfl rfl (aIsR_rf _) ?_
    replace hq := obind hq
    obtain ⟨a40, e41, hq⟩ := hq
    rw [e41]
    replace hq := cond_t hq
    obtain ⟨z42, hq⟩ := hq
    obtain ⟨fs9, ha9⟩ := clB1 z42
    replace hq := obind hq
    obtain ⟨q43, e44, hq⟩ := hq
    refine aw_callV (Y2 := YX11_job) (As := []) (rest := []) (r := (RX11, TX11, 5)) kX11_job ha9 rfl rfl q2155 q2156 q2157 dX1_record_81 rfl rfl (ct_X11_job g hst N q30.2 a40 _ e44) (Nat.le_of_ble_eq_true rfl) (Nat.le_of_ble_eq_true rfl) (fun v9 h9 z9 y9 => ?_)
    obtain ⟨rfl, rfl⟩ := y9
    refine aw_st (st' := [.int q43.1]) rfl ?_
    refine aw_goto (tgt := 120) dX1_record_84 (by decide) ?_
    cases hq
    exact aw_ireturn dX1_record_120 rfl rfl ⟨rfl, rfl⟩
  rw [if_neg c39] at hq
  by_cases c45 : x2 = 1
  · rw [if_pos c45] at hq
    refine aw_tableIn (off := 36) (tgt := 87) dX1_record_51 (by rw [c45]; decide) (by rw [c45]; decide) (by rw [c45]; rfl) (by decide) ?_
    refine aw_aload_n (i := 3) dX1_record_87 rfl rfl (aIsR_rf _) ?_
    replace hq := obind hq
    obtain ⟨a46, e47, hq⟩ := hq
    rw [e47]
    replace hq := cond_t hq
    obtain ⟨z48, hq⟩ := hq
    obtain ⟨fs9, ha9⟩ := clB1 z48
    replace hq := obind hq
    obtain ⟨q49, e50, hq⟩ := hq
    refine aw_callV (Y2 := YX11_method) (As := []) (rest := []) (r := (RX11, TX11, 5)) kX11_method ha9 rfl rfl q2159 q2160 q2161 dX1_record_88 rfl rfl (ct_X11_method g hst N q30.2 a46 _ e50) (Nat.le_of_ble_eq_true rfl) (Nat.le_of_ble_eq_true rfl) (fun v9 h9 z9 y9 => ?_)
    obtain ⟨rfl, rfl⟩ := y9
    refine aw_st (st' := [.int q49.1]) rfl ?_
    refine aw_goto (tgt := 120) dX1_record_91 (by decide) ?_
    cases hq
    exact aw_ireturn dX1_record_120 rfl rfl ⟨rfl, rfl⟩
  rw [if_neg c45] at hq
  by_cases c51 : x2 = 2
  · rw [if_pos c51] at hq
    refine aw_tableIn (off := 43) (tgt := 94) dX1_record_51 (by rw [c51]; decide) (by rw [c51]; decide) (by rw [c51]; rfl) (by decide) ?_
    refine aw_aload_n (i := 3) dX1_record_94 rfl rfl (aIsR_rf _) ?_
    replace hq := obind hq
    obtain ⟨a52, e53, hq⟩ := hq
    rw [e53]
    replace hq := cond_t hq
    obtain ⟨z54, hq⟩ := hq
    obtain ⟨fs9, ha9⟩ := clB1 z54
    replace hq := obind hq
    obtain ⟨q55, e56, hq⟩ := hq
    refine aw_callV (Y2 := YX11_value) (As := []) (rest := []) (r := (RX11, TX11, 5)) kX11_value ha9 rfl rfl q2163 q2164 q2165 dX1_record_95 rfl rfl (ct_X11_value g hst N q30.2 a52 _ e56) (Nat.le_of_ble_eq_true rfl) (Nat.le_of_ble_eq_true rfl) (fun v9 h9 z9 y9 => ?_)
    obtain ⟨rfl, rfl⟩ := y9
    refine aw_st (st' := [.int q55.1]) rfl ?_
    refine aw_goto (tgt := 120) dX1_record_98 (by decide) ?_
    cases hq
    exact aw_ireturn dX1_record_120 rfl rfl ⟨rfl, rfl⟩
  rw [if_neg c51] at hq
  by_cases c57 : x2 = 3
  · rw [if_pos c57] at hq
    refine aw_tableIn (off := 50) (tgt := 101) dX1_record_51 (by rw [c57]; decide) (by rw [c57]; decide) (by rw [c57]; rfl) (by decide) ?_
    refine aw_aload_n (i := 3) dX1_record_101 rfl rfl (aIsR_rf _) ?_
    replace hq := obind hq
    obtain ⟨a58, e59, hq⟩ := hq
    rw [e59]
    replace hq := cond_t hq
    obtain ⟨z60, hq⟩ := hq
    obtain ⟨fs9, ha9⟩ := clB1 z60
    replace hq := obind hq
    obtain ⟨q61, e62, hq⟩ := hq
    refine aw_callV (Y2 := YX11_error) (As := []) (rest := []) (r := (RX11, TX11, 5)) kX11_error ha9 rfl rfl q2167 q2168 q2169 dX1_record_102 rfl rfl (ct_X11_error g hst N q30.2 a58 _ e62) (Nat.le_of_ble_eq_true rfl) (Nat.le_of_ble_eq_true rfl) (fun v9 h9 z9 y9 => ?_)
    obtain ⟨rfl, rfl⟩ := y9
    refine aw_st (st' := [.int q61.1]) rfl ?_
    refine aw_if_eq (tgt := 112) dX1_record_105 (by decide) (fun c63 => ?_) (fun c63 => ?_)
    · rw [if_pos c63] at hq
      refine aw_iconst (v := 0) dX1_record_112 (by decide) ?_
      refine aw_goto (tgt := 120) dX1_record_113 (by decide) ?_
      cases hq
      exact aw_ireturn dX1_record_120 rfl rfl ⟨rfl, rfl⟩
    · rw [if_neg c63] at hq
      refine aw_iconst (v := 1) dX1_record_108 (by decide) ?_
      refine aw_goto (tgt := 120) dX1_record_109 (by decide) ?_
      cases hq
      exact aw_ireturn dX1_record_120 rfl rfl ⟨rfl, rfl⟩
  rw [if_neg c57] at hq
  cases hq
def x_X1_record_29 (g : AG) (N : Nat) (h : AH) (x0 : Nat) (x1 : Int32) (x2 : Int32) : Option ((String ⊕ Int32) × AH) :=
  x_X1_record_30 g N  h x0 x1 x2 (0 : Int32)
theorem p_x_X1_record_29 (g : AG) (hst : (gL g).stackTraces = false) (N : Nat) : ∀ (h : AH) (x0 : Nat) (x1 : Int32) (x2 : Int32) (q : ((String ⊕ Int32) × AH)), x_X1_record_29 g N h x0 x1 x2 = some q → AW g YX1_record 11 (tI q) h [some (.ref x0), some (.int x1), some (.int x2), none] 29 [] := by
  intro h x0 x1 x2 q hq
  unfold x_X1_record_29 at hq
  refine aw_iconst (v := 0) dX1_record_29 (by decide) ?_
  exact p_x_X1_record_30 g hst N   h x0 x1 x2 (0 : Int32) _ hq
def x_X1_record (g : AG) (N : Nat) (h : AH) (x0 : Nat) (x1 : Int32) (x2 : Int32) : Option ((String ⊕ Int32) × AH) :=
  (rdR h x0 [(0, 3)]).bind fun o1 => (o1).bind fun a3 => (rdR h a3 [(2, 3)]).bind fun o5 => (o5).bind fun a7 => bif clB h a7 [13] then ((x_J4_size g N h a7).bind fun q10 => (x_X1_lies g N q10.2 x1 q10.1).bind fun q12 => tcase q12.1 (fun E14 => some (.inl E14, q12.2)) (fun v15 => if x2 < 0 then (x_X1_record_29 g N  q12.2 x0 x1 x2) else (if (4 : Int32) < x2 then (x_X1_record_29 g N  q12.2 x0 x1 x2) else (x_X1_record_30 g N  q12.2 x0 x1 x2 (1 : Int32))))) else none
theorem ct_X1_record (g : AG) (hst : (gL g).stackTraces = false) (N : Nat) : ∀ (h : AH) (x0 : Nat) (x1 : Int32) (x2 : Int32) (q : ((String ⊕ Int32) × AH)), x_X1_record g N h x0 x1 x2 = some q → CT g YX1_record 11 [.ref x0, .int x1, .int x2] h (tI q) := by
  intro h x0 x1 x2 q hq
  refine CT.of rfl (by decide +kernel) (loc := [some (.ref x0), some (.int x1), some (.int x2), none]) (by first | exact Nat.le_of_ble_eq_true rfl | (simp only [lgl_rf, lgl_i, lgl_j, lgl_ref, lgl_nil]; exact Nat.le_of_ble_eq_true rfl)) (by first | rfl | (simp only [aent_rf, aent_i, aent_j, aent_ref, aent_nil]; rfl)) ?_
  unfold x_X1_record at hq
  refine aw_iload_n (i := 1) dX1_record_0 rfl rfl ?_
  refine aw_aload_n (i := 0) dX1_record_1 rfl rfl trivial ?_
  replace hq := obind hq
  obtain ⟨o1, e2, hq⟩ := hq
  refine xw_getR e2 fX1_25 dX1_record_2 ?_
  replace hq := obind hq
  obtain ⟨a3, e4, hq⟩ := hq
  subst e4
  replace hq := obind hq
  obtain ⟨o5, e6, hq⟩ := hq
  refine xw_getR e6 fX1_188 dX1_record_5 ?_
  replace hq := obind hq
  obtain ⟨a7, e8, hq⟩ := hq
  subst e8
  replace hq := cond_t hq
  obtain ⟨z9, hq⟩ := hq
  obtain ⟨fs9, ha9⟩ := clB1 z9
  replace hq := obind hq
  obtain ⟨q10, e11, hq⟩ := hq
  refine aw_callF (Y2 := YJ4_size) (As := []) (rest := [.int x1]) (r := (RJ4, TJ4, 3)) (x := ⟨"java/util/List", "size", "()I"⟩) kJ4_size ha9 rfl (by decide) (by decide) ⟨by decide +kernel, by decide +kernel, by decide +kernel⟩ q378 q384 q382 dX1_record_8 rfl rfl (ct_J4_size g hst N h a7 _ e11) (Nat.le_of_ble_eq_true rfl) (Nat.le_of_ble_eq_true rfl) (fun v9 h9 z9 y9 => ?_)
  obtain ⟨rfl, rfl⟩ := y9
  refine aw_st (st' := [.int q10.1, .int x1]) rfl ?_
  replace hq := obind hq
  obtain ⟨q12, e13, hq⟩ := hq
  refine aw_callSX (Y2 := YX1_lies) (As := [.int x1, .int q10.1]) (rest := []) kX1_lies q1982 q1983 dX1_record_13 rfl rfl (ct_X1_lies g hst N q10.2 x1 q10.1 _ e13) (Nat.le_of_ble_eq_true rfl) (Nat.le_of_ble_eq_true rfl) (fun v9 h9 z9 y9 => ?_) (fun E14 h9 z9 y9 => ?_)
  rotate_left
  · obtain ⟨e9, rfl⟩ := tV_exc y9
    replace hq := tcase_l e9 hq
    cases hq
    exact ax_out (by decide) ⟨rfl, rfl⟩
  obtain ⟨v15, e9, rfl, rfl⟩ := tV_ret y9
  replace hq := tcase_r e9 hq
  refine aw_st (st' := []) rfl ?_
  refine aw_iload_n (i := 2) dX1_record_16 rfl rfl ?_
  refine aw_if_lt (tgt := 29) dX1_record_17 (by decide) (fun c16 => ?_) (fun c16 => ?_)
  · rw [if_pos c16] at hq
    exact p_x_X1_record_29 g hst N   q12.2 x0 x1 x2 _ hq
  · rw [if_neg c16] at hq
    refine aw_iload_n (i := 2) dX1_record_20 rfl rfl ?_
    refine aw_iconst (v := 4) dX1_record_21 (by decide) ?_
    refine aw_icmp_gt (tgt := 29) dX1_record_22 (by decide) (fun c64 => ?_) (fun c64 => ?_)
    · rw [if_pos c64] at hq
      exact p_x_X1_record_29 g hst N   q12.2 x0 x1 x2 _ hq
    · rw [if_neg c64] at hq
      refine aw_iconst (v := 1) dX1_record_25 (by decide) ?_
      refine aw_goto (tgt := 30) dX1_record_26 (by decide) ?_
      exact p_x_X1_record_30 g hst N   q12.2 x0 x1 x2 (1 : Int32) _ hq
abbrev YX0_record : YC := (yX0_record, cX0_record, 5, (some .int), [(0, 10, 13, 19), (0, 10, 17, 13)])
theorem kX0_record : aMkW YX0_record 4 := ⟨rfl, q2149, q115, ⟨by decide +kernel, by decide +kernel, by decide +kernel⟩, Nat.le_of_ble_eq_true rfl⟩
def x_X0_record (g : AG) (N : Nat) (h : AH) (r0 : Option Nat) (x1 : Int32) (x2 : Int32) (r3 : Option Nat) : Option (Int32 × AH) :=
  (r0).bind fun a1 => bif clB h a1 [0] then ((x_X1_record g N h a1 x1 x2).bind fun q4 => tcase q4.1 (fun E6 => if E6 = "java/lang/IndexOutOfBoundsException" then (some ((1 : Int32), q4.2)) else (if E6 = "java/lang/IllegalArgumentException" then (some ((2 : Int32), q4.2)) else (none))) (fun v7 => (r3).bind fun a10 => (wrA g q4.2 a10 1 (0 : Int32) (.long v7.toInt64)).bind fun h12 => some ((0 : Int32), h12))) else none
theorem ct_X0_record (g : AG) (hst : (gL g).stackTraces = false) (N : Nat) : ∀ (h : AH) (r0 : Option Nat) (x1 : Int32) (x2 : Int32) (r3 : Option Nat) (q : (Int32 × AH)), x_X0_record g N h r0 x1 x2 r3 = some q → CT g YX0_record 12 [va_rf r0, .int x1, .int x2, va_rf r3] h (xI q) := by
  intro h r0 x1 x2 r3 q hq
  refine CT.ofW rfl (by decide +kernel) (loc := [some (va_rf r0), some (.int x1), some (.int x2), some (va_rf r3), none]) (by first | exact Nat.le_of_ble_eq_true rfl | (simp only [lgl_rf, lgl_i, lgl_j, lgl_ref, lgl_nil]; exact Nat.le_of_ble_eq_true rfl)) (by first | rfl | (simp only [aent_rf, aent_i, aent_j, aent_ref, aent_nil]; rfl)) ?_
  unfold x_X0_record at hq
  refine aw_aload_n (i := 3) dX0_record_0 rfl rfl (aIsR_rf _) ?_
  refine aw_iconst (v := 0) dX0_record_1 (by decide) ?_
  refine aw_aload_n (i := 0) dX0_record_2 rfl rfl (aIsR_rf _) ?_
  refine aw_iload_n (i := 1) dX0_record_3 rfl rfl ?_
  refine aw_iload_n (i := 2) dX0_record_4 rfl rfl ?_
  replace hq := obind hq
  obtain ⟨a1, e2, hq⟩ := hq
  subst e2
  replace hq := cond_t hq
  obtain ⟨z3, hq⟩ := hq
  obtain ⟨fs9, ha9⟩ := clB1 z3
  replace hq := obind hq
  obtain ⟨q4, e5, hq⟩ := hq
  refine aw_callVX (Y2 := YX1_record) (As := [.int x1, .int x2]) (rest := [.int (0 : Int32), va_rf r3]) (r := (RX1, TX1, 5)) kX1_record ha9 rfl rfl q2150 q2151 q2152 dX0_record_5 rfl rfl (ct_X1_record g hst N h a1 x1 x2 _ e5) (Nat.le_of_ble_eq_true rfl) (by simp only [List.map_cons, List.map_nil, List.sum_cons, List.sum_nil, cat_rf]; exact Nat.le_of_ble_eq_true rfl) (fun v9 h9 z9 y9 => ?_) (fun E6 h9 z9 y9 => ?_)
  rotate_left
  · obtain ⟨e9, rfl⟩ := tI_exc y9
    replace hq := tcase_l e9 hq
    by_cases c8 : E6 = "java/lang/IndexOutOfBoundsException"
    · rw [if_pos c8] at hq
      subst c8
      refine xw_catch (x := ⟨0, 10, 13, 19⟩) (i := 4) (loc' := [some (.ref a1), some (.int x1), some (.int x2), some (va_rf r3), none]) (pc9 := 15) dX0_record_13 rfl (pre := []) (suf := [⟨0, 10, 17, 13⟩]) rfl (fun z hz => by cases hz) (by decide) (by decide) q1959 q1987 (Nat.le_of_ble_eq_true rfl) rfl (Or.inl dX0_record_13) (fun _ => by first | rfl | (unfold akill; first | rfl | (split <;> first | rfl | (rename_i zz; simp at zz)))) (Nat.le_of_ble_eq_true rfl) ?_
      refine aw_iconst (v := 1) dX0_record_15 (by decide) ?_
      cases hq
      exact aw_ireturn dX0_record_16 rfl rfl ⟨rfl, rfl⟩
    rw [if_neg c8] at hq
    by_cases c9 : E6 = "java/lang/IllegalArgumentException"
    · rw [if_pos c9] at hq
      subst c9
      refine xw_catch (x := ⟨0, 10, 17, 13⟩) (i := 4) (loc' := [some (.ref a1), some (.int x1), some (.int x2), some (va_rf r3), none]) (pc9 := 19) dX0_record_17 rfl (pre := [⟨0, 10, 13, 19⟩]) (suf := []) rfl (fun z hz => by
        cases List.mem_singleton.mp hz
        exact Or.inr ⟨by decide, "java/lang/IndexOutOfBoundsException", q1959, by decide⟩) (by decide) (by decide) q1945 q646 (Nat.le_of_ble_eq_true rfl) rfl (Or.inl dX0_record_17) (fun _ => by first | rfl | (unfold akill; first | rfl | (split <;> first | rfl | (rename_i zz; simp at zz)))) (Nat.le_of_ble_eq_true rfl) ?_
      refine aw_iconst (v := 2) dX0_record_19 (by decide) ?_
      cases hq
      exact aw_ireturn dX0_record_20 rfl rfl ⟨rfl, rfl⟩
    rw [if_neg c9] at hq
    cases hq
  obtain ⟨v7, e9, rfl, rfl⟩ := tI_ret y9
  replace hq := tcase_r e9 hq
  refine aw_st (st' := [.int v7, .int (0 : Int32), va_rf r3]) rfl ?_
  refine aw_i2l dX0_record_8 ?_
  replace hq := obind hq
  obtain ⟨a10, e11, hq⟩ := hq
  subst e11
  replace hq := obind hq
  obtain ⟨h12, e13, hq⟩ := hq
  refine xw_last e13 dX0_record_9 ?_
  refine aw_goto (tgt := 21) dX0_record_10 (by decide) ?_
  refine aw_iconst (v := 0) dX0_record_21 (by decide) ?_
  cases hq
  exact aw_ireturn dX0_record_22 rfl rfl ⟨rfl, rfl⟩
abbrev YX1_replay : YC := (yX1_replay, cX1_replay, 3, (some .int), [])
theorem kX1_replay : aMk YX1_replay 1 := ⟨rfl, q2233, q116, ⟨by decide +kernel, by decide +kernel, by decide +kernel⟩, Nat.le_of_ble_eq_true rfl⟩
def x_X1_replay (g : AG) (N : Nat) (h : AH) (x0 : Nat) (x1 : Int32) : Option ((String ⊕ Int32) × AH) :=
  (rdR h x0 [(0, 3)]).bind fun o1 => (o1).bind fun a3 => (rdR h a3 [(2, 4)]).bind fun o5 => (o5).bind fun a7 => bif clB h a7 [13] then ((x_J4_size g N h a7).bind fun q10 => (x_X1_lies g N q10.2 x1 q10.1).bind fun q12 => tcase q12.1 (fun E14 => some (.inl E14, q12.2)) (fun v15 => (rdR q12.2 x0 [(0, 3)]).bind fun o16 => (o16).bind fun a18 => (rdR q12.2 a18 [(2, 4)]).bind fun o20 => (o20).bind fun a22 => bif clB q12.2 a22 [13] then ((x_J4_get g N q12.2 a22 x1).bind fun q25 => bif casB q25.2 q25.1 [8] then ((rdR q25.2 x0 [(0, 3)]).bind fun o28 => (o28).bind fun a30 => (rdR q25.2 a30 [(2, 1)]).bind fun o32 => (q25.1).bind fun a34 => bif clB q25.2 a34 [8] then ((x_X10_method g N q25.2 a34).bind fun q37 => (o32).bind fun a39 => bif clB q37.2 a39 [13] then ((x_J4_get g N q37.2 a39 q37.1).bind fun q42 => bif casB q42.2 q42.1 [6] then (bif clB q42.2 a34 [8] then ((x_X10_a g N q42.2 a34).bind fun q46 => bif clB q46.2 a34 [8] then ((x_X10_b g N q46.2 a34).bind fun q49 => bif clB q49.2 a34 [8] then ((x_X10_c g N q49.2 a34).bind fun q52 => bif clB q52.2 x0 [0] then ((x_X1_begin g N q52.2 x0 q42.1 q46.1 q49.1 q52.1 (1 : Int32)).bind fun q55 => some (.inr q55.1, q55.2)) else none) else none) else none) else none) else none) else none) else none) else none) else none)) else none
theorem ct_X1_replay (g : AG) (hst : (gL g).stackTraces = false) (N : Nat) : ∀ (h : AH) (x0 : Nat) (x1 : Int32) (q : ((String ⊕ Int32) × AH)), x_X1_replay g N h x0 x1 = some q → CT g YX1_replay 613 [.ref x0, .int x1] h (tI q) := by
  intro h x0 x1 q hq
  refine CT.of rfl (by decide +kernel) (loc := [some (.ref x0), some (.int x1), none]) (by first | exact Nat.le_of_ble_eq_true rfl | (simp only [lgl_rf, lgl_i, lgl_j, lgl_ref, lgl_nil]; exact Nat.le_of_ble_eq_true rfl)) (by first | rfl | (simp only [aent_rf, aent_i, aent_j, aent_ref, aent_nil]; rfl)) ?_
  unfold x_X1_replay at hq
  refine aw_iload_n (i := 1) dX1_replay_0 rfl rfl ?_
  refine aw_aload_n (i := 0) dX1_replay_1 rfl rfl trivial ?_
  replace hq := obind hq
  obtain ⟨o1, e2, hq⟩ := hq
  refine xw_getR e2 fX1_25 dX1_replay_2 ?_
  replace hq := obind hq
  obtain ⟨a3, e4, hq⟩ := hq
  subst e4
  replace hq := obind hq
  obtain ⟨o5, e6, hq⟩ := hq
  refine xw_getR e6 fX1_207 dX1_replay_5 ?_
  replace hq := obind hq
  obtain ⟨a7, e8, hq⟩ := hq
  subst e8
  replace hq := cond_t hq
  obtain ⟨z9, hq⟩ := hq
  obtain ⟨fs9, ha9⟩ := clB1 z9
  replace hq := obind hq
  obtain ⟨q10, e11, hq⟩ := hq
  refine aw_callF (Y2 := YJ4_size) (As := []) (rest := [.int x1]) (r := (RJ4, TJ4, 3)) (x := ⟨"java/util/List", "size", "()I"⟩) kJ4_size ha9 rfl (by decide) (by decide) ⟨by decide +kernel, by decide +kernel, by decide +kernel⟩ q378 q384 q382 dX1_replay_8 rfl rfl (ct_J4_size g hst N h a7 _ e11) (Nat.le_of_ble_eq_true rfl) (Nat.le_of_ble_eq_true rfl) (fun v9 h9 z9 y9 => ?_)
  obtain ⟨rfl, rfl⟩ := y9
  refine aw_st (st' := [.int q10.1, .int x1]) rfl ?_
  replace hq := obind hq
  obtain ⟨q12, e13, hq⟩ := hq
  refine aw_callSX (Y2 := YX1_lies) (As := [.int x1, .int q10.1]) (rest := []) kX1_lies q1982 q1983 dX1_replay_13 rfl rfl (ct_X1_lies g hst N q10.2 x1 q10.1 _ e13) (Nat.le_of_ble_eq_true rfl) (Nat.le_of_ble_eq_true rfl) (fun v9 h9 z9 y9 => ?_) (fun E14 h9 z9 y9 => ?_)
  rotate_left
  · obtain ⟨e9, rfl⟩ := tV_exc y9
    replace hq := tcase_l e9 hq
    cases hq
    exact ax_out (by decide) ⟨rfl, rfl⟩
  obtain ⟨v15, e9, rfl, rfl⟩ := tV_ret y9
  replace hq := tcase_r e9 hq
  refine aw_st (st' := []) rfl ?_
  refine aw_aload_n (i := 0) dX1_replay_16 rfl rfl trivial ?_
  replace hq := obind hq
  obtain ⟨o16, e17, hq⟩ := hq
  refine xw_getR e17 fX1_25 dX1_replay_17 ?_
  replace hq := obind hq
  obtain ⟨a18, e19, hq⟩ := hq
  subst e19
  replace hq := obind hq
  obtain ⟨o20, e21, hq⟩ := hq
  refine xw_getR e21 fX1_207 dX1_replay_20 ?_
  refine aw_iload_n (i := 1) dX1_replay_23 rfl rfl ?_
  replace hq := obind hq
  obtain ⟨a22, e23, hq⟩ := hq
  subst e23
  replace hq := cond_t hq
  obtain ⟨z24, hq⟩ := hq
  obtain ⟨fs9, ha9⟩ := clB1 z24
  replace hq := obind hq
  obtain ⟨q25, e26, hq⟩ := hq
  refine aw_callF (Y2 := YJ4_get) (As := [.int x1]) (rest := []) (r := (RJ4, TJ4, 3)) (x := ⟨"java/util/List", "get", "(I)Ljava/lang/Object;"⟩) kJ4_get ha9 rfl (by decide) (by decide) ⟨by decide +kernel, by decide +kernel, by decide +kernel⟩ q1999 q2004 q2002 dX1_replay_24 rfl rfl (ct_J4_get g hst N q12.2 a22 x1 _ e26) (Nat.le_of_ble_eq_true rfl) (Nat.le_of_ble_eq_true rfl) (fun v9 h9 z9 y9 => ?_)
  obtain ⟨rfl, rfl⟩ := y9
  refine aw_st (st' := [va_rf q25.1]) rfl ?_
  replace hq := cond_t hq
  obtain ⟨z27, hq⟩ := hq
  refine xw_cast (r := q25.1) z27 q2198 casProbeConsole_Kept dX1_replay_29 ?_
  refine aw_astore_n (i := 2) (loc' := [some (.ref x0), some (.int x1), some (va_rf q25.1)]) dX1_replay_32 rfl (Nat.le_of_ble_eq_true rfl) (aIsR_rf _) rfl ?_
  refine aw_aload_n (i := 0) dX1_replay_33 rfl rfl trivial ?_
  refine aw_aload_n (i := 0) dX1_replay_34 rfl rfl trivial ?_
  replace hq := obind hq
  obtain ⟨o28, e29, hq⟩ := hq
  refine xw_getR e29 fX1_25 dX1_replay_35 ?_
  replace hq := obind hq
  obtain ⟨a30, e31, hq⟩ := hq
  subst e31
  replace hq := obind hq
  obtain ⟨o32, e33, hq⟩ := hq
  refine xw_getR e33 fX1_55 dX1_replay_38 ?_
  refine aw_aload_n (i := 2) dX1_replay_41 rfl rfl (aIsR_rf _) ?_
  replace hq := obind hq
  obtain ⟨a34, e35, hq⟩ := hq
  rw [e35]
  replace hq := cond_t hq
  obtain ⟨z36, hq⟩ := hq
  obtain ⟨fs9, ha9⟩ := clB1 z36
  replace hq := obind hq
  obtain ⟨q37, e38, hq⟩ := hq
  refine aw_callV (Y2 := YX10_method) (As := []) (rest := [va_rf o32, .ref x0]) (r := (RX10, TX10, 7)) kX10_method ha9 rfl rfl q2203 q2204 q2205 dX1_replay_42 rfl rfl (ct_X10_method g hst N q25.2 a34 _ e38) (Nat.le_of_ble_eq_true rfl) (by simp only [List.map_cons, List.map_nil, List.sum_cons, List.sum_nil, cat_rf]; exact Nat.le_of_ble_eq_true rfl) (fun v9 h9 z9 y9 => ?_)
  obtain ⟨rfl, rfl⟩ := y9
  refine aw_st (st' := [.int q37.1, va_rf o32, .ref x0]) rfl ?_
  replace hq := obind hq
  obtain ⟨a39, e40, hq⟩ := hq
  subst e40
  replace hq := cond_t hq
  obtain ⟨z41, hq⟩ := hq
  obtain ⟨fs9, ha9⟩ := clB1 z41
  replace hq := obind hq
  obtain ⟨q42, e43, hq⟩ := hq
  refine aw_callF (Y2 := YJ4_get) (As := [.int q37.1]) (rest := [.ref x0]) (r := (RJ4, TJ4, 3)) (x := ⟨"java/util/List", "get", "(I)Ljava/lang/Object;"⟩) kJ4_get ha9 rfl (by decide) (by decide) ⟨by decide +kernel, by decide +kernel, by decide +kernel⟩ q1999 q2004 q2002 dX1_replay_45 rfl rfl (ct_J4_get g hst N q37.2 a39 q37.1 _ e43) (Nat.le_of_ble_eq_true rfl) (Nat.le_of_ble_eq_true rfl) (fun v9 h9 z9 y9 => ?_)
  obtain ⟨rfl, rfl⟩ := y9
  refine aw_st (st' := [va_rf q42.1, .ref x0]) rfl ?_
  replace hq := cond_t hq
  obtain ⟨z44, hq⟩ := hq
  refine xw_cast (r := q42.1) z44 q2015 casProbeConsole_Method dX1_replay_50 ?_
  refine aw_aload_n (i := 2) dX1_replay_53 rfl rfl trivial ?_
  replace hq := cond_t hq
  obtain ⟨z45, hq⟩ := hq
  obtain ⟨fs9, ha9⟩ := clB1 z45
  replace hq := obind hq
  obtain ⟨q46, e47, hq⟩ := hq
  refine aw_callV (Y2 := YX10_a) (As := []) (rest := [va_rf q42.1, .ref x0]) (r := (RX10, TX10, 7)) kX10_a ha9 rfl rfl q2207 q2208 q2209 dX1_replay_54 rfl rfl (ct_X10_a g hst N q42.2 a34 _ e47) (Nat.le_of_ble_eq_true rfl) (by simp only [List.map_cons, List.map_nil, List.sum_cons, List.sum_nil, cat_rf]; exact Nat.le_of_ble_eq_true rfl) (fun v9 h9 z9 y9 => ?_)
  obtain ⟨rfl, rfl⟩ := y9
  refine aw_st (st' := [.int q46.1, va_rf q42.1, .ref x0]) rfl ?_
  refine aw_aload_n (i := 2) dX1_replay_57 rfl rfl trivial ?_
  replace hq := cond_t hq
  obtain ⟨z48, hq⟩ := hq
  obtain ⟨fs9, ha9⟩ := clB1 z48
  replace hq := obind hq
  obtain ⟨q49, e50, hq⟩ := hq
  refine aw_callV (Y2 := YX10_b) (As := []) (rest := [.int q46.1, va_rf q42.1, .ref x0]) (r := (RX10, TX10, 7)) kX10_b ha9 rfl rfl q2211 q2212 q2213 dX1_replay_58 rfl rfl (ct_X10_b g hst N q46.2 a34 _ e50) (Nat.le_of_ble_eq_true rfl) (by simp only [List.map_cons, List.map_nil, List.sum_cons, List.sum_nil, cat_rf]; exact Nat.le_of_ble_eq_true rfl) (fun v9 h9 z9 y9 => ?_)
  obtain ⟨rfl, rfl⟩ := y9
  refine aw_st (st' := [.int q49.1, .int q46.1, va_rf q42.1, .ref x0]) rfl ?_
  refine aw_aload_n (i := 2) dX1_replay_61 rfl rfl trivial ?_
  replace hq := cond_t hq
  obtain ⟨z51, hq⟩ := hq
  obtain ⟨fs9, ha9⟩ := clB1 z51
  replace hq := obind hq
  obtain ⟨q52, e53, hq⟩ := hq
  refine aw_callV (Y2 := YX10_c) (As := []) (rest := [.int q49.1, .int q46.1, va_rf q42.1, .ref x0]) (r := (RX10, TX10, 7)) kX10_c ha9 rfl rfl q2215 q2216 q2217 dX1_replay_62 rfl rfl (ct_X10_c g hst N q49.2 a34 _ e53) (Nat.le_of_ble_eq_true rfl) (by simp only [List.map_cons, List.map_nil, List.sum_cons, List.sum_nil, cat_rf]; exact Nat.le_of_ble_eq_true rfl) (fun v9 h9 z9 y9 => ?_)
  obtain ⟨rfl, rfl⟩ := y9
  refine aw_st (st' := [.int q52.1, .int q49.1, .int q46.1, va_rf q42.1, .ref x0]) rfl ?_
  refine aw_iconst (v := 1) dX1_replay_65 (by decide) ?_
  replace hq := cond_t hq
  obtain ⟨z54, hq⟩ := hq
  obtain ⟨fs9, ha9⟩ := clB1 z54
  replace hq := obind hq
  obtain ⟨q55, e56, hq⟩ := hq
  refine aw_callV (Y2 := YX1_begin) (As := [va_rf q42.1, .int q46.1, .int q49.1, .int q52.1, .int (1 : Int32)]) (rest := []) (r := (RX1, TX1, 5)) kX1_begin ha9 rfl rfl q2016 q2018 qs42 dX1_replay_66 rfl rfl (ct_X1_begin g hst N q52.2 x0 q42.1 q46.1 q49.1 q52.1 (1 : Int32) _ e56) (Nat.le_of_ble_eq_true rfl) (Nat.le_of_ble_eq_true rfl) (fun v9 h9 z9 y9 => ?_)
  obtain ⟨rfl, rfl⟩ := y9
  refine aw_st (st' := [.int q55.1]) rfl ?_
  cases hq
  exact aw_ireturn dX1_replay_69 rfl rfl ⟨rfl, rfl⟩
abbrev YX0_replay : YC := (yX0_replay, cX0_replay, 4, (some .int), [(0, 9, 12, 19)])
theorem kX0_replay : aMkW YX0_replay 3 := ⟨rfl, q2229, q115, ⟨by decide +kernel, by decide +kernel, by decide +kernel⟩, Nat.le_of_ble_eq_true rfl⟩
def x_X0_replay (g : AG) (N : Nat) (h : AH) (r0 : Option Nat) (x1 : Int32) (r2 : Option Nat) : Option (Int32 × AH) :=
  (r0).bind fun a1 => bif clB h a1 [0] then ((x_X1_replay g N h a1 x1).bind fun q4 => tcase q4.1 (fun E6 => if E6 = "java/lang/IndexOutOfBoundsException" then (some ((1 : Int32), q4.2)) else (none)) (fun v7 => (r2).bind fun a9 => (wrA g q4.2 a9 1 (0 : Int32) (.long v7.toInt64)).bind fun h11 => some ((0 : Int32), h11))) else none
theorem ct_X0_replay (g : AG) (hst : (gL g).stackTraces = false) (N : Nat) : ∀ (h : AH) (r0 : Option Nat) (x1 : Int32) (r2 : Option Nat) (q : (Int32 × AH)), x_X0_replay g N h r0 x1 r2 = some q → CT g YX0_replay 614 [va_rf r0, .int x1, va_rf r2] h (xI q) := by
  intro h r0 x1 r2 q hq
  refine CT.ofW rfl (by decide +kernel) (loc := [some (va_rf r0), some (.int x1), some (va_rf r2), none]) (by first | exact Nat.le_of_ble_eq_true rfl | (simp only [lgl_rf, lgl_i, lgl_j, lgl_ref, lgl_nil]; exact Nat.le_of_ble_eq_true rfl)) (by first | rfl | (simp only [aent_rf, aent_i, aent_j, aent_ref, aent_nil]; rfl)) ?_
  unfold x_X0_replay at hq
  refine aw_aload_n (i := 2) dX0_replay_0 rfl rfl (aIsR_rf _) ?_
  refine aw_iconst (v := 0) dX0_replay_1 (by decide) ?_
  refine aw_aload_n (i := 0) dX0_replay_2 rfl rfl (aIsR_rf _) ?_
  refine aw_iload_n (i := 1) dX0_replay_3 rfl rfl ?_
  replace hq := obind hq
  obtain ⟨a1, e2, hq⟩ := hq
  subst e2
  replace hq := cond_t hq
  obtain ⟨z3, hq⟩ := hq
  obtain ⟨fs9, ha9⟩ := clB1 z3
  replace hq := obind hq
  obtain ⟨q4, e5, hq⟩ := hq
  refine aw_callVX (Y2 := YX1_replay) (As := [.int x1]) (rest := [.int (0 : Int32), va_rf r2]) (r := (RX1, TX1, 5)) kX1_replay ha9 rfl rfl q2230 q2231 q2232 dX0_replay_4 rfl rfl (ct_X1_replay g hst N h a1 x1 _ e5) (Nat.le_of_ble_eq_true rfl) (by simp only [List.map_cons, List.map_nil, List.sum_cons, List.sum_nil, cat_rf]; exact Nat.le_of_ble_eq_true rfl) (fun v9 h9 z9 y9 => ?_) (fun E6 h9 z9 y9 => ?_)
  rotate_left
  · obtain ⟨e9, rfl⟩ := tI_exc y9
    replace hq := tcase_l e9 hq
    by_cases c8 : E6 = "java/lang/IndexOutOfBoundsException"
    · rw [if_pos c8] at hq
      subst c8
      refine xw_catch (x := ⟨0, 9, 12, 19⟩) (i := 3) (loc' := [some (.ref a1), some (.int x1), some (va_rf r2), none]) (pc9 := 13) dX0_replay_12 rfl (pre := []) (suf := []) rfl (fun z hz => by cases hz) (by decide) (by decide) q1959 q1987 (Nat.le_of_ble_eq_true rfl) rfl (Or.inr ⟨3, rfl, dX0_replay_12⟩) (fun _ => by first | rfl | (unfold akill; first | rfl | (split <;> first | rfl | (rename_i zz; simp at zz)))) (Nat.le_of_ble_eq_true rfl) ?_
      refine aw_iconst (v := 1) dX0_replay_13 (by decide) ?_
      cases hq
      exact aw_ireturn dX0_replay_14 rfl rfl ⟨rfl, rfl⟩
    rw [if_neg c8] at hq
    cases hq
  obtain ⟨v7, e9, rfl, rfl⟩ := tI_ret y9
  replace hq := tcase_r e9 hq
  refine aw_st (st' := [.int v7, .int (0 : Int32), va_rf r2]) rfl ?_
  refine aw_i2l dX0_replay_7 ?_
  replace hq := obind hq
  obtain ⟨a9, e10, hq⟩ := hq
  subst e10
  replace hq := obind hq
  obtain ⟨h11, e12, hq⟩ := hq
  refine xw_last e12 dX0_replay_8 ?_
  refine aw_goto (tgt := 15) dX0_replay_9 (by decide) ?_
  refine aw_iconst (v := 0) dX0_replay_15 (by decide) ?_
  cases hq
  exact aw_ireturn dX0_replay_16 rfl rfl ⟨rfl, rfl⟩
theorem fX1_18 : ∀ q ∈ ([(0, 2)] : List (Nat × Nat)), aFl RX1 18 q.1 q.2 := by
  intro q hq
  simp only [List.mem_cons, List.not_mem_nil, or_false] at hq
  subst hq
  exact aFl.of (RX1, TX1, 5) rfl (Nat.le_of_ble_eq_true rfl) q355
theorem fX1_49 : ∀ q ∈ ([(1, 3)] : List (Nat × Nat)), aFl RX1 49 q.1 q.2 := by
  intro q hq
  simp only [List.mem_cons, List.not_mem_nil, or_false] at hq
  subst hq
  exact aFl.ofN (RX2, TX2, 9) rfl (Nat.le_of_ble_eq_true rfl) q184
theorem okX2 : aCK (RX2, TX2, 9) tyX2 := ⟨in_X2, tyX2_ok, nmX2⟩
theorem tX2_3 : ∀ q ∈ ([(1, 3)] : List (Nat × Nat)), aFt q.1 q.2 false .int := by
  intro q hq
  simp only [List.mem_cons, List.not_mem_nil, or_false] at hq
  subst hq
  exact ⟨(RX2, TX2, 9), tyX2, Nat.le_of_ble_eq_true rfl, rfl, Nat.le_of_ble_eq_true rfl, okX2, rfl, rfl⟩
theorem fX1_52 : ∀ q ∈ ([(1, 4)] : List (Nat × Nat)), aFl RX1 52 q.1 q.2 := by
  intro q hq
  simp only [List.mem_cons, List.not_mem_nil, or_false] at hq
  subst hq
  exact aFl.ofN (RX2, TX2, 9) rfl (Nat.le_of_ble_eq_true rfl) q186
theorem tX2_4 : ∀ q ∈ ([(1, 4)] : List (Nat × Nat)), aFt q.1 q.2 false .int := by
  intro q hq
  simp only [List.mem_cons, List.not_mem_nil, or_false] at hq
  subst hq
  exact ⟨(RX2, TX2, 9), tyX2, Nat.le_of_ble_eq_true rfl, rfl, Nat.le_of_ble_eq_true rfl, okX2, rfl, rfl⟩
abbrev YX1_atEnd : YC := (yX1_atEnd, cX1_atEnd, 2, (some .boolean), [])
theorem kX1_atEnd : aMk YX1_atEnd 1 := ⟨rfl, q1522, q116, ⟨by decide +kernel, by decide +kernel, by decide +kernel⟩, Nat.le_of_ble_eq_true rfl⟩
def x_X1_atEnd (g : AG) (N : Nat) (h : AH) (x0 : Nat) (x1 : Int32) : Option (Int32 × AH) :=
  if x1 = 0 then ((rdR h x0 [(0, 2)]).bind fun o3 => (o3).bind fun a5 => (wrV g h a5 [(1, 3)] (.int (5 : Int32))).bind fun h7 => (rdR h7 x0 [(0, 2)]).bind fun o9 => (rdI h7 x0 [(0, 1)]).bind fun i11 => (o9).bind fun a13 => (wrV g h7 a13 [(1, 4)] (.int i11)).bind fun h15 => bif isb x1 then (some (x1, h15)) else none) else (bif isb x1 then (some (x1, h)) else none)
theorem ct_X1_atEnd (g : AG) (hst : (gL g).stackTraces = false) (N : Nat) : ∀ (h : AH) (x0 : Nat) (x1 : Int32) (q : (Int32 × AH)), x_X1_atEnd g N h x0 x1 = some q → CT g YX1_atEnd 1 [.ref x0, .int x1] h (xI q) := by
  intro h x0 x1 q hq
  refine CT.of rfl (by decide +kernel) (loc := [some (.ref x0), some (.int x1)]) (by first | exact Nat.le_of_ble_eq_true rfl | (simp only [lgl_rf, lgl_i, lgl_j, lgl_ref, lgl_nil]; exact Nat.le_of_ble_eq_true rfl)) (by first | rfl | (simp only [aent_rf, aent_i, aent_j, aent_ref, aent_nil]; rfl)) ?_
  unfold x_X1_atEnd at hq
  refine aw_iload_n (i := 1) dX1_atEnd_0 rfl rfl ?_
  refine aw_if_ne (tgt := 23) dX1_atEnd_1 (by decide) (fun c1 => ?_) (fun c1 => ?_)
  · rw [if_neg c1] at hq
    refine aw_iload_n (i := 1) dX1_atEnd_23 rfl rfl ?_
    replace hq := cond_t hq
    obtain ⟨z2, hq⟩ := hq
    cases hq
    exact aw_ireturn dX1_atEnd_24 rfl (isb_ok z2).1 ⟨rfl, rfl⟩
  · rw [if_pos c1] at hq
    refine aw_aload_n (i := 0) dX1_atEnd_4 rfl rfl trivial ?_
    replace hq := obind hq
    obtain ⟨o3, e4, hq⟩ := hq
    refine xw_getR e4 fX1_18 dX1_atEnd_5 ?_
    refine aw_iconst (v := 5) dX1_atEnd_8 (by decide) ?_
    replace hq := obind hq
    obtain ⟨a5, e6, hq⟩ := hq
    subst e6
    replace hq := obind hq
    obtain ⟨h7, e8, hq⟩ := hq
    refine xw_put e8 fX1_49 tX2_3 ⟨rfl, rfl⟩ dX1_atEnd_9 ?_
    refine aw_aload_n (i := 0) dX1_atEnd_12 rfl rfl trivial ?_
    replace hq := obind hq
    obtain ⟨o9, e10, hq⟩ := hq
    refine xw_getR e10 fX1_18 dX1_atEnd_13 ?_
    refine aw_aload_n (i := 0) dX1_atEnd_16 rfl rfl trivial ?_
    replace hq := obind hq
    obtain ⟨i11, e12, hq⟩ := hq
    refine xw_getI e12 fX1_45 dX1_atEnd_17 ?_
    replace hq := obind hq
    obtain ⟨a13, e14, hq⟩ := hq
    subst e14
    replace hq := obind hq
    obtain ⟨h15, e16, hq⟩ := hq
    refine xw_put e16 fX1_52 tX2_4 ⟨rfl, rfl⟩ dX1_atEnd_20 ?_
    refine aw_iload_n (i := 1) dX1_atEnd_23 rfl rfl ?_
    replace hq := cond_t hq
    obtain ⟨z17, hq⟩ := hq
    cases hq
    exact aw_ireturn dX1_atEnd_24 rfl (isb_ok z17).1 ⟨rfl, rfl⟩
abbrev YX1_clear : YC := (yX1_clear, cX1_clear, 2, (some .int), [])
theorem kX1_clear : aMk YX1_clear 0 := ⟨rfl, q1928, q116, ⟨by decide +kernel, by decide +kernel, by decide +kernel⟩, Nat.le_of_ble_eq_true rfl⟩
def x_X1_clear (g : AG) (N : Nat) (h : AH) (x0 : Nat) : Option (Int32 × AH) :=
  (rdR h x0 [(0, 3)]).bind fun o1 => (o1).bind fun a3 => (rdR h a3 [(2, 3)]).bind fun o5 => (o5).bind fun a7 => bif clB h a7 [13] then ((x_J4_size g N h a7).bind fun q10 => (rdR q10.2 x0 [(0, 3)]).bind fun o12 => (o12).bind fun a14 => (rdR q10.2 a14 [(2, 3)]).bind fun o16 => (o16).bind fun a18 => bif clB q10.2 a18 [13] then ((x_J4_clear g N q10.2 a18).bind fun q21 => (rdR q21 x0 [(0, 3)]).bind fun o23 => (o23).bind fun a25 => (rdR q21 a25 [(2, 4)]).bind fun o27 => (o27).bind fun a29 => bif clB q21 a29 [13] then ((x_J4_clear g N q21 a29).bind fun q32 => some (q10.1, q32)) else none) else none) else none
theorem ct_X1_clear (g : AG) (hst : (gL g).stackTraces = false) (N : Nat) : ∀ (h : AH) (x0 : Nat) (q : (Int32 × AH)), x_X1_clear g N h x0 = some q → CT g YX1_clear 2 [.ref x0] h (xI q) := by
  intro h x0 q hq
  refine CT.of rfl (by decide +kernel) (loc := [some (.ref x0), none]) (by first | exact Nat.le_of_ble_eq_true rfl | (simp only [lgl_rf, lgl_i, lgl_j, lgl_ref, lgl_nil]; exact Nat.le_of_ble_eq_true rfl)) (by first | rfl | (simp only [aent_rf, aent_i, aent_j, aent_ref, aent_nil]; rfl)) ?_
  unfold x_X1_clear at hq
  refine aw_aload_n (i := 0) dX1_clear_0 rfl rfl trivial ?_
  replace hq := obind hq
  obtain ⟨o1, e2, hq⟩ := hq
  refine xw_getR e2 fX1_25 dX1_clear_1 ?_
  replace hq := obind hq
  obtain ⟨a3, e4, hq⟩ := hq
  subst e4
  replace hq := obind hq
  obtain ⟨o5, e6, hq⟩ := hq
  refine xw_getR e6 fX1_188 dX1_clear_4 ?_
  replace hq := obind hq
  obtain ⟨a7, e8, hq⟩ := hq
  subst e8
  replace hq := cond_t hq
  obtain ⟨z9, hq⟩ := hq
  obtain ⟨fs9, ha9⟩ := clB1 z9
  replace hq := obind hq
  obtain ⟨q10, e11, hq⟩ := hq
  refine aw_callF (Y2 := YJ4_size) (As := []) (rest := []) (r := (RJ4, TJ4, 3)) (x := ⟨"java/util/List", "size", "()I"⟩) kJ4_size ha9 rfl (by decide) (by decide) ⟨by decide +kernel, by decide +kernel, by decide +kernel⟩ q378 q384 q382 dX1_clear_7 rfl rfl (ct_J4_size g hst N h a7 _ e11) (Nat.le_of_ble_eq_true rfl) (Nat.le_of_ble_eq_true rfl) (fun v9 h9 z9 y9 => ?_)
  obtain ⟨rfl, rfl⟩ := y9
  refine aw_st (st' := [.int q10.1]) rfl ?_
  refine aw_istore_n (i := 1) (loc' := [some (.ref x0), some (.int q10.1)]) dX1_clear_12 rfl (Nat.le_of_ble_eq_true rfl) rfl ?_
  refine aw_aload_n (i := 0) dX1_clear_13 rfl rfl trivial ?_
  replace hq := obind hq
  obtain ⟨o12, e13, hq⟩ := hq
  refine xw_getR e13 fX1_25 dX1_clear_14 ?_
  replace hq := obind hq
  obtain ⟨a14, e15, hq⟩ := hq
  subst e15
  replace hq := obind hq
  obtain ⟨o16, e17, hq⟩ := hq
  refine xw_getR e17 fX1_188 dX1_clear_17 ?_
  replace hq := obind hq
  obtain ⟨a18, e19, hq⟩ := hq
  subst e19
  replace hq := cond_t hq
  obtain ⟨z20, hq⟩ := hq
  obtain ⟨fs9, ha9⟩ := clB1 z20
  replace hq := obind hq
  obtain ⟨q21, e22, hq⟩ := hq
  refine aw_callF (Y2 := YJ4_clear) (As := []) (rest := []) (r := (RJ4, TJ4, 3)) (x := ⟨"java/util/List", "clear", "()V"⟩) kJ4_clear ha9 rfl (by decide) (by decide) ⟨by decide +kernel, by decide +kernel, by decide +kernel⟩ q1930 q1935 q1933 dX1_clear_20 rfl rfl (ct_J4_clear g hst N q10.2 a18 _ e22) (Nat.le_of_ble_eq_true rfl) (Nat.le_of_ble_eq_true rfl) (fun v9 h9 z9 y9 => ?_)
  obtain ⟨rfl, y9⟩ := y9
  rw [y9]
  refine aw_st (st' := []) rfl ?_
  refine aw_aload_n (i := 0) dX1_clear_25 rfl rfl trivial ?_
  replace hq := obind hq
  obtain ⟨o23, e24, hq⟩ := hq
  refine xw_getR e24 fX1_25 dX1_clear_26 ?_
  replace hq := obind hq
  obtain ⟨a25, e26, hq⟩ := hq
  subst e26
  replace hq := obind hq
  obtain ⟨o27, e28, hq⟩ := hq
  refine xw_getR e28 fX1_207 dX1_clear_29 ?_
  replace hq := obind hq
  obtain ⟨a29, e30, hq⟩ := hq
  subst e30
  replace hq := cond_t hq
  obtain ⟨z31, hq⟩ := hq
  obtain ⟨fs9, ha9⟩ := clB1 z31
  replace hq := obind hq
  obtain ⟨q32, e33, hq⟩ := hq
  refine aw_callF (Y2 := YJ4_clear) (As := []) (rest := []) (r := (RJ4, TJ4, 3)) (x := ⟨"java/util/List", "clear", "()V"⟩) kJ4_clear ha9 rfl (by decide) (by decide) ⟨by decide +kernel, by decide +kernel, by decide +kernel⟩ q1930 q1935 q1933 dX1_clear_32 rfl rfl (ct_J4_clear g hst N q21 a29 _ e33) (Nat.le_of_ble_eq_true rfl) (Nat.le_of_ble_eq_true rfl) (fun v9 h9 z9 y9 => ?_)
  obtain ⟨rfl, y9⟩ := y9
  rw [y9]
  refine aw_st (st' := []) rfl ?_
  refine aw_iload_n (i := 1) dX1_clear_37 rfl rfl ?_
  cases hq
  exact aw_ireturn dX1_clear_38 rfl rfl ⟨rfl, rfl⟩
theorem fX2_35 : ∀ q ∈ ([(1, 1)] : List (Nat × Nat)), aFl RX2 35 q.1 q.2 := by
  intro q hq
  simp only [List.mem_cons, List.not_mem_nil, or_false] at hq
  subst hq
  exact aFl.of (RX2, TX2, 9) rfl (Nat.le_of_ble_eq_true rfl) q181
theorem tX2_1 : ∀ q ∈ ([(1, 1)] : List (Nat × Nat)), aFt q.1 q.2 false .int := by
  intro q hq
  simp only [List.mem_cons, List.not_mem_nil, or_false] at hq
  subst hq
  exact ⟨(RX2, TX2, 9), tyX2, Nat.le_of_ble_eq_true rfl, rfl, Nat.le_of_ble_eq_true rfl, okX2, rfl, rfl⟩
theorem fX2_38 : ∀ q ∈ ([(1, 2)] : List (Nat × Nat)), aFl RX2 38 q.1 q.2 := by
  intro q hq
  simp only [List.mem_cons, List.not_mem_nil, or_false] at hq
  subst hq
  exact aFl.of (RX2, TX2, 9) rfl (Nat.le_of_ble_eq_true rfl) q182
theorem tX2_2 : ∀ q ∈ ([(1, 2)] : List (Nat × Nat)), aFt q.1 q.2 false .int := by
  intro q hq
  simp only [List.mem_cons, List.not_mem_nil, or_false] at hq
  subst hq
  exact ⟨(RX2, TX2, 9), tyX2, Nat.le_of_ble_eq_true rfl, rfl, Nat.le_of_ble_eq_true rfl, okX2, rfl, rfl⟩
theorem fX2_25 : ∀ q ∈ ([(1, 3)] : List (Nat × Nat)), aFl RX2 25 q.1 q.2 := by
  intro q hq
  simp only [List.mem_cons, List.not_mem_nil, or_false] at hq
  subst hq
  exact aFl.of (RX2, TX2, 9) rfl (Nat.le_of_ble_eq_true rfl) q183
theorem fX2_9 : ∀ q ∈ ([(1, 4)] : List (Nat × Nat)), aFl RX2 9 q.1 q.2 := by
  intro q hq
  simp only [List.mem_cons, List.not_mem_nil, or_false] at hq
  subst hq
  exact aFl.of (RX2, TX2, 9) rfl (Nat.le_of_ble_eq_true rfl) q185
abbrev YX2_begin : YC := (yX2_begin, cX2_begin, 2, none, [])
theorem kX2_begin : aMk YX2_begin 1 := ⟨rfl, q395, q117, ⟨by decide +kernel, by decide +kernel, by decide +kernel⟩, Nat.le_of_ble_eq_true rfl⟩
def x_X2_begin (g : AG) (N : Nat) (h : AH) (x0 : Nat) (x1 : Int32) : Option AH :=
  (wrV g h x0 [(1, 1)] (.int x1)).bind fun h1 => (wrV g h1 x0 [(1, 2)] (.int (0 : Int32))).bind fun h3 => (wrV g h3 x0 [(1, 3)] (.int (0 : Int32))).bind fun h5 => (wrV g h5 x0 [(1, 4)] (.int (-1 : Int32))).bind fun h7 => some h7
theorem ct_X2_begin (g : AG) (hst : (gL g).stackTraces = false) (N : Nat) : ∀ (h : AH) (x0 : Nat) (x1 : Int32) (q : AH), x_X2_begin g N h x0 x1 = some q → CT g YX2_begin 1 [.ref x0, .int x1] h (xV q) := by
  intro h x0 x1 q hq
  refine CT.of rfl (by decide +kernel) (loc := [some (.ref x0), some (.int x1)]) (by first | exact Nat.le_of_ble_eq_true rfl | (simp only [lgl_rf, lgl_i, lgl_j, lgl_ref, lgl_nil]; exact Nat.le_of_ble_eq_true rfl)) (by first | rfl | (simp only [aent_rf, aent_i, aent_j, aent_ref, aent_nil]; rfl)) ?_
  unfold x_X2_begin at hq
  refine aw_aload_n (i := 0) dX2_begin_0 rfl rfl trivial ?_
  refine aw_iload_n (i := 1) dX2_begin_1 rfl rfl ?_
  replace hq := obind hq
  obtain ⟨h1, e2, hq⟩ := hq
  refine xw_put e2 fX2_35 tX2_1 ⟨rfl, rfl⟩ dX2_begin_2 ?_
  refine aw_aload_n (i := 0) dX2_begin_5 rfl rfl trivial ?_
  refine aw_iconst (v := 0) dX2_begin_6 (by decide) ?_
  replace hq := obind hq
  obtain ⟨h3, e4, hq⟩ := hq
  refine xw_put e4 fX2_38 tX2_2 ⟨rfl, rfl⟩ dX2_begin_7 ?_
  refine aw_aload_n (i := 0) dX2_begin_10 rfl rfl trivial ?_
  refine aw_iconst (v := 0) dX2_begin_11 (by decide) ?_
  replace hq := obind hq
  obtain ⟨h5, e6, hq⟩ := hq
  refine xw_put e6 fX2_25 tX2_3 ⟨rfl, rfl⟩ dX2_begin_12 ?_
  refine aw_aload_n (i := 0) dX2_begin_15 rfl rfl trivial ?_
  refine aw_iconst (v := (-1)) dX2_begin_16 (by decide) ?_
  replace hq := obind hq
  obtain ⟨h7, e8, hq⟩ := hq
  refine xw_put e8 fX2_9 tX2_4 ⟨rfl, rfl⟩ dX2_begin_17 ?_
  cases hq
  exact aw_vret dX2_begin_20 rfl ⟨rfl, rfl⟩
theorem fX2_21 : ∀ q ∈ ([(1, 0)] : List (Nat × Nat)), aFl RX2 21 q.1 q.2 := by
  intro q hq
  simp only [List.mem_cons, List.not_mem_nil, or_false] at hq
  subst hq
  exact aFl.of (RX2, TX2, 9) rfl (Nat.le_of_ble_eq_true rfl) q180
abbrev YX2_peek : YC := (yX2_peek, cX2_peek, 1, (some .int), [])
theorem kX2_peek : aMk YX2_peek 0 := ⟨rfl, q403, q117, ⟨by decide +kernel, by decide +kernel, by decide +kernel⟩, Nat.le_of_ble_eq_true rfl⟩
def x_X2_peek (g : AG) (N : Nat) (h : AH) (x0 : Nat) : Option (Int32 × AH) :=
  (rdI h x0 [(1, 2)]).bind fun i1 => (rdI h x0 [(1, 1)]).bind fun i3 => if i3 ≤ i1 then (some ((-1 : Int32), h)) else ((rdR h x0 [(1, 0)]).bind fun o6 => (rdI h x0 [(1, 2)]).bind fun i8 => (o6).bind fun a10 => ((rdA h a10 3 i8).bind vI).bind fun i12 => some ((i12 &&& (255 : Int32)), h))
theorem ct_X2_peek (g : AG) (hst : (gL g).stackTraces = false) (N : Nat) : ∀ (h : AH) (x0 : Nat) (q : (Int32 × AH)), x_X2_peek g N h x0 = some q → CT g YX2_peek 1 [.ref x0] h (xI q) := by
  intro h x0 q hq
  refine CT.of rfl (by decide +kernel) (loc := [some (.ref x0)]) (by first | exact Nat.le_of_ble_eq_true rfl | (simp only [lgl_rf, lgl_i, lgl_j, lgl_ref, lgl_nil]; exact Nat.le_of_ble_eq_true rfl)) (by first | rfl | (simp only [aent_rf, aent_i, aent_j, aent_ref, aent_nil]; rfl)) ?_
  unfold x_X2_peek at hq
  refine aw_aload_n (i := 0) dX2_peek_0 rfl rfl trivial ?_
  replace hq := obind hq
  obtain ⟨i1, e2, hq⟩ := hq
  refine xw_getI e2 fX2_38 dX2_peek_1 ?_
  refine aw_aload_n (i := 0) dX2_peek_4 rfl rfl trivial ?_
  replace hq := obind hq
  obtain ⟨i3, e4, hq⟩ := hq
  refine xw_getI e4 fX2_35 dX2_peek_5 ?_
  refine aw_icmp_ge (tgt := 27) dX2_peek_8 (by decide) (fun c5 => ?_) (fun c5 => ?_)
  · rw [if_pos c5] at hq
    refine aw_iconst (v := (-1)) dX2_peek_27 (by decide) ?_
    cases hq
    exact aw_ireturn dX2_peek_28 rfl rfl ⟨rfl, rfl⟩
  · rw [if_neg c5] at hq
    refine aw_aload_n (i := 0) dX2_peek_11 rfl rfl trivial ?_
    replace hq := obind hq
    obtain ⟨o6, e7, hq⟩ := hq
    refine xw_getR e7 fX2_21 dX2_peek_12 ?_
    refine aw_aload_n (i := 0) dX2_peek_15 rfl rfl trivial ?_
    replace hq := obind hq
    obtain ⟨i8, e9, hq⟩ := hq
    refine xw_getI e9 fX2_38 dX2_peek_16 ?_
    replace hq := obind hq
    obtain ⟨a10, e11, hq⟩ := hq
    subst e11
    replace hq := obind hq
    obtain ⟨i12, e13, hq⟩ := hq
    refine xw_bald e13 dX2_peek_19 ?_
    refine aw_sipush (v := 255) dX2_peek_20 (by decide) ?_
    refine aw_iand dX2_peek_23 ?_
    refine aw_goto (tgt := 28) dX2_peek_24 (by decide) ?_
    cases hq
    exact aw_ireturn dX2_peek_28 rfl rfl ⟨rfl, rfl⟩
abbrev YX2_blanks : YC := (yX2_blanks, cX2_blanks, 1, none, [])
theorem kX2_blanks : aMk YX2_blanks 0 := ⟨rfl, q1771, q117, ⟨by decide +kernel, by decide +kernel, by decide +kernel⟩, Nat.le_of_ble_eq_true rfl⟩
def x_X2_blanks_0 (g : AG) (N : Nat) : Nat → AH → Nat → Option AH
  | 0, _, _ => none
  | n9 + 1, h, x0 =>
  bif clB h x0 [1] then ((x_X2_peek g N h x0).bind fun q2 => if q2.1 = (-1 : Int32) then (some q2.2) else (bif clB q2.2 x0 [1] then ((x_X2_peek g N q2.2 x0).bind fun q6 => if (32 : Int32) < q6.1 then (some q6.2) else ((rdI q6.2 x0 [(1, 2)]).bind fun i9 => (wrV g q6.2 x0 [(1, 2)] (.int (i9 + (1 : Int32)))).bind fun h11 => x_X2_blanks_0 g N n9 h11 x0)) else none)) else none
theorem p_x_X2_blanks_0 (g : AG) (hst : (gL g).stackTraces = false) (N : Nat) : ∀ (n9 : Nat) (h : AH) (x0 : Nat) (q : AH), x_X2_blanks_0 g N n9 h x0 = some q → AW g YX2_blanks 2 (xV q) h [some (.ref x0)] 0 [] := by
  intro n9
  induction n9 with
  | zero =>
    intro h x0 q hq
    cases hq
  | succ n9 ih =>
    intro h x0 q hq
    rw [x_X2_blanks_0] at hq
    refine aw_aload_n (i := 0) dX2_blanks_0 rfl rfl trivial ?_
    replace hq := cond_t hq
    obtain ⟨z1, hq⟩ := hq
    obtain ⟨fs9, ha9⟩ := clB1 z1
    replace hq := obind hq
    obtain ⟨q2, e3, hq⟩ := hq
    refine aw_callV (Y2 := YX2_peek) (As := []) (rest := []) (r := (RX2, TX2, 9)) kX2_peek ha9 rfl rfl q400 q401 q402 dX2_blanks_1 rfl rfl (ct_X2_peek g hst N h x0 _ e3) (Nat.le_of_ble_eq_true rfl) (Nat.le_of_ble_eq_true rfl) (fun v9 h9 z9 y9 => ?_)
    obtain ⟨rfl, rfl⟩ := y9
    refine aw_st (st' := [.int q2.1]) rfl ?_
    refine aw_iconst (v := (-1)) dX2_blanks_4 (by decide) ?_
    refine aw_icmp_eq (tgt := 30) dX2_blanks_5 (by decide) (fun c4 => ?_) (fun c4 => ?_)
    · rw [if_pos c4] at hq
      cases hq
      exact aw_vret dX2_blanks_30 rfl ⟨rfl, rfl⟩
    · rw [if_neg c4] at hq
      refine aw_aload_n (i := 0) dX2_blanks_8 rfl rfl trivial ?_
      replace hq := cond_t hq
      obtain ⟨z5, hq⟩ := hq
      obtain ⟨fs9, ha9⟩ := clB1 z5
      replace hq := obind hq
      obtain ⟨q6, e7, hq⟩ := hq
      refine aw_callV (Y2 := YX2_peek) (As := []) (rest := []) (r := (RX2, TX2, 9)) kX2_peek ha9 rfl rfl q400 q401 q402 dX2_blanks_9 rfl rfl (ct_X2_peek g hst N q2.2 x0 _ e7) (Nat.le_of_ble_eq_true rfl) (Nat.le_of_ble_eq_true rfl) (fun v9 h9 z9 y9 => ?_)
      obtain ⟨rfl, rfl⟩ := y9
      refine aw_st (st' := [.int q6.1]) rfl ?_
      refine aw_bipush (v := 32) dX2_blanks_12 (by decide) ?_
      refine aw_icmp_gt (tgt := 30) dX2_blanks_14 (by decide) (fun c8 => ?_) (fun c8 => ?_)
      · rw [if_pos c8] at hq
        cases hq
        exact aw_vret dX2_blanks_30 rfl ⟨rfl, rfl⟩
      · rw [if_neg c8] at hq
        refine aw_aload_n (i := 0) dX2_blanks_17 rfl rfl trivial ?_
        refine aw_dup dX2_blanks_18 rfl ?_
        replace hq := obind hq
        obtain ⟨i9, e10, hq⟩ := hq
        refine xw_getI e10 fX2_38 dX2_blanks_19 ?_
        refine aw_iconst (v := 1) dX2_blanks_22 (by decide) ?_
        refine aw_iadd dX2_blanks_23 ?_
        replace hq := obind hq
        obtain ⟨h11, e12, hq⟩ := hq
        refine xw_put e12 fX2_38 tX2_2 ⟨rfl, rfl⟩ dX2_blanks_24 ?_
        refine aw_goto (tgt := 0) dX2_blanks_27 (by decide) ?_
        exact ih h11 x0 _ hq
def x_X2_blanks (g : AG) (N : Nat) (h : AH) (x0 : Nat) : Option AH :=
  x_X2_blanks_0 g N  N h x0
theorem ct_X2_blanks (g : AG) (hst : (gL g).stackTraces = false) (N : Nat) : ∀ (h : AH) (x0 : Nat) (q : AH), x_X2_blanks g N h x0 = some q → CT g YX2_blanks 2 [.ref x0] h (xV q) := by
  intro h x0 q hq
  refine CT.of rfl (by decide +kernel) (loc := [some (.ref x0)]) (by first | exact Nat.le_of_ble_eq_true rfl | (simp only [lgl_rf, lgl_i, lgl_j, lgl_ref, lgl_nil]; exact Nat.le_of_ble_eq_true rfl)) (by first | rfl | (simp only [aent_rf, aent_i, aent_j, aent_ref, aent_nil]; rfl)) ?_
  unfold x_X2_blanks at hq
  exact p_x_X2_blanks_0 g hst N   N h x0 _ hq
abbrev YX2_isBehindWord : YC := (yX2_isBehindWord, cX2_isBehindWord, 1, (some .boolean), [])
theorem kX2_isBehindWord : aMk YX2_isBehindWord 0 := ⟨rfl, q1775, q117, ⟨by decide +kernel, by decide +kernel, by decide +kernel⟩, Nat.le_of_ble_eq_true rfl⟩
def x_X2_isBehindWord_17 (g : AG) (N : Nat) (h : AH) (x0 : Nat) : Option (Int32 × AH) :=
  some ((1 : Int32), h)
theorem p_x_X2_isBehindWord_17 (g : AG) (hst : (gL g).stackTraces = false) (N : Nat) : ∀ (h : AH) (x0 : Nat) (q : (Int32 × AH)), x_X2_isBehindWord_17 g N h x0 = some q → AW g YX2_isBehindWord 2 (xI q) h [some (.ref x0)] 17 [] := by
  intro h x0 q hq
  unfold x_X2_isBehindWord_17 at hq
  refine aw_iconst (v := 1) dX2_isBehindWord_17 (by decide) ?_
  refine aw_goto (tgt := 22) dX2_isBehindWord_18 (by decide) ?_
  cases hq
  exact aw_ireturn dX2_isBehindWord_22 rfl rfl ⟨rfl, rfl⟩
def x_X2_isBehindWord (g : AG) (N : Nat) (h : AH) (x0 : Nat) : Option (Int32 × AH) :=
  bif clB h x0 [1] then ((x_X2_peek g N h x0).bind fun q2 => if q2.1 = (-1 : Int32) then (x_X2_isBehindWord_17 g N  q2.2 x0) else (bif clB q2.2 x0 [1] then ((x_X2_peek g N q2.2 x0).bind fun q6 => if (32 : Int32) < q6.1 then (some ((0 : Int32), q6.2)) else (x_X2_isBehindWord_17 g N  q6.2 x0)) else none)) else none
theorem ct_X2_isBehindWord (g : AG) (hst : (gL g).stackTraces = false) (N : Nat) : ∀ (h : AH) (x0 : Nat) (q : (Int32 × AH)), x_X2_isBehindWord g N h x0 = some q → CT g YX2_isBehindWord 2 [.ref x0] h (xI q) := by
  intro h x0 q hq
  refine CT.of rfl (by decide +kernel) (loc := [some (.ref x0)]) (by first | exact Nat.le_of_ble_eq_true rfl | (simp only [lgl_rf, lgl_i, lgl_j, lgl_ref, lgl_nil]; exact Nat.le_of_ble_eq_true rfl)) (by first | rfl | (simp only [aent_rf, aent_i, aent_j, aent_ref, aent_nil]; rfl)) ?_
  unfold x_X2_isBehindWord at hq
  refine aw_aload_n (i := 0) dX2_isBehindWord_0 rfl rfl trivial ?_
  replace hq := cond_t hq
  obtain ⟨z1, hq⟩ := hq
  obtain ⟨fs9, ha9⟩ := clB1 z1
  replace hq := obind hq
  obtain ⟨q2, e3, hq⟩ := hq
  refine aw_callV (Y2 := YX2_peek) (As := []) (rest := []) (r := (RX2, TX2, 9)) kX2_peek ha9 rfl rfl q400 q401 q402 dX2_isBehindWord_1 rfl rfl (ct_X2_peek g hst N h x0 _ e3) (Nat.le_of_ble_eq_true rfl) (Nat.le_of_ble_eq_true rfl) (fun v9 h9 z9 y9 => ?_)
  obtain ⟨rfl, rfl⟩ := y9
  refine aw_st (st' := [.int q2.1]) rfl ?_
  refine aw_iconst (v := (-1)) dX2_isBehindWord_4 (by decide) ?_
  refine aw_icmp_eq (tgt := 17) dX2_isBehindWord_5 (by decide) (fun c4 => ?_) (fun c4 => ?_)
  · rw [if_pos c4] at hq
    exact p_x_X2_isBehindWord_17 g hst N   q2.2 x0 _ hq
  · rw [if_neg c4] at hq
    refine aw_aload_n (i := 0) dX2_isBehindWord_8 rfl rfl trivial ?_
    replace hq := cond_t hq
    obtain ⟨z5, hq⟩ := hq
    obtain ⟨fs9, ha9⟩ := clB1 z5
    replace hq := obind hq
    obtain ⟨q6, e7, hq⟩ := hq
    refine aw_callV (Y2 := YX2_peek) (As := []) (rest := []) (r := (RX2, TX2, 9)) kX2_peek ha9 rfl rfl q400 q401 q402 dX2_isBehindWord_9 rfl rfl (ct_X2_peek g hst N q2.2 x0 _ e7) (Nat.le_of_ble_eq_true rfl) (Nat.le_of_ble_eq_true rfl) (fun v9 h9 z9 y9 => ?_)
    obtain ⟨rfl, rfl⟩ := y9
    refine aw_st (st' := [.int q6.1]) rfl ?_
    refine aw_bipush (v := 32) dX2_isBehindWord_12 (by decide) ?_
    refine aw_icmp_gt (tgt := 21) dX2_isBehindWord_14 (by decide) (fun c8 => ?_) (fun c8 => ?_)
    · rw [if_pos c8] at hq
      refine aw_iconst (v := 0) dX2_isBehindWord_21 (by decide) ?_
      cases hq
      exact aw_ireturn dX2_isBehindWord_22 rfl rfl ⟨rfl, rfl⟩
    · rw [if_neg c8] at hq
      exact p_x_X2_isBehindWord_17 g hst N   q6.2 x0 _ hq
abbrev YX2_want : YC := (yX2_want, cX2_want, 4, none, [])
theorem kX2_want : aMk YX2_want 3 := ⟨rfl, q410, q117, ⟨by decide +kernel, by decide +kernel, by decide +kernel⟩, Nat.le_of_ble_eq_true rfl⟩
def x_X2_want (g : AG) (N : Nat) (h : AH) (x0 : Nat) (x1 : Int32) (x2 : Int32) (x3 : Int32) : Option ((String ⊕ Unit) × AH) :=
  if x1 = 0 then ((wrV g h x0 [(1, 3)] (.int x2)).bind fun h2 => (wrV g h2 x0 [(1, 4)] (.int x3)).bind fun h4 => (mkX g h4).bind fun h6 => some (.inl "java/lang/IllegalStateException", h6)) else (some (.inr (), h))
theorem ct_X2_want (g : AG) (hst : (gL g).stackTraces = false) (N : Nat) : ∀ (h : AH) (x0 : Nat) (x1 : Int32) (x2 : Int32) (x3 : Int32) (q : ((String ⊕ Unit) × AH)), x_X2_want g N h x0 x1 x2 x3 = some q → CT g YX2_want 10 [.ref x0, .int x1, .int x2, .int x3] h (tV q) := by
  intro h x0 x1 x2 x3 q hq
  refine CT.of rfl (by decide +kernel) (loc := [some (.ref x0), some (.int x1), some (.int x2), some (.int x3)]) (by first | exact Nat.le_of_ble_eq_true rfl | (simp only [lgl_rf, lgl_i, lgl_j, lgl_ref, lgl_nil]; exact Nat.le_of_ble_eq_true rfl)) (by first | rfl | (simp only [aent_rf, aent_i, aent_j, aent_ref, aent_nil]; rfl)) ?_
  unfold x_X2_want at hq
  refine aw_iload_n (i := 1) dX2_want_0 rfl rfl ?_
  refine aw_if_ne (tgt := 24) dX2_want_1 (by decide) (fun c1 => ?_) (fun c1 => ?_)
  · rw [if_neg c1] at hq
    cases hq
    exact aw_vret dX2_want_24 rfl ⟨rfl, rfl⟩
  · rw [if_pos c1] at hq
    refine aw_aload_n (i := 0) dX2_want_4 rfl rfl trivial ?_
    refine aw_iload_n (i := 2) dX2_want_5 rfl rfl ?_
    replace hq := obind hq
    obtain ⟨h2, e3, hq⟩ := hq
    refine xw_put e3 fX2_25 tX2_3 ⟨rfl, rfl⟩ dX2_want_6 ?_
    refine aw_aload_n (i := 0) dX2_want_9 rfl rfl trivial ?_
    refine aw_iload_n (i := 3) dX2_want_10 rfl rfl ?_
    replace hq := obind hq
    obtain ⟨h4, e5, hq⟩ := hq
    refine xw_put e5 fX2_9 tX2_4 ⟨rfl, rfl⟩ dX2_want_11 ?_
    replace hq := obind hq
    obtain ⟨h6, e7, hq⟩ := hq
    cases hq
    exact xw_throwS e7 hst thParser rfl (by omega) (by simp [cat_rf, Value.category]) dX2_want_14 dX2_want_17 dX2_want_18 dX2_want_20 dX2_want_23 ⟨rfl, rfl⟩
