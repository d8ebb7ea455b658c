/-! THE COMPONENT AND THE JDK as functions of the heap, and their contracts: printed by wip gen/dec2.py -/
set_option maxRecDepth 100000
theorem fX1_217 : ∀ q ∈ ([(7, 5)] : List (Nat × Nat)), aFl RX1 217 q.1 q.2 := by
  intro q hq
  simp only [List.mem_cons, List.not_mem_nil, or_false] at hq
  subst hq
  exact aFl.ofN (RX9, TX9, 8) rfl (Nat.le_of_ble_eq_true rfl) q1866
theorem fX1_220 : ∀ q ∈ ([(7, 6)] : List (Nat × Nat)), aFl RX1 220 q.1 q.2 := by
  intro q hq
  simp only [List.mem_cons, List.not_mem_nil, or_false] at hq
  subst hq
  exact aFl.ofN (RX9, TX9, 8) rfl (Nat.le_of_ble_eq_true rfl) q1869
abbrev YX1_job : YC := (yX1_job, cX1_job, 4, (some .int), [])
theorem kX1_job : aMk YX1_job 2 := ⟨rfl, q2181, q116, ⟨by decide +kernel, by decide +kernel, by decide +kernel⟩, Nat.le_of_ble_eq_true rfl⟩
def x_X1_job_20 (g : AG) (N : Nat) (h : AH) (x0 : Nat) (x1 : Int32) (x2 : Int32) (s0 : Int32) : Option ((String ⊕ Int32) × AH) :=
  (x_X1_fits g N h s0).bind fun q6 => tcase q6.1 (fun E8 => some (.inl E8, q6.2)) (fun v9 => (rdR q6.2 x0 [(0, 3)]).bind fun o10 => (o10).bind fun a12 => (rdR q6.2 a12 [(2, 2)]).bind fun o14 => (x_J21_valueOf g N q6.2 x1).bind fun q16 => (o14).bind fun a18 => bif clB q16.2 a18 [14] then ((x_J5_get g N q16.2 a18 q16.1).bind fun q21 => bif casB q21.2 q21.1 [7] then (ocase q21.1 (some (.inr (0 : Int32), q21.2)) (fun a24 => if x2 = 0 then ((rdI q21.2 a24 [(7, 0)]).bind fun i33 => some (.inr i33, q21.2)) else ((rdI q21.2 a24 [(7, 0)]).bind fun i26 => if i26 = (1 : Int32) then ((rdI q21.2 a24 [(7, 5)]).bind fun i29 => (rdI q21.2 a24 [(7, 6)]).bind fun i31 => some (.inr (i29 - i31), q21.2)) else (some (.inr (0 : Int32), q21.2))))) else none) else none)
theorem p_x_X1_job_20 (g : AG) (hst : (gL g).stackTraces = false) (N : Nat) : ∀ (h : AH) (x0 : Nat) (x1 : Int32) (x2 : Int32) (s0 : Int32) (q : ((String ⊕ Int32) × AH)), x_X1_job_20 g N h x0 x1 x2 s0 = some q → AW g YX1_job 11 (tI q) h [some (.ref x0), some (.int x1), some (.int x2), none] 20 [.int s0] := by
  intro h x0 x1 x2 s0 q hq
  unfold x_X1_job_20 at hq
  replace hq := obind hq
  obtain ⟨q6, e7, hq⟩ := hq
  refine aw_callSX (Y2 := YX1_fits) (As := [.int s0]) (rest := []) kX1_fits q1950 q1951 dX1_job_20 rfl rfl (ct_X1_fits g hst N h s0 _ e7) (Nat.le_of_ble_eq_true rfl) (Nat.le_of_ble_eq_true rfl) (fun v9 h9 z9 y9 => ?_) (fun E8 h9 z9 y9 => ?_)
  rotate_left
  · obtain ⟨e9, rfl⟩ := tV_exc y9
    replace hq := tcase_l e9 hq
    cases hq
    exact ax_out (by decide) ⟨rfl, rfl⟩
  obtain ⟨v9, e9, rfl, rfl⟩ := tV_ret y9
  replace hq := tcase_r e9 hq
  refine aw_st (st' := []) rfl ?_
  refine aw_aload_n (i := 0) dX1_job_23 rfl rfl trivial ?_
  replace hq := obind hq
  obtain ⟨o10, e11, hq⟩ := hq
  refine xw_getR e11 fX1_25 dX1_job_24 ?_
  replace hq := obind hq
  obtain ⟨a12, e13, hq⟩ := hq
  subst e13
  replace hq := obind hq
  obtain ⟨o14, e15, hq⟩ := hq
  refine xw_getR e15 fX1_102 dX1_job_27 ?_
  refine aw_iload_n (i := 1) dX1_job_30 rfl rfl ?_
  replace hq := obind hq
  obtain ⟨q16, e17, hq⟩ := hq
  refine aw_callS (Y2 := YJ21_valueOf) (As := [.int x1]) (rest := [va_rf o14]) kJ21_valueOf q1789 q1790 dX1_job_31 rfl rfl (ct_J21_valueOf g hst N q6.2 x1 _ e17) (Nat.le_of_ble_eq_true rfl) (by simp only [List.map_cons, List.map_nil, List.sum_cons, List.sum_nil, cat_rf]; exact Nat.le_of_ble_eq_true rfl) (fun v9 h9 z9 y9 => ?_)
  obtain ⟨rfl, rfl⟩ := y9
  refine aw_st (st' := [va_rf q16.1, va_rf o14]) rfl ?_
  replace hq := obind hq
  obtain ⟨a18, e19, hq⟩ := hq
  subst e19
  replace hq := cond_t hq
  obtain ⟨z20, hq⟩ := hq
  obtain ⟨fs9, ha9⟩ := clB1 z20
  replace hq := obind hq
  obtain ⟨q21, e22, hq⟩ := hq
  refine aw_callV (Y2 := YJ5_get) (As := [va_rf q16.1]) (rest := []) (r := (RJ5, TJ5, 9)) kJ5_get ha9 rfl rfl q2182 q2038 q2039 dX1_job_34 rfl rfl (ct_J5_get g hst N q16.2 a18 q16.1 _ e22) (Nat.le_of_ble_eq_true rfl) (Nat.le_of_ble_eq_true rfl) (fun v9 h9 z9 y9 => ?_)
  obtain ⟨rfl, rfl⟩ := y9
  refine aw_st (st' := [va_rf q21.1]) rfl ?_
  replace hq := cond_t hq
  obtain ⟨z23, hq⟩ := hq
  refine xw_cast (r := q21.1) z23 q2183 casProbeConsole_Job dX1_job_37 ?_
  refine aw_astore_n (i := 3) (loc' := [some (.ref x0), some (.int x1), some (.int x2), some (va_rf q21.1)]) dX1_job_40 rfl (Nat.le_of_ble_eq_true rfl) (aIsR_rf _) rfl ?_
  refine aw_aload_n (i := 3) dX1_job_41 rfl rfl (aIsR_rf _) ?_
  generalize q21.1 = v9 at hq ⊢
  rcases v9 with _ | a24
  · replace hq := ocase_n hq
    refine xw_ifnonN (tgt := 47) dX1_job_42 (by decide) ?_
    refine aw_iconst (v := 0) dX1_job_45 (by decide) ?_
    cases hq
    exact aw_ireturn dX1_job_46 rfl rfl ⟨rfl, rfl⟩
  · replace hq := ocase_s hq
    refine xw_ifnonS (tgt := 47) dX1_job_42 (by decide) ?_
    refine aw_iload_n (i := 2) dX1_job_47 rfl rfl ?_
    refine aw_if_ne (tgt := 58) dX1_job_48 (by decide) (fun c25 => ?_) (fun c25 => ?_)
    · rw [if_neg c25] at hq
      refine aw_aload_n (i := 3) dX1_job_58 rfl rfl trivial ?_
      replace hq := obind hq
      obtain ⟨i26, e27, hq⟩ := hq
      refine xw_getI e27 fX1_214 dX1_job_59 ?_
      refine aw_iconst (v := 1) dX1_job_62 (by decide) ?_
      refine aw_icmp_ne (tgt := 78) dX1_job_63 (by decide) (fun c28 => ?_) (fun c28 => ?_)
      · rw [if_neg c28] at hq
        refine aw_iconst (v := 0) dX1_job_78 (by decide) ?_
        cases hq
        exact aw_ireturn dX1_job_79 rfl rfl ⟨rfl, rfl⟩
      · rw [if_pos c28] at hq
        refine aw_aload_n (i := 3) dX1_job_66 rfl rfl trivial ?_
        replace hq := obind hq
        obtain ⟨i29, e30, hq⟩ := hq
        refine xw_getI e30 fX1_217 dX1_job_67 ?_
        refine aw_aload_n (i := 3) dX1_job_70 rfl rfl trivial ?_
        replace hq := obind hq
        obtain ⟨i31, e32, hq⟩ := hq
        refine xw_getI e32 fX1_220 dX1_job_71 ?_
        refine aw_isub dX1_job_74 ?_
        refine aw_goto (tgt := 79) dX1_job_75 (by decide) ?_
        cases hq
        exact aw_ireturn dX1_job_79 rfl rfl ⟨rfl, rfl⟩
    · rw [if_pos c25] at hq
      refine aw_aload_n (i := 3) dX1_job_51 rfl rfl trivial ?_
      replace hq := obind hq
      obtain ⟨i33, e34, hq⟩ := hq
      refine xw_getI e34 fX1_214 dX1_job_52 ?_
      refine aw_goto (tgt := 79) dX1_job_55 (by decide) ?_
      cases hq
      exact aw_ireturn dX1_job_79 rfl rfl ⟨rfl, rfl⟩
def x_X1_job_19 (g : AG) (N : Nat) (h : AH) (x0 : Nat) (x1 : Int32) (x2 : Int32) : Option ((String ⊕ Int32) × AH) :=
  x_X1_job_20 g N  h x0 x1 x2 (0 : Int32)
theorem p_x_X1_job_19 (g : AG) (hst : (gL g).stackTraces = false) (N : Nat) : ∀ (h : AH) (x0 : Nat) (x1 : Int32) (x2 : Int32) (q : ((String ⊕ Int32) × AH)), x_X1_job_19 g N h x0 x1 x2 = some q → AW g YX1_job 11 (tI q) h [some (.ref x0), some (.int x1), some (.int x2), none] 19 [] := by
  intro h x0 x1 x2 q hq
  unfold x_X1_job_19 at hq
  refine aw_iconst (v := 0) dX1_job_19 (by decide) ?_
  exact p_x_X1_job_20 g hst N   h x0 x1 x2 (0 : Int32) _ hq
def x_X1_job (g : AG) (N : Nat) (h : AH) (x0 : Nat) (x1 : Int32) (x2 : Int32) : Option ((String ⊕ Int32) × AH) :=
  (x_X1_lies g N h x1 (8 : Int32)).bind fun q1 => tcase q1.1 (fun E3 => some (.inl E3, q1.2)) (fun v4 => if x2 < 0 then (x_X1_job_19 g N  q1.2 x0 x1 x2) else (if (1 : Int32) < x2 then (x_X1_job_19 g N  q1.2 x0 x1 x2) else (x_X1_job_20 g N  q1.2 x0 x1 x2 (1 : Int32))))
theorem ct_X1_job (g : AG) (hst : (gL g).stackTraces = false) (N : Nat) : ∀ (h : AH) (x0 : Nat) (x1 : Int32) (x2 : Int32) (q : ((String ⊕ Int32) × AH)), x_X1_job g N h x0 x1 x2 = some q → CT g YX1_job 11 [.ref x0, .int x1, .int x2] h (tI q) := by
  intro h x0 x1 x2 q hq
  refine CT.of rfl (by decide +kernel) (loc := [some (.ref x0), some (.int x1), some (.int x2), none]) (by first | exact Nat.le_of_ble_eq_true rfl | (simp only [lgl_rf, lgl_i, lgl_j, lgl_ref, lgl_nil]; exact Nat.le_of_ble_eq_true rfl)) (by first | rfl | (simp only [aent_rf, aent_i, aent_j, aent_ref, aent_nil]; rfl)) ?_
  unfold x_X1_job at hq
  refine aw_iload_n (i := 1) dX1_job_0 rfl rfl ?_
  refine aw_bipush (v := 8) dX1_job_1 (by decide) ?_
  replace hq := obind hq
  obtain ⟨q1, e2, hq⟩ := hq
  refine aw_callSX (Y2 := YX1_lies) (As := [.int x1, .int (8 : Int32)]) (rest := []) kX1_lies q1982 q1983 dX1_job_3 rfl rfl (ct_X1_lies g hst N h x1 (8 : Int32) _ e2) (Nat.le_of_ble_eq_true rfl) (Nat.le_of_ble_eq_true rfl) (fun v9 h9 z9 y9 => ?_) (fun E3 h9 z9 y9 => ?_)
  rotate_left
  · obtain ⟨e9, rfl⟩ := tV_exc y9
    replace hq := tcase_l e9 hq
    cases hq
    exact ax_out (by decide) ⟨rfl, rfl⟩
  obtain ⟨v4, e9, rfl, rfl⟩ := tV_ret y9
  replace hq := tcase_r e9 hq
  refine aw_st (st' := []) rfl ?_
  refine aw_iload_n (i := 2) dX1_job_6 rfl rfl ?_
  refine aw_if_lt (tgt := 19) dX1_job_7 (by decide) (fun c5 => ?_) (fun c5 => ?_)
  · rw [if_pos c5] at hq
    exact p_x_X1_job_19 g hst N   q1.2 x0 x1 x2 _ hq
  · rw [if_neg c5] at hq
    refine aw_iload_n (i := 2) dX1_job_10 rfl rfl ?_
    refine aw_iconst (v := 1) dX1_job_11 (by decide) ?_
    refine aw_icmp_gt (tgt := 19) dX1_job_12 (by decide) (fun c35 => ?_) (fun c35 => ?_)
    · rw [if_pos c35] at hq
      exact p_x_X1_job_19 g hst N   q1.2 x0 x1 x2 _ hq
    · rw [if_neg c35] at hq
      refine aw_iconst (v := 1) dX1_job_15 (by decide) ?_
      refine aw_goto (tgt := 20) dX1_job_16 (by decide) ?_
      exact p_x_X1_job_20 g hst N   q1.2 x0 x1 x2 (1 : Int32) _ hq
abbrev YX0_job : YC := (yX0_job, cX0_job, 5, (some .int), [(0, 10, 13, 19), (0, 10, 17, 13)])
theorem kX0_job : aMkW YX0_job 4 := ⟨rfl, q2177, q115, ⟨by decide +kernel, by decide +kernel, by decide +kernel⟩, Nat.le_of_ble_eq_true rfl⟩
def x_X0_job (g : AG) (N : Nat) (h : AH) (r0 : Option Nat) (x1 : Int32) (x2 : Int32) (r3 : Option Nat) : Option (Int32 × AH) :=
  (r0).bind fun a1 => bif clB h a1 [0] then ((x_X1_job g N h a1 x1 x2).bind fun q4 => tcase q4.1 (fun E6 => if E6 = "java/lang/IndexOutOfBoundsException" then (some ((1 : Int32), q4.2)) else (if E6 = "java/lang/IllegalArgumentException" then (some ((2 : Int32), q4.2)) else (none))) (fun v7 => (r3).bind fun a10 => (wrA g q4.2 a10 1 (0 : Int32) (.long v7.toInt64)).bind fun h12 => some ((0 : Int32), h12))) else none
theorem ct_X0_job (g : AG) (hst : (gL g).stackTraces = false) (N : Nat) : ∀ (h : AH) (r0 : Option Nat) (x1 : Int32) (x2 : Int32) (r3 : Option Nat) (q : (Int32 × AH)), x_X0_job g N h r0 x1 x2 r3 = some q → CT g YX0_job 12 [va_rf r0, .int x1, .int x2, va_rf r3] h (xI q) := by
  intro h r0 x1 x2 r3 q hq
  refine CT.ofW rfl (by decide +kernel) (loc := [some (va_rf r0), some (.int x1), some (.int x2), some (va_rf r3), none]) (by first | exact Nat.le_of_ble_eq_true rfl | (simp only [lgl_rf, lgl_i, lgl_j, lgl_ref, lgl_nil]; exact Nat.le_of_ble_eq_true rfl)) (by first | rfl | (simp only [aent_rf, aent_i, aent_j, aent_ref, aent_nil]; rfl)) ?_
  unfold x_X0_job at hq
  refine aw_aload_n (i := 3) dX0_job_0 rfl rfl (aIsR_rf _) ?_
  refine aw_iconst (v := 0) dX0_job_1 (by decide) ?_
  refine aw_aload_n (i := 0) dX0_job_2 rfl rfl (aIsR_rf _) ?_
  refine aw_iload_n (i := 1) dX0_job_3 rfl rfl ?_
  refine aw_iload_n (i := 2) dX0_job_4 rfl rfl ?_
  replace hq := obind hq
  obtain ⟨a1, e2, hq⟩ := hq
  subst e2
  replace hq := cond_t hq
  obtain ⟨z3, hq⟩ := hq
  obtain ⟨fs9, ha9⟩ := clB1 z3
  replace hq := obind hq
  obtain ⟨q4, e5, hq⟩ := hq
  refine aw_callVX (Y2 := YX1_job) (As := [.int x1, .int x2]) (rest := [.int (0 : Int32), va_rf r3]) (r := (RX1, TX1, 5)) kX1_job ha9 rfl rfl q2178 q2179 q2180 dX0_job_5 rfl rfl (ct_X1_job g hst N h a1 x1 x2 _ e5) (Nat.le_of_ble_eq_true rfl) (by simp only [List.map_cons, List.map_nil, List.sum_cons, List.sum_nil, cat_rf]; exact Nat.le_of_ble_eq_true rfl) (fun v9 h9 z9 y9 => ?_) (fun E6 h9 z9 y9 => ?_)
  rotate_left
  · obtain ⟨e9, rfl⟩ := tI_exc y9
    replace hq := tcase_l e9 hq
    by_cases c8 : E6 = "java/lang/IndexOutOfBoundsException"
    · rw [if_pos c8] at hq
      subst c8
      refine xw_catch (x := ⟨0, 10, 13, 19⟩) (i := 4) (loc' := [some (.ref a1), some (.int x1), some (.int x2), some (va_rf r3), none]) (pc9 := 15) dX0_job_13 rfl (pre := []) (suf := [⟨0, 10, 17, 13⟩]) rfl (fun z hz => by cases hz) (by decide) (by decide) q1959 q1987 (Nat.le_of_ble_eq_true rfl) rfl (Or.inl dX0_job_13) (fun _ => by first | rfl | (unfold akill; first | rfl | (split <;> first | rfl | (rename_i zz; simp at zz)))) (Nat.le_of_ble_eq_true rfl) ?_
      refine aw_iconst (v := 1) dX0_job_15 (by decide) ?_
      cases hq
      exact aw_ireturn dX0_job_16 rfl rfl ⟨rfl, rfl⟩
    rw [if_neg c8] at hq
    by_cases c9 : E6 = "java/lang/IllegalArgumentException"
    · rw [if_pos c9] at hq
      subst c9
      refine xw_catch (x := ⟨0, 10, 17, 13⟩) (i := 4) (loc' := [some (.ref a1), some (.int x1), some (.int x2), some (va_rf r3), none]) (pc9 := 19) dX0_job_17 rfl (pre := [⟨0, 10, 13, 19⟩]) (suf := []) rfl (fun z hz => by
        cases List.mem_singleton.mp hz
        exact Or.inr ⟨by decide, "java/lang/IndexOutOfBoundsException", q1959, by decide⟩) (by decide) (by decide) q1945 q646 (Nat.le_of_ble_eq_true rfl) rfl (Or.inl dX0_job_17) (fun _ => by first | rfl | (unfold akill; first | rfl | (split <;> first | rfl | (rename_i zz; simp at zz)))) (Nat.le_of_ble_eq_true rfl) ?_
      refine aw_iconst (v := 2) dX0_job_19 (by decide) ?_
      cases hq
      exact aw_ireturn dX0_job_20 rfl rfl ⟨rfl, rfl⟩
    rw [if_neg c9] at hq
    cases hq
  obtain ⟨v7, e9, rfl, rfl⟩ := tI_ret y9
  replace hq := tcase_r e9 hq
  refine aw_st (st' := [.int v7, .int (0 : Int32), va_rf r3]) rfl ?_
  refine aw_i2l dX0_job_8 ?_
  replace hq := obind hq
  obtain ⟨a10, e11, hq⟩ := hq
  subst e11
  replace hq := obind hq
  obtain ⟨h12, e13, hq⟩ := hq
  refine xw_last e13 dX0_job_9 ?_
  refine aw_goto (tgt := 21) dX0_job_10 (by decide) ?_
  refine aw_iconst (v := 0) dX0_job_21 (by decide) ?_
  cases hq
  exact aw_ireturn dX0_job_22 rfl rfl ⟨rfl, rfl⟩
abbrev YX10_job : YC := (yX10_job, cX10_job, 1, (some .int), [])
theorem kX10_job : aMk YX10_job 0 := ⟨rfl, q2202, q163, ⟨by decide +kernel, by decide +kernel, by decide +kernel⟩, Nat.le_of_ble_eq_true rfl⟩
def x_X10_job (g : AG) (N : Nat) (h : AH) (x0 : Nat) : Option (Int32 × AH) :=
  (rdI h x0 [(8, 0)]).bind fun i1 => some (i1, h)
theorem ct_X10_job (g : AG) (hst : (gL g).stackTraces = false) (N : Nat) : ∀ (h : AH) (x0 : Nat) (q : (Int32 × AH)), x_X10_job g N h x0 = some q → CT g YX10_job 1 [.ref x0] h (xI q) := by
  intro h x0 q hq
  refine CT.of rfl (by decide +kernel) (loc := [some (.ref x0)]) (by first | exact Nat.le_of_ble_eq_true rfl | (simp only [lgl_rf, lgl_i, lgl_j, lgl_ref, lgl_nil]; exact Nat.le_of_ble_eq_true rfl)) (by first | rfl | (simp only [aent_rf, aent_i, aent_j, aent_ref, aent_nil]; rfl)) ?_
  unfold x_X10_job at hq
  refine aw_aload_n (i := 0) dX10_job_0 rfl rfl trivial ?_
  replace hq := obind hq
  obtain ⟨i1, e2, hq⟩ := hq
  refine xw_getI e2 fX10_7 dX10_job_1 ?_
  cases hq
  exact aw_ireturn dX10_job_4 rfl rfl ⟨rfl, rfl⟩
abbrev YX10_method : YC := (yX10_method, cX10_method, 1, (some .int), [])
theorem kX10_method : aMk YX10_method 0 := ⟨rfl, q2206, q163, ⟨by decide +kernel, by decide +kernel, by decide +kernel⟩, Nat.le_of_ble_eq_true rfl⟩
def x_X10_method (g : AG) (N : Nat) (h : AH) (x0 : Nat) : Option (Int32 × AH) :=
  (rdI h x0 [(8, 1)]).bind fun i1 => some (i1, h)
theorem ct_X10_method (g : AG) (hst : (gL g).stackTraces = false) (N : Nat) : ∀ (h : AH) (x0 : Nat) (q : (Int32 × AH)), x_X10_method g N h x0 = some q → CT g YX10_method 1 [.ref x0] h (xI q) := by
  intro h x0 q hq
  refine CT.of rfl (by decide +kernel) (loc := [some (.ref x0)]) (by first | exact Nat.le_of_ble_eq_true rfl | (simp only [lgl_rf, lgl_i, lgl_j, lgl_ref, lgl_nil]; exact Nat.le_of_ble_eq_true rfl)) (by first | rfl | (simp only [aent_rf, aent_i, aent_j, aent_ref, aent_nil]; rfl)) ?_
  unfold x_X10_method at hq
  refine aw_aload_n (i := 0) dX10_method_0 rfl rfl trivial ?_
  replace hq := obind hq
  obtain ⟨i1, e2, hq⟩ := hq
  refine xw_getI e2 fX10_13 dX10_method_1 ?_
  cases hq
  exact aw_ireturn dX10_method_4 rfl rfl ⟨rfl, rfl⟩
abbrev YX10_a : YC := (yX10_a, cX10_a, 1, (some .int), [])
theorem kX10_a : aMk YX10_a 0 := ⟨rfl, q2210, q163, ⟨by decide +kernel, by decide +kernel, by decide +kernel⟩, Nat.le_of_ble_eq_true rfl⟩
def x_X10_a (g : AG) (N : Nat) (h : AH) (x0 : Nat) : Option (Int32 × AH) :=
  (rdI h x0 [(8, 2)]).bind fun i1 => some (i1, h)
theorem ct_X10_a (g : AG) (hst : (gL g).stackTraces = false) (N : Nat) : ∀ (h : AH) (x0 : Nat) (q : (Int32 × AH)), x_X10_a g N h x0 = some q → CT g YX10_a 1 [.ref x0] h (xI q) := by
  intro h x0 q hq
  refine CT.of rfl (by decide +kernel) (loc := [some (.ref x0)]) (by first | exact Nat.le_of_ble_eq_true rfl | (simp only [lgl_rf, lgl_i, lgl_j, lgl_ref, lgl_nil]; exact Nat.le_of_ble_eq_true rfl)) (by first | rfl | (simp only [aent_rf, aent_i, aent_j, aent_ref, aent_nil]; rfl)) ?_
  unfold x_X10_a at hq
  refine aw_aload_n (i := 0) dX10_a_0 rfl rfl trivial ?_
  replace hq := obind hq
  obtain ⟨i1, e2, hq⟩ := hq
  refine xw_getI e2 fX10_16 dX10_a_1 ?_
  cases hq
  exact aw_ireturn dX10_a_4 rfl rfl ⟨rfl, rfl⟩
abbrev YX10_b : YC := (yX10_b, cX10_b, 1, (some .int), [])
theorem kX10_b : aMk YX10_b 0 := ⟨rfl, q2214, q163, ⟨by decide +kernel, by decide +kernel, by decide +kernel⟩, Nat.le_of_ble_eq_true rfl⟩
def x_X10_b (g : AG) (N : Nat) (h : AH) (x0 : Nat) : Option (Int32 × AH) :=
  (rdI h x0 [(8, 3)]).bind fun i1 => some (i1, h)
theorem ct_X10_b (g : AG) (hst : (gL g).stackTraces = false) (N : Nat) : ∀ (h : AH) (x0 : Nat) (q : (Int32 × AH)), x_X10_b g N h x0 = some q → CT g YX10_b 1 [.ref x0] h (xI q) := by
  intro h x0 q hq
  refine CT.of rfl (by decide +kernel) (loc := [some (.ref x0)]) (by first | exact Nat.le_of_ble_eq_true rfl | (simp only [lgl_rf, lgl_i, lgl_j, lgl_ref, lgl_nil]; exact Nat.le_of_ble_eq_true rfl)) (by first | rfl | (simp only [aent_rf, aent_i, aent_j, aent_ref, aent_nil]; rfl)) ?_
  unfold x_X10_b at hq
  refine aw_aload_n (i := 0) dX10_b_0 rfl rfl trivial ?_
  replace hq := obind hq
  obtain ⟨i1, e2, hq⟩ := hq
  refine xw_getI e2 fX10_19 dX10_b_1 ?_
  cases hq
  exact aw_ireturn dX10_b_4 rfl rfl ⟨rfl, rfl⟩
abbrev YX10_c : YC := (yX10_c, cX10_c, 1, (some .int), [])
theorem kX10_c : aMk YX10_c 0 := ⟨rfl, q2218, q163, ⟨by decide +kernel, by decide +kernel, by decide +kernel⟩, Nat.le_of_ble_eq_true rfl⟩
def x_X10_c (g : AG) (N : Nat) (h : AH) (x0 : Nat) : Option (Int32 × AH) :=
  (rdI h x0 [(8, 4)]).bind fun i1 => some (i1, h)
theorem ct_X10_c (g : AG) (hst : (gL g).stackTraces = false) (N : Nat) : ∀ (h : AH) (x0 : Nat) (q : (Int32 × AH)), x_X10_c g N h x0 = some q → CT g YX10_c 1 [.ref x0] h (xI q) := by
  intro h x0 q hq
  refine CT.of rfl (by decide +kernel) (loc := [some (.ref x0)]) (by first | exact Nat.le_of_ble_eq_true rfl | (simp only [lgl_rf, lgl_i, lgl_j, lgl_ref, lgl_nil]; exact Nat.le_of_ble_eq_true rfl)) (by first | rfl | (simp only [aent_rf, aent_i, aent_j, aent_ref, aent_nil]; rfl)) ?_
  unfold x_X10_c at hq
  refine aw_aload_n (i := 0) dX10_c_0 rfl rfl trivial ?_
  replace hq := obind hq
  obtain ⟨i1, e2, hq⟩ := hq
  refine xw_getI e2 fX10_22 dX10_c_1 ?_
  cases hq
  exact aw_ireturn dX10_c_4 rfl rfl ⟨rfl, rfl⟩
abbrev YX10_threw : YC := (yX10_threw, cX10_threw, 1, (some .boolean), [])
theorem kX10_threw : aMk YX10_threw 0 := ⟨rfl, q2222, q163, ⟨by decide +kernel, by decide +kernel, by decide +kernel⟩, Nat.le_of_ble_eq_true rfl⟩
def x_X10_threw (g : AG) (N : Nat) (h : AH) (x0 : Nat) : Option (Int32 × AH) :=
  (rdI h x0 [(8, 5)]).bind fun i1 => bif isb i1 then (some (i1, h)) else none
theorem ct_X10_threw (g : AG) (hst : (gL g).stackTraces = false) (N : Nat) : ∀ (h : AH) (x0 : Nat) (q : (Int32 × AH)), x_X10_threw g N h x0 = some q → CT g YX10_threw 1 [.ref x0] h (xI q) := by
  intro h x0 q hq
  refine CT.of rfl (by decide +kernel) (loc := [some (.ref x0)]) (by first | exact Nat.le_of_ble_eq_true rfl | (simp only [lgl_rf, lgl_i, lgl_j, lgl_ref, lgl_nil]; exact Nat.le_of_ble_eq_true rfl)) (by first | rfl | (simp only [aent_rf, aent_i, aent_j, aent_ref, aent_nil]; rfl)) ?_
  unfold x_X10_threw at hq
  refine aw_aload_n (i := 0) dX10_threw_0 rfl rfl trivial ?_
  replace hq := obind hq
  obtain ⟨i1, e2, hq⟩ := hq
  refine xw_getI e2 fX10_25 dX10_threw_1 ?_
  replace hq := cond_t hq
  obtain ⟨z3, hq⟩ := hq
  cases hq
  exact aw_ireturn dX10_threw_4 rfl (isb_ok z3).1 ⟨rfl, rfl⟩
abbrev YX10_value : YC := (yX10_value, cX10_value, 1, (some .int), [])
theorem kX10_value : aMk YX10_value 0 := ⟨rfl, q2226, q163, ⟨by decide +kernel, by decide +kernel, by decide +kernel⟩, Nat.le_of_ble_eq_true rfl⟩
def x_X10_value (g : AG) (N : Nat) (h : AH) (x0 : Nat) : Option (Int32 × AH) :=
  (rdI h x0 [(8, 6)]).bind fun i1 => some (i1, h)
theorem ct_X10_value (g : AG) (hst : (gL g).stackTraces = false) (N : Nat) : ∀ (h : AH) (x0 : Nat) (q : (Int32 × AH)), x_X10_value g N h x0 = some q → CT g YX10_value 1 [.ref x0] h (xI q) := by
  intro h x0 q hq
  refine CT.of rfl (by decide +kernel) (loc := [some (.ref x0)]) (by first | exact Nat.le_of_ble_eq_true rfl | (simp only [lgl_rf, lgl_i, lgl_j, lgl_ref, lgl_nil]; exact Nat.le_of_ble_eq_true rfl)) (by first | rfl | (simp only [aent_rf, aent_i, aent_j, aent_ref, aent_nil]; rfl)) ?_
  unfold x_X10_value at hq
  refine aw_aload_n (i := 0) dX10_value_0 rfl rfl trivial ?_
  replace hq := obind hq
  obtain ⟨i1, e2, hq⟩ := hq
  refine xw_getI e2 fX10_29 dX10_value_1 ?_
  cases hq
  exact aw_ireturn dX10_value_4 rfl rfl ⟨rfl, rfl⟩
theorem fX1_207 : ∀ q ∈ ([(2, 4)] : List (Nat × Nat)), aFl RX1 207 q.1 q.2 := by
  intro q hq
  simp only [List.mem_cons, List.not_mem_nil, or_false] at hq
  subst hq
  exact aFl.ofN (RX3, TX3, 10) rfl (Nat.le_of_ble_eq_true rfl) q324
theorem casProbeConsole_Kept : ∀ c ∈ ([8] : List Nat), ∃ r : vw_C, aCl[c]? = some r ∧ (r.1 = "ProbeConsole$Kept" ∨ Cond.castable r.1 "ProbeConsole$Kept" ∈ lw_tbl) := by
  intro c hc
  simp only [List.mem_cons, List.not_mem_nil, or_false] at hc
  subst hc
  exact ⟨(RX10, TX10, 7), rfl, Or.inl rfl⟩
abbrev YX1_kept : YC := (yX1_kept, cX1_kept, 4, (some .int), [])
theorem kX1_kept : aMk YX1_kept 2 := ⟨rfl, q2197, q116, ⟨by decide +kernel, by decide +kernel, by decide +kernel⟩, Nat.le_of_ble_eq_true rfl⟩
def x_X1_kept_31 (g : AG) (N : Nat) (h : AH) (x0 : Nat) (x1 : Int32) (x2 : Int32) (s0 : Int32) : Option ((String ⊕ Int32) × AH) :=
  (x_X1_fits g N h s0).bind fun q17 => tcase q17.1 (fun E19 => some (.inl E19, q17.2)) (fun v20 => (rdR q17.2 x0 [(0, 3)]).bind fun o21 => (o21).bind fun a23 => (rdR q17.2 a23 [(2, 4)]).bind fun o25 => (o25).bind fun a27 => bif clB q17.2 a27 [13] then ((x_J4_get g N q17.2 a27 x1).bind fun q30 => bif casB q30.2 q30.1 [8] then (if x2.toInt < 0 ∨ 5 < x2.toInt then ((q30.1).bind fun a34 => bif clB q30.2 a34 [8] then ((x_X10_value g N q30.2 a34).bind fun q37 => some (.inr q37.1, q37.2)) else none) else (if x2 = 0 then ((q30.1).bind fun a40 => bif clB q30.2 a40 [8] then ((x_X10_job g N q30.2 a40).bind fun q43 => some (.inr q43.1, q43.2)) else none) else (if x2 = 1 then ((q30.1).bind fun a46 => bif clB q30.2 a46 [8] then ((x_X10_method g N q30.2 a46).bind fun q49 => some (.inr q49.1, q49.2)) else none) else (if x2 = 2 then ((q30.1).bind fun a52 => bif clB q30.2 a52 [8] then ((x_X10_a g N q30.2 a52).bind fun q55 => some (.inr q55.1, q55.2)) else none) else (if x2 = 3 then ((q30.1).bind fun a58 => bif clB q30.2 a58 [8] then ((x_X10_b g N q30.2 a58).bind fun q61 => some (.inr q61.1, q61.2)) else none) else (if x2 = 4 then ((q30.1).bind fun a64 => bif clB q30.2 a64 [8] then ((x_X10_c g N q30.2 a64).bind fun q67 => some (.inr q67.1, q67.2)) else none) else (if x2 = 5 then ((q30.1).bind fun a70 => bif clB q30.2 a70 [8] then ((x_X10_threw g N q30.2 a70).bind fun q73 => if q73.1 = 0 then (some (.inr (0 : Int32), q73.2)) else (some (.inr (1 : Int32), q73.2))) else none) else (none)))))))) else none) else none)
theorem p_x_X1_kept_31 (g : AG) (hst : (gL g).stackTraces = false) (N : Nat) : ∀ (h : AH) (x0 : Nat) (x1 : Int32) (x2 : Int32) (s0 : Int32) (q : ((String ⊕ Int32) × AH)), x_X1_kept_31 g N h x0 x1 x2 s0 = some q → AW g YX1_kept 11 (tI q) h [some (.ref x0), some (.int x1), some (.int x2), none] 31 [.int s0] := by
  intro h x0 x1 x2 s0 q hq
  unfold x_X1_kept_31 at hq
  replace hq := obind hq
  obtain ⟨q17, e18, hq⟩ := hq
  refine aw_callSX (Y2 := YX1_fits) (As := [.int s0]) (rest := []) kX1_fits q1950 q1951 dX1_kept_31 rfl rfl (ct_X1_fits g hst N h s0 _ e18) (Nat.le_of_ble_eq_true rfl) (Nat.le_of_ble_eq_true rfl) (fun v9 h9 z9 y9 => ?_) (fun E19 h9 z9 y9 => ?_)
  rotate_left
  · obtain ⟨e9, rfl⟩ := tV_exc y9
    replace hq := tcase_l e9 hq
    cases hq
    exact ax_out (by decide) ⟨rfl, rfl⟩
  obtain ⟨v20, e9, rfl, rfl⟩ := tV_ret y9
  replace hq := tcase_r e9 hq
  refine aw_st (st' := []) rfl ?_
  refine aw_aload_n (i := 0) dX1_kept_34 rfl rfl trivial ?_
  replace hq := obind hq
  obtain ⟨o21, e22, hq⟩ := hq
  refine xw_getR e22 fX1_25 dX1_kept_35 ?_
  replace hq := obind hq
  obtain ⟨a23, e24, hq⟩ := hq
  subst e24
  replace hq := obind hq
  obtain ⟨o25, e26, hq⟩ := hq
  refine xw_getR e26 fX1_207 dX1_kept_38 ?_
  refine aw_iload_n (i := 1) dX1_kept_41 rfl rfl ?_
  replace hq := obind hq
  obtain ⟨a27, e28, hq⟩ := hq
  subst e28
  replace hq := cond_t hq
  obtain ⟨z29, hq⟩ := hq
  obtain ⟨fs9, ha9⟩ := clB1 z29
  replace hq := obind hq
  obtain ⟨q30, e31, hq⟩ := hq
  refine aw_callF (Y2 := YJ4_get) (As := [.int x1]) (rest := []) (r := (RJ4, TJ4, 3)) (x := ⟨"java/util/List", "get", "(I)Ljava/lang/Object;"⟩) kJ4_get ha9 rfl (by decide) (by decide) ⟨by decide +kernel, by decide +kernel, by decide +kernel⟩ q1999 q2004 q2002 dX1_kept_42 rfl rfl (ct_J4_get g hst N q17.2 a27 x1 _ e31) (Nat.le_of_ble_eq_true rfl) (Nat.le_of_ble_eq_true rfl) (fun v9 h9 z9 y9 => ?_)
  obtain ⟨rfl, rfl⟩ := y9
  refine aw_st (st' := [va_rf q30.1]) rfl ?_
  replace hq := cond_t hq
  obtain ⟨z32, hq⟩ := hq
  refine xw_cast (r := q30.1) z32 q2198 casProbeConsole_Kept dX1_kept_47 ?_
  refine aw_astore_n (i := 3) (loc' := [some (.ref x0), some (.int x1), some (.int x2), some (va_rf q30.1)]) dX1_kept_50 rfl (Nat.le_of_ble_eq_true rfl) (aIsR_rf _) rfl ?_
  refine aw_iload_n (i := 2) dX1_kept_51 rfl rfl ?_
  by_cases c33 : x2.toInt < 0 ∨ 5 < x2.toInt
  · rw [if_pos c33] at hq
    refine aw_tableOut (tgt := 142) dX1_kept_52 c33 (by decide) ?_
    refine aw_aload_n (i := 3) dX1_kept_142 rfl rfl (aIsR_rf _) ?_
    replace hq := obind hq
    obtain ⟨a34, e35, hq⟩ := hq
    rw [e35]
    replace hq := cond_t hq
    obtain ⟨z36, hq⟩ := hq
    obtain ⟨fs9, ha9⟩ := clB1 z36
    replace hq := obind hq
    obtain ⟨q37, e38, hq⟩ := hq
    refine aw_callV (Y2 := YX10_value) (As := []) (rest := []) (r := (RX10, TX10, 7)) kX10_value ha9 rfl rfl q2223 q2224 q2225 dX1_kept_143 rfl rfl (ct_X10_value g hst N q30.2 a34 _ e38) (Nat.le_of_ble_eq_true rfl) (Nat.le_of_ble_eq_true rfl) (fun v9 h9 z9 y9 => ?_)
    obtain ⟨rfl, rfl⟩ := y9
    refine aw_st (st' := [.int q37.1]) rfl ?_
    cases hq
    exact aw_ireturn dX1_kept_146 rfl rfl ⟨rfl, rfl⟩
  rw [if_neg c33] at hq
  by_cases c39 : x2 = 0
  · rw [if_pos c39] at hq
    refine aw_tableIn (off := 40) (tgt := 92) dX1_kept_52 (by rw [c39]; decide) (by rw [c39]; decide) (by rw [c39]; rfl) (by decide) ?_
    refine aw_aload_n (i := 3) dX1_kept_92 rfl rfl (aIsR_rf _) ?_
    replace hq := obind hq
    obtain ⟨a40, e41, hq⟩ := hq
    rw [e41]
    replace hq := cond_t hq
    obtain ⟨z42, hq⟩ := hq
    obtain ⟨fs9, ha9⟩ := clB1 z42
    replace hq := obind hq
    obtain ⟨q43, e44, hq⟩ := hq
    refine aw_callV (Y2 := YX10_job) (As := []) (rest := []) (r := (RX10, TX10, 7)) kX10_job ha9 rfl rfl q2199 q2200 q2201 dX1_kept_93 rfl rfl (ct_X10_job g hst N q30.2 a40 _ e44) (Nat.le_of_ble_eq_true rfl) (Nat.le_of_ble_eq_true rfl) (fun v9 h9 z9 y9 => ?_)
    obtain ⟨rfl, rfl⟩ := y9
    refine aw_st (st' := [.int q43.1]) rfl ?_
    refine aw_goto (tgt := 146) dX1_kept_96 (by decide) ?_
    cases hq
    exact aw_ireturn dX1_kept_146 rfl rfl ⟨rfl, rfl⟩
  rw [if_neg c39] at hq
  by_cases c45 : x2 = 1
  · rw [if_pos c45] at hq
    refine aw_tableIn (off := 47) (tgt := 99) dX1_kept_52 (by rw [c45]; decide) (by rw [c45]; decide) (by rw [c45]; rfl) (by decide) ?_
    refine aw_aload_n (i := 3) dX1_kept_99 rfl rfl (aIsR_rf _) ?_
    replace hq := obind hq
    obtain ⟨a46, e47, hq⟩ := hq
    rw [e47]
    replace hq := cond_t hq
    obtain ⟨z48, hq⟩ := hq
    obtain ⟨fs9, ha9⟩ := clB1 z48
    replace hq := obind hq
    obtain ⟨q49, e50, hq⟩ := hq
    refine aw_callV (Y2 := YX10_method) (As := []) (rest := []) (r := (RX10, TX10, 7)) kX10_method ha9 rfl rfl q2203 q2204 q2205 dX1_kept_100 rfl rfl (ct_X10_method g hst N q30.2 a46 _ e50) (Nat.le_of_ble_eq_true rfl) (Nat.le_of_ble_eq_true rfl) (fun v9 h9 z9 y9 => ?_)
    obtain ⟨rfl, rfl⟩ := y9
    refine aw_st (st' := [.int q49.1]) rfl ?_
    refine aw_goto (tgt := 146) dX1_kept_103 (by decide) ?_
    cases hq
    exact aw_ireturn dX1_kept_146 rfl rfl ⟨rfl, rfl⟩
  rw [if_neg c45] at hq
  by_cases c51 : x2 = 2
  · rw [if_pos c51] at hq
    refine aw_tableIn (off := 54) (tgt := 106) dX1_kept_52 (by rw [c51]; decide) (by rw [c51]; decide) (by rw [c51]; rfl) (by decide) ?_
    refine aw_aload_n (i := 3) dX1_kept_106 rfl rfl (aIsR_rf _) ?_
    replace hq := obind hq
    obtain ⟨a52, e53, hq⟩ := hq
    rw [e53]
    replace hq := cond_t hq
    obtain ⟨z54, hq⟩ := hq
    obtain ⟨fs9, ha9⟩ := clB1 z54
    replace hq := obind hq
    obtain ⟨q55, e56, hq⟩ := hq
    refine aw_callV (Y2 := YX10_a) (As := []) (rest := []) (r := (RX10, TX10, 7)) kX10_a ha9 rfl rfl q2207 q2208 q2209 dX1_kept_107 rfl rfl (ct_X10_a g hst N q30.2 a52 _ e56) (Nat.le_of_ble_eq_true rfl) (Nat.le_of_ble_eq_true rfl) (fun v9 h9 z9 y9 => ?_)
    obtain ⟨rfl, rfl⟩ := y9
    refine aw_st (st' := [.int q55.1]) rfl ?_
    refine aw_goto (tgt := 146) dX1_kept_110 (by decide) ?_
    cases hq
    exact aw_ireturn dX1_kept_146 rfl rfl ⟨rfl, rfl⟩
  rw [if_neg c51] at hq
  by_cases c57 : x2 = 3
  · rw [if_pos c57] at hq
    refine aw_tableIn (off := 61) (tgt := 113) dX1_kept_52 (by rw [c57]; decide) (by rw [c57]; decide) (by rw [c57]; rfl) (by decide) ?_
    refine aw_aload_n (i := 3) dX1_kept_113 rfl rfl (aIsR_rf _) ?_
    replace hq := obind hq
    obtain ⟨a58, e59, hq⟩ := hq
    rw [e59]
    replace hq := cond_t hq
    obtain ⟨z60, hq⟩ := hq
    obtain ⟨fs9, ha9⟩ := clB1 z60
    replace hq := obind hq
    obtain ⟨q61, e62, hq⟩ := hq
    refine aw_callV (Y2 := YX10_b) (As := []) (rest := []) (r := (RX10, TX10, 7)) kX10_b ha9 rfl rfl q2211 q2212 q2213 dX1_kept_114 rfl rfl (ct_X10_b g hst N q30.2 a58 _ e62) (Nat.le_of_ble_eq_true rfl) (Nat.le_of_ble_eq_true rfl) (fun v9 h9 z9 y9 => ?_)
    obtain ⟨rfl, rfl⟩ := y9
    refine aw_st (st' := [.int q61.1]) rfl ?_
    refine aw_goto (tgt := 146) dX1_kept_117 (by decide) ?_
    cases hq
    exact aw_ireturn dX1_kept_146 rfl rfl ⟨rfl, rfl⟩
  rw [if_neg c57] at hq
  by_cases c63 : x2 = 4
  · rw [if_pos c63] at hq
    refine aw_tableIn (off := 68) (tgt := 120) dX1_kept_52 (by rw [c63]; decide) (by rw [c63]; decide) (by rw [c63]; rfl) (by decide) ?_
    refine aw_aload_n (i := 3) dX1_kept_120 rfl rfl (aIsR_rf _) ?_
    replace hq := obind hq
    obtain ⟨a64, e65, hq⟩ := hq
    rw [e65]
    replace hq := cond_t hq
    obtain ⟨z66, hq⟩ := hq
    obtain ⟨fs9, ha9⟩ := clB1 z66
    replace hq := obind hq
    obtain ⟨q67, e68, hq⟩ := hq
    refine aw_callV (Y2 := YX10_c) (As := []) (rest := []) (r := (RX10, TX10, 7)) kX10_c ha9 rfl rfl q2215 q2216 q2217 dX1_kept_121 rfl rfl (ct_X10_c g hst N q30.2 a64 _ e68) (Nat.le_of_ble_eq_true rfl) (Nat.le_of_ble_eq_true rfl) (fun v9 h9 z9 y9 => ?_)
    obtain ⟨rfl, rfl⟩ := y9
    refine aw_st (st' := [.int q67.1]) rfl ?_
    refine aw_goto (tgt := 146) dX1_kept_124 (by decide) ?_
    cases hq
    exact aw_ireturn dX1_kept_146 rfl rfl ⟨rfl, rfl⟩
  rw [if_neg c63] at hq
  by_cases c69 : x2 = 5
  · rw [if_pos c69] at hq
    refine aw_tableIn (off := 75) (tgt := 127) dX1_kept_52 (by rw [c69]; decide) (by rw [c69]; decide) (by rw [c69]; rfl) (by decide) ?_
    refine aw_aload_n (i := 3) dX1_kept_127 rfl rfl (aIsR_rf _) ?_
    replace hq := obind hq
    obtain ⟨a70, e71, hq⟩ := hq
    rw [e71]
    replace hq := cond_t hq
    obtain ⟨z72, hq⟩ := hq
    obtain ⟨fs9, ha9⟩ := clB1 z72
    replace hq := obind hq
    obtain ⟨q73, e74, hq⟩ := hq
    refine aw_callV (Y2 := YX10_threw) (As := []) (rest := []) (r := (RX10, TX10, 7)) kX10_threw ha9 rfl rfl q2219 q2220 q2221 dX1_kept_128 rfl rfl (ct_X10_threw g hst N q30.2 a70 _ e74) (Nat.le_of_ble_eq_true rfl) (Nat.le_of_ble_eq_true rfl) (fun v9 h9 z9 y9 => ?_)
    obtain ⟨rfl, rfl⟩ := y9
    refine aw_st (st' := [.int q73.1]) rfl ?_
    refine aw_if_eq (tgt := 138) dX1_kept_131 (by decide) (fun c75 => ?_) (fun c75 => ?_)
    · rw [if_pos c75] at hq
      refine aw_iconst (v := 0) dX1_kept_138 (by decide) ?_
      refine aw_goto (tgt := 146) dX1_kept_139 (by decide) ?_
      cases hq
      exact aw_ireturn dX1_kept_146 rfl rfl ⟨rfl, rfl⟩
    · rw [if_neg c75] at hq
      refine aw_iconst (v := 1) dX1_kept_134 (by decide) ?_
      refine aw_goto (tgt := 146) dX1_kept_135 (by decide) ?_
      cases hq
      exact aw_ireturn dX1_kept_146 rfl rfl ⟨rfl, rfl⟩
  rw [if_neg c69] at hq
  cases hq
def x_X1_kept_30 (g : AG) (N : Nat) (h : AH) (x0 : Nat) (x1 : Int32) (x2 : Int32) : Option ((String ⊕ Int32) × AH) :=
  x_X1_kept_31 g N  h x0 x1 x2 (0 : Int32)
theorem p_x_X1_kept_30 (g : AG) (hst : (gL g).stackTraces = false) (N : Nat) : ∀ (h : AH) (x0 : Nat) (x1 : Int32) (x2 : Int32) (q : ((String ⊕ Int32) × AH)), x_X1_kept_30 g N h x0 x1 x2 = some q → AW g YX1_kept 11 (tI q) h [some (.ref x0), some (.int x1), some (.int x2), none] 30 [] := by
  intro h x0 x1 x2 q hq
  unfold x_X1_kept_30 at hq
  refine aw_iconst (v := 0) dX1_kept_30 (by decide) ?_
  exact p_x_X1_kept_31 g hst N   h x0 x1 x2 (0 : Int32) _ hq
def x_X1_kept (g : AG) (N : Nat) (h : AH) (x0 : Nat) (x1 : Int32) (x2 : Int32) : Option ((String ⊕ Int32) × AH) :=
  (rdR h x0 [(0, 3)]).bind fun o1 => (o1).bind fun a3 => (rdR h a3 [(2, 4)]).bind fun o5 => (o5).bind fun a7 => bif clB h a7 [13] then ((x_J4_size g N h a7).bind fun q10 => (x_X1_lies g N q10.2 x1 q10.1).bind fun q12 => tcase q12.1 (fun E14 => some (.inl E14, q12.2)) (fun v15 => if x2 < 0 then (x_X1_kept_30 g N  q12.2 x0 x1 x2) else (if (6 : Int32) < x2 then (x_X1_kept_30 g N  q12.2 x0 x1 x2) else (x_X1_kept_31 g N  q12.2 x0 x1 x2 (1 : Int32))))) else none
theorem ct_X1_kept (g : AG) (hst : (gL g).stackTraces = false) (N : Nat) : ∀ (h : AH) (x0 : Nat) (x1 : Int32) (x2 : Int32) (q : ((String ⊕ Int32) × AH)), x_X1_kept g N h x0 x1 x2 = some q → CT g YX1_kept 11 [.ref x0, .int x1, .int x2] h (tI q) := by
  intro h x0 x1 x2 q hq
  refine CT.of rfl (by decide +kernel) (loc := [some (.ref x0), some (.int x1), some (.int x2), none]) (by first | exact Nat.le_of_ble_eq_true rfl | (simp only [lgl_rf, lgl_i, lgl_j, lgl_ref, lgl_nil]; exact Nat.le_of_ble_eq_true rfl)) (by first | rfl | (simp only [aent_rf, aent_i, aent_j, aent_ref, aent_nil]; rfl)) ?_
  unfold x_X1_kept at hq
  refine aw_iload_n (i := 1) dX1_kept_0 rfl rfl ?_
  refine aw_aload_n (i := 0) dX1_kept_1 rfl rfl trivial ?_
  replace hq := obind hq
  obtain ⟨o1, e2, hq⟩ := hq
  refine xw_getR e2 fX1_25 dX1_kept_2 ?_
  replace hq := obind hq
  obtain ⟨a3, e4, hq⟩ := hq
  subst e4
  replace hq := obind hq
  obtain ⟨o5, e6, hq⟩ := hq
  refine xw_getR e6 fX1_207 dX1_kept_5 ?_
  replace hq := obind hq
  obtain ⟨a7, e8, hq⟩ := hq
  subst e8
  replace hq := cond_t hq
  obtain ⟨z9, hq⟩ := hq
  obtain ⟨fs9, ha9⟩ := clB1 z9
  replace hq := obind hq
  obtain ⟨q10, e11, hq⟩ := hq
  refine aw_callF (Y2 := YJ4_size) (As := []) (rest := [.int x1]) (r := (RJ4, TJ4, 3)) (x := ⟨"java/util/List", "size", "()I"⟩) kJ4_size ha9 rfl (by decide) (by decide) ⟨by decide +kernel, by decide +kernel, by decide +kernel⟩ q378 q384 q382 dX1_kept_8 rfl rfl (ct_J4_size g hst N h a7 _ e11) (Nat.le_of_ble_eq_true rfl) (Nat.le_of_ble_eq_true rfl) (fun v9 h9 z9 y9 => ?_)
  obtain ⟨rfl, rfl⟩ := y9
  refine aw_st (st' := [.int q10.1, .int x1]) rfl ?_
  replace hq := obind hq
  obtain ⟨q12, e13, hq⟩ := hq
  refine aw_callSX (Y2 := YX1_lies) (As := [.int x1, .int q10.1]) (rest := []) kX1_lies q1982 q1983 dX1_kept_13 rfl rfl (ct_X1_lies g hst N q10.2 x1 q10.1 _ e13) (Nat.le_of_ble_eq_true rfl) (Nat.le_of_ble_eq_true rfl) (fun v9 h9 z9 y9 => ?_) (fun E14 h9 z9 y9 => ?_)
  rotate_left
  · obtain ⟨e9, rfl⟩ := tV_exc y9
    replace hq := tcase_l e9 hq
    cases hq
    exact ax_out (by decide) ⟨rfl, rfl⟩
  obtain ⟨v15, e9, rfl, rfl⟩ := tV_ret y9
  replace hq := tcase_r e9 hq
  refine aw_st (st' := []) rfl ?_
  refine aw_iload_n (i := 2) dX1_kept_16 rfl rfl ?_
  refine aw_if_lt (tgt := 30) dX1_kept_17 (by decide) (fun c16 => ?_) (fun c16 => ?_)
  · rw [if_pos c16] at hq
    exact p_x_X1_kept_30 g hst N   q12.2 x0 x1 x2 _ hq
  · rw [if_neg c16] at hq
    refine aw_iload_n (i := 2) dX1_kept_20 rfl rfl ?_
    refine aw_bipush (v := 6) dX1_kept_21 (by decide) ?_
    refine aw_icmp_gt (tgt := 30) dX1_kept_23 (by decide) (fun c76 => ?_) (fun c76 => ?_)
    · rw [if_pos c76] at hq
      exact p_x_X1_kept_30 g hst N   q12.2 x0 x1 x2 _ hq
    · rw [if_neg c76] at hq
      refine aw_iconst (v := 1) dX1_kept_26 (by decide) ?_
      refine aw_goto (tgt := 31) dX1_kept_27 (by decide) ?_
      exact p_x_X1_kept_31 g hst N   q12.2 x0 x1 x2 (1 : Int32) _ hq
abbrev YX0_kept : YC := (yX0_kept, cX0_kept, 5, (some .int), [(0, 10, 13, 19), (0, 10, 17, 13)])
theorem kX0_kept : aMkW YX0_kept 4 := ⟨rfl, q2193, q115, ⟨by decide +kernel, by decide +kernel, by decide +kernel⟩, Nat.le_of_ble_eq_true rfl⟩
def x_X0_kept (g : AG) (N : Nat) (h : AH) (r0 : Option Nat) (x1 : Int32) (x2 : Int32) (r3 : Option Nat) : Option (Int32 × AH) :=
  (r0).bind fun a1 => bif clB h a1 [0] then ((x_X1_kept g N h a1 x1 x2).bind fun q4 => tcase q4.1 (fun E6 => if E6 = "java/lang/IndexOutOfBoundsException" then (some ((1 : Int32), q4.2)) else (if E6 = "java/lang/IllegalArgumentException" then (some ((2 : Int32), q4.2)) else (none))) (fun v7 => (r3).bind fun a10 => (wrA g q4.2 a10 1 (0 : Int32) (.long v7.toInt64)).bind fun h12 => some ((0 : Int32), h12))) else none
theorem ct_X0_kept (g : AG) (hst : (gL g).stackTraces = false) (N : Nat) : ∀ (h : AH) (r0 : Option Nat) (x1 : Int32) (x2 : Int32) (r3 : Option Nat) (q : (Int32 × AH)), x_X0_kept g N h r0 x1 x2 r3 = some q → CT g YX0_kept 12 [va_rf r0, .int x1, .int x2, va_rf r3] h (xI q) := by
  intro h r0 x1 x2 r3 q hq
  refine CT.ofW rfl (by decide +kernel) (loc := [some (va_rf r0), some (.int x1), some (.int x2), some (va_rf r3), none]) (by first | exact Nat.le_of_ble_eq_true rfl | (simp only [lgl_rf, lgl_i, lgl_j, lgl_ref, lgl_nil]; exact Nat.le_of_ble_eq_true rfl)) (by first | rfl | (simp only [aent_rf, aent_i, aent_j, aent_ref, aent_nil]; rfl)) ?_
  unfold x_X0_kept at hq
  refine aw_aload_n (i := 3) dX0_kept_0 rfl rfl (aIsR_rf _) ?_
  refine aw_iconst (v := 0) dX0_kept_1 (by decide) ?_
  refine aw_aload_n (i := 0) dX0_kept_2 rfl rfl (aIsR_rf _) ?_
  refine aw_iload_n (i := 1) dX0_kept_3 rfl rfl ?_
  refine aw_iload_n (i := 2) dX0_kept_4 rfl rfl ?_
  replace hq := obind hq
  obtain ⟨a1, e2, hq⟩ := hq
  subst e2
  replace hq := cond_t hq
  obtain ⟨z3, hq⟩ := hq
  obtain ⟨fs9, ha9⟩ := clB1 z3
  replace hq := obind hq
  obtain ⟨q4, e5, hq⟩ := hq
  refine aw_callVX (Y2 := YX1_kept) (As := [.int x1, .int x2]) (rest := [.int (0 : Int32), va_rf r3]) (r := (RX1, TX1, 5)) kX1_kept ha9 rfl rfl q2194 q2195 q2196 dX0_kept_5 rfl rfl (ct_X1_kept g hst N h a1 x1 x2 _ e5) (Nat.le_of_ble_eq_true rfl) (by simp only [List.map_cons, List.map_nil, List.sum_cons, List.sum_nil, cat_rf]; exact Nat.le_of_ble_eq_true rfl) (fun v9 h9 z9 y9 => ?_) (fun E6 h9 z9 y9 => ?_)
  rotate_left
  · obtain ⟨e9, rfl⟩ := tI_exc y9
    replace hq := tcase_l e9 hq
    by_cases c8 : E6 = "java/lang/IndexOutOfBoundsException"
    · rw [if_pos c8] at hq
      subst c8
      refine xw_catch (x := ⟨0, 10, 13, 19⟩) (i := 4) (loc' := [some (.ref a1), some (.int x1), some (.int x2), some (va_rf r3), none]) (pc9 := 15) dX0_kept_13 rfl (pre := []) (suf := [⟨0, 10, 17, 13⟩]) rfl (fun z hz => by cases hz) (by decide) (by decide) q1959 q1987 (Nat.le_of_ble_eq_true rfl) rfl (Or.inl dX0_kept_13) (fun _ => by first | rfl | (unfold akill; first | rfl | (split <;> first | rfl | (rename_i zz; simp at zz)))) (Nat.le_of_ble_eq_true rfl) ?_
      refine aw_iconst (v := 1) dX0_kept_15 (by decide) ?_
      cases hq
      exact aw_ireturn dX0_kept_16 rfl rfl ⟨rfl, rfl⟩
    rw [if_neg c8] at hq
    by_cases c9 : E6 = "java/lang/IllegalArgumentException"
    · rw [if_pos c9] at hq
      subst c9
      refine xw_catch (x := ⟨0, 10, 17, 13⟩) (i := 4) (loc' := [some (.ref a1), some (.int x1), some (.int x2), some (va_rf r3), none]) (pc9 := 19) dX0_kept_17 rfl (pre := [⟨0, 10, 13, 19⟩]) (suf := []) rfl (fun z hz => by
        cases List.mem_singleton.mp hz
        exact Or.inr ⟨by decide, "java/lang/IndexOutOfBoundsException", q1959, by decide⟩) (by decide) (by decide) q1945 q646 (Nat.le_of_ble_eq_true rfl) rfl (Or.inl dX0_kept_17) (fun _ => by first | rfl | (unfold akill; first | rfl | (split <;> first | rfl | (rename_i zz; simp at zz)))) (Nat.le_of_ble_eq_true rfl) ?_
      refine aw_iconst (v := 2) dX0_kept_19 (by decide) ?_
      cases hq
      exact aw_ireturn dX0_kept_20 rfl rfl ⟨rfl, rfl⟩
    rw [if_neg c9] at hq
    cases hq
  obtain ⟨v7, e9, rfl, rfl⟩ := tI_ret y9
  replace hq := tcase_r e9 hq
  refine aw_st (st' := [.int v7, .int (0 : Int32), va_rf r3]) rfl ?_
  refine aw_i2l dX0_kept_8 ?_
  replace hq := obind hq
  obtain ⟨a10, e11, hq⟩ := hq
  subst e11
  replace hq := obind hq
  obtain ⟨h12, e13, hq⟩ := hq
  refine xw_last e13 dX0_kept_9 ?_
  refine aw_goto (tgt := 21) dX0_kept_10 (by decide) ?_
  refine aw_iconst (v := 0) dX0_kept_21 (by decide) ?_
  cases hq
  exact aw_ireturn dX0_kept_22 rfl rfl ⟨rfl, rfl⟩
abbrev YX11_job : YC := (yX11_job, cX11_job, 1, (some .int), [])
theorem kX11_job : aMk YX11_job 0 := ⟨rfl, q2158, q164, ⟨by decide +kernel, by decide +kernel, by decide +kernel⟩, Nat.le_of_ble_eq_true rfl⟩
def x_X11_job (g : AG) (N : Nat) (h : AH) (x0 : Nat) : Option (Int32 × AH) :=
  (rdI h x0 [(9, 0)]).bind fun i1 => some (i1, h)
theorem ct_X11_job (g : AG) (hst : (gL g).stackTraces = false) (N : Nat) : ∀ (h : AH) (x0 : Nat) (q : (Int32 × AH)), x_X11_job g N h x0 = some q → CT g YX11_job 1 [.ref x0] h (xI q) := by
  intro h x0 q hq
  refine CT.of rfl (by decide +kernel) (loc := [some (.ref x0)]) (by first | exact Nat.le_of_ble_eq_true rfl | (simp only [lgl_rf, lgl_i, lgl_j, lgl_ref, lgl_nil]; exact Nat.le_of_ble_eq_true rfl)) (by first | rfl | (simp only [aent_rf, aent_i, aent_j, aent_ref, aent_nil]; rfl)) ?_
  unfold x_X11_job at hq
  refine aw_aload_n (i := 0) dX11_job_0 rfl rfl trivial ?_
  replace hq := obind hq
  obtain ⟨i1, e2, hq⟩ := hq
  refine xw_getI e2 fX11_7 dX11_job_1 ?_
  cases hq
  exact aw_ireturn dX11_job_4 rfl rfl ⟨rfl, rfl⟩
abbrev YX11_method : YC := (yX11_method, cX11_method, 1, (some .int), [])
theorem kX11_method : aMk YX11_method 0 := ⟨rfl, q2162, q164, ⟨by decide +kernel, by decide +kernel, by decide +kernel⟩, Nat.le_of_ble_eq_true rfl⟩
def x_X11_method (g : AG) (N : Nat) (h : AH) (x0 : Nat) : Option (Int32 × AH) :=
  (rdI h x0 [(9, 1)]).bind fun i1 => some (i1, h)
theorem ct_X11_method (g : AG) (hst : (gL g).stackTraces = false) (N : Nat) : ∀ (h : AH) (x0 : Nat) (q : (Int32 × AH)), x_X11_method g N h x0 = some q → CT g YX11_method 1 [.ref x0] h (xI q) := by
  intro h x0 q hq
  refine CT.of rfl (by decide +kernel) (loc := [some (.ref x0)]) (by first | exact Nat.le_of_ble_eq_true rfl | (simp only [lgl_rf, lgl_i, lgl_j, lgl_ref, lgl_nil]; exact Nat.le_of_ble_eq_true rfl)) (by first | rfl | (simp only [aent_rf, aent_i, aent_j, aent_ref, aent_nil]; rfl)) ?_
  unfold x_X11_method at hq
  refine aw_aload_n (i := 0) dX11_method_0 rfl rfl trivial ?_
  replace hq := obind hq
  obtain ⟨i1, e2, hq⟩ := hq
  refine xw_getI e2 fX11_13 dX11_method_1 ?_
  cases hq
  exact aw_ireturn dX11_method_4 rfl rfl ⟨rfl, rfl⟩
abbrev YX11_value : YC := (yX11_value, cX11_value, 1, (some .int), [])
theorem kX11_value : aMk YX11_value 0 := ⟨rfl, q2166, q164, ⟨by decide +kernel, by decide +kernel, by decide +kernel⟩, Nat.le_of_ble_eq_true rfl⟩
def x_X11_value (g : AG) (N : Nat) (h : AH) (x0 : Nat) : Option (Int32 × AH) :=
  (rdI h x0 [(9, 2)]).bind fun i1 => some (i1, h)
theorem ct_X11_value (g : AG) (hst : (gL g).stackTraces = false) (N : Nat) : ∀ (h : AH) (x0 : Nat) (q : (Int32 × AH)), x_X11_value g N h x0 = some q → CT g YX11_value 1 [.ref x0] h (xI q) := by
  intro h x0 q hq
  refine CT.of rfl (by decide +kernel) (loc := [some (.ref x0)]) (by first | exact Nat.le_of_ble_eq_true rfl | (simp only [lgl_rf, lgl_i, lgl_j, lgl_ref, lgl_nil]; exact Nat.le_of_ble_eq_true rfl)) (by first | rfl | (simp only [aent_rf, aent_i, aent_j, aent_ref, aent_nil]; rfl)) ?_
  unfold x_X11_value at hq
  refine aw_aload_n (i := 0) dX11_value_0 rfl rfl trivial ?_
  replace hq := obind hq
  obtain ⟨i1, e2, hq⟩ := hq
  refine xw_getI e2 fX11_16 dX11_value_1 ?_
  cases hq
  exact aw_ireturn dX11_value_4 rfl rfl ⟨rfl, rfl⟩
abbrev YX11_error : YC := (yX11_error, cX11_error, 1, (some .boolean), [])
theorem kX11_error : aMk YX11_error 0 := ⟨rfl, q2170, q164, ⟨by decide +kernel, by decide +kernel, by decide +kernel⟩, Nat.le_of_ble_eq_true rfl⟩
def x_X11_error (g : AG) (N : Nat) (h : AH) (x0 : Nat) : Option (Int32 × AH) :=
  (rdI h x0 [(9, 3)]).bind fun i1 => bif isb i1 then (some (i1, h)) else none
theorem ct_X11_error (g : AG) (hst : (gL g).stackTraces = false) (N : Nat) : ∀ (h : AH) (x0 : Nat) (q : (Int32 × AH)), x_X11_error g N h x0 = some q → CT g YX11_error 1 [.ref x0] h (xI q) := by
  intro h x0 q hq
  refine CT.of rfl (by decide +kernel) (loc := [some (.ref x0)]) (by first | exact Nat.le_of_ble_eq_true rfl | (simp only [lgl_rf, lgl_i, lgl_j, lgl_ref, lgl_nil]; exact Nat.le_of_ble_eq_true rfl)) (by first | rfl | (simp only [aent_rf, aent_i, aent_j, aent_ref, aent_nil]; rfl)) ?_
  unfold x_X11_error at hq
  refine aw_aload_n (i := 0) dX11_error_0 rfl rfl trivial ?_
  replace hq := obind hq
  obtain ⟨i1, e2, hq⟩ := hq
  refine xw_getI e2 fX11_19 dX11_error_1 ?_
  replace hq := cond_t hq
  obtain ⟨z3, hq⟩ := hq
  cases hq
  exact aw_ireturn dX11_error_4 rfl (isb_ok z3).1 ⟨rfl, rfl⟩
abbrev YX11_depth : YC := (yX11_depth, cX11_depth, 1, (some .int), [])
theorem kX11_depth : aMk YX11_depth 0 := ⟨rfl, q2174, q164, ⟨by decide +kernel, by decide +kernel, by decide +kernel⟩, Nat.le_of_ble_eq_true rfl⟩
def x_X11_depth (g : AG) (N : Nat) (h : AH) (x0 : Nat) : Option (Int32 × AH) :=
  (rdI h x0 [(9, 4)]).bind fun i1 => some (i1, h)
theorem ct_X11_depth (g : AG) (hst : (gL g).stackTraces = false) (N : Nat) : ∀ (h : AH) (x0 : Nat) (q : (Int32 × AH)), x_X11_depth g N h x0 = some q → CT g YX11_depth 1 [.ref x0] h (xI q) := by
  intro h x0 q hq
  refine CT.of rfl (by decide +kernel) (loc := [some (.ref x0)]) (by first | exact Nat.le_of_ble_eq_true rfl | (simp only [lgl_rf, lgl_i, lgl_j, lgl_ref, lgl_nil]; exact Nat.le_of_ble_eq_true rfl)) (by first | rfl | (simp only [aent_rf, aent_i, aent_j, aent_ref, aent_nil]; rfl)) ?_
  unfold x_X11_depth at hq
  refine aw_aload_n (i := 0) dX11_depth_0 rfl rfl trivial ?_
  replace hq := obind hq
  obtain ⟨i1, e2, hq⟩ := hq
  refine xw_getI e2 fX11_23 dX11_depth_1 ?_
  cases hq
  exact aw_ireturn dX11_depth_4 rfl rfl ⟨rfl, rfl⟩
