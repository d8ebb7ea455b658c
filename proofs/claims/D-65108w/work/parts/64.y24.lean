/-! THE COMPONENT AND THE JDK as functions of the heap, and their contracts: printed by wip gen/dec2.py -/
set_option maxRecDepth 100000
theorem fX10_7 : ∀ q ∈ ([(8, 0)] : List (Nat × Nat)), aFl RX10 7 q.1 q.2 := by
  intro q hq
  simp only [List.mem_cons, List.not_mem_nil, or_false] at hq
  subst hq
  exact aFl.of (RX10, TX10, 7) rfl (Nat.le_of_ble_eq_true rfl) q2063
theorem okX10 : aCK (RX10, TX10, 7) tyX10 := ⟨in_X10, tyX10_ok, nmX10⟩
theorem tX10_0f : ∀ q ∈ ([(8, 0)] : List (Nat × Nat)), aFt q.1 q.2 true .int := by
  intro q hq
  simp only [List.mem_cons, List.not_mem_nil, or_false] at hq
  subst hq
  exact ⟨(RX10, TX10, 7), tyX10, Nat.le_of_ble_eq_true rfl, rfl, Nat.le_of_ble_eq_true rfl, okX10, rfl, rfl⟩
theorem gX10_7 : ∀ q ∈ ([(8, 0)] : List (Nat × Nat)), ∃ r0 : vw_C, aCl[q.1]? = some r0 ∧ (r0.2.1 q.2).1 = RX10 ∧ Cond.fieldLink RX10 7 (r0.2.1 q.2).1 (r0.2.1 q.2).2.1 (r0.2.1 q.2).2.2.1 ∈ lw_all := by
  intro q hq
  simp only [List.mem_cons, List.not_mem_nil, or_false] at hq
  subst hq
  exact ⟨(RX10, TX10, 7), rfl, rfl, q2063⟩
theorem fX10_13 : ∀ q ∈ ([(8, 1)] : List (Nat × Nat)), aFl RX10 13 q.1 q.2 := by
  intro q hq
  simp only [List.mem_cons, List.not_mem_nil, or_false] at hq
  subst hq
  exact aFl.of (RX10, TX10, 7) rfl (Nat.le_of_ble_eq_true rfl) q2064
theorem tX10_1f : ∀ q ∈ ([(8, 1)] : List (Nat × Nat)), aFt q.1 q.2 true .int := by
  intro q hq
  simp only [List.mem_cons, List.not_mem_nil, or_false] at hq
  subst hq
  exact ⟨(RX10, TX10, 7), tyX10, Nat.le_of_ble_eq_true rfl, rfl, Nat.le_of_ble_eq_true rfl, okX10, rfl, rfl⟩
theorem gX10_13 : ∀ q ∈ ([(8, 1)] : List (Nat × Nat)), ∃ r0 : vw_C, aCl[q.1]? = some r0 ∧ (r0.2.1 q.2).1 = RX10 ∧ Cond.fieldLink RX10 13 (r0.2.1 q.2).1 (r0.2.1 q.2).2.1 (r0.2.1 q.2).2.2.1 ∈ lw_all := by
  intro q hq
  simp only [List.mem_cons, List.not_mem_nil, or_false] at hq
  subst hq
  exact ⟨(RX10, TX10, 7), rfl, rfl, q2064⟩
theorem fX10_16 : ∀ q ∈ ([(8, 2)] : List (Nat × Nat)), aFl RX10 16 q.1 q.2 := by
  intro q hq
  simp only [List.mem_cons, List.not_mem_nil, or_false] at hq
  subst hq
  exact aFl.of (RX10, TX10, 7) rfl (Nat.le_of_ble_eq_true rfl) q2065
theorem tX10_2f : ∀ q ∈ ([(8, 2)] : List (Nat × Nat)), aFt q.1 q.2 true .int := by
  intro q hq
  simp only [List.mem_cons, List.not_mem_nil, or_false] at hq
  subst hq
  exact ⟨(RX10, TX10, 7), tyX10, Nat.le_of_ble_eq_true rfl, rfl, Nat.le_of_ble_eq_true rfl, okX10, rfl, rfl⟩
theorem gX10_16 : ∀ q ∈ ([(8, 2)] : List (Nat × Nat)), ∃ r0 : vw_C, aCl[q.1]? = some r0 ∧ (r0.2.1 q.2).1 = RX10 ∧ Cond.fieldLink RX10 16 (r0.2.1 q.2).1 (r0.2.1 q.2).2.1 (r0.2.1 q.2).2.2.1 ∈ lw_all := by
  intro q hq
  simp only [List.mem_cons, List.not_mem_nil, or_false] at hq
  subst hq
  exact ⟨(RX10, TX10, 7), rfl, rfl, q2065⟩
theorem fX10_19 : ∀ q ∈ ([(8, 3)] : List (Nat × Nat)), aFl RX10 19 q.1 q.2 := by
  intro q hq
  simp only [List.mem_cons, List.not_mem_nil, or_false] at hq
  subst hq
  exact aFl.of (RX10, TX10, 7) rfl (Nat.le_of_ble_eq_true rfl) q2066
theorem tX10_3f : ∀ q ∈ ([(8, 3)] : List (Nat × Nat)), aFt q.1 q.2 true .int := by
  intro q hq
  simp only [List.mem_cons, List.not_mem_nil, or_false] at hq
  subst hq
  exact ⟨(RX10, TX10, 7), tyX10, Nat.le_of_ble_eq_true rfl, rfl, Nat.le_of_ble_eq_true rfl, okX10, rfl, rfl⟩
theorem gX10_19 : ∀ q ∈ ([(8, 3)] : List (Nat × Nat)), ∃ r0 : vw_C, aCl[q.1]? = some r0 ∧ (r0.2.1 q.2).1 = RX10 ∧ Cond.fieldLink RX10 19 (r0.2.1 q.2).1 (r0.2.1 q.2).2.1 (r0.2.1 q.2).2.2.1 ∈ lw_all := by
  intro q hq
  simp only [List.mem_cons, List.not_mem_nil, or_false] at hq
  subst hq
  exact ⟨(RX10, TX10, 7), rfl, rfl, q2066⟩
theorem fX10_22 : ∀ q ∈ ([(8, 4)] : List (Nat × Nat)), aFl RX10 22 q.1 q.2 := by
  intro q hq
  simp only [List.mem_cons, List.not_mem_nil, or_false] at hq
  subst hq
  exact aFl.of (RX10, TX10, 7) rfl (Nat.le_of_ble_eq_true rfl) q2067
theorem tX10_4f : ∀ q ∈ ([(8, 4)] : List (Nat × Nat)), aFt q.1 q.2 true .int := by
  intro q hq
  simp only [List.mem_cons, List.not_mem_nil, or_false] at hq
  subst hq
  exact ⟨(RX10, TX10, 7), tyX10, Nat.le_of_ble_eq_true rfl, rfl, Nat.le_of_ble_eq_true rfl, okX10, rfl, rfl⟩
theorem gX10_22 : ∀ q ∈ ([(8, 4)] : List (Nat × Nat)), ∃ r0 : vw_C, aCl[q.1]? = some r0 ∧ (r0.2.1 q.2).1 = RX10 ∧ Cond.fieldLink RX10 22 (r0.2.1 q.2).1 (r0.2.1 q.2).2.1 (r0.2.1 q.2).2.2.1 ∈ lw_all := by
  intro q hq
  simp only [List.mem_cons, List.not_mem_nil, or_false] at hq
  subst hq
  exact ⟨(RX10, TX10, 7), rfl, rfl, q2067⟩
theorem fX10_25 : ∀ q ∈ ([(8, 5)] : List (Nat × Nat)), aFl RX10 25 q.1 q.2 := by
  intro q hq
  simp only [List.mem_cons, List.not_mem_nil, or_false] at hq
  subst hq
  exact aFl.of (RX10, TX10, 7) rfl (Nat.le_of_ble_eq_true rfl) q2068
theorem tX10_5f : ∀ q ∈ ([(8, 5)] : List (Nat × Nat)), aFt q.1 q.2 true .boolean := by
  intro q hq
  simp only [List.mem_cons, List.not_mem_nil, or_false] at hq
  subst hq
  exact ⟨(RX10, TX10, 7), tyX10, Nat.le_of_ble_eq_true rfl, rfl, Nat.le_of_ble_eq_true rfl, okX10, rfl, rfl⟩
theorem gX10_25 : ∀ q ∈ ([(8, 5)] : List (Nat × Nat)), ∃ r0 : vw_C, aCl[q.1]? = some r0 ∧ (r0.2.1 q.2).1 = RX10 ∧ Cond.fieldLink RX10 25 (r0.2.1 q.2).1 (r0.2.1 q.2).2.1 (r0.2.1 q.2).2.2.1 ∈ lw_all := by
  intro q hq
  simp only [List.mem_cons, List.not_mem_nil, or_false] at hq
  subst hq
  exact ⟨(RX10, TX10, 7), rfl, rfl, q2068⟩
theorem fX10_29 : ∀ q ∈ ([(8, 6)] : List (Nat × Nat)), aFl RX10 29 q.1 q.2 := by
  intro q hq
  simp only [List.mem_cons, List.not_mem_nil, or_false] at hq
  subst hq
  exact aFl.of (RX10, TX10, 7) rfl (Nat.le_of_ble_eq_true rfl) q2069
theorem tX10_6f : ∀ q ∈ ([(8, 6)] : List (Nat × Nat)), aFt q.1 q.2 true .int := by
  intro q hq
  simp only [List.mem_cons, List.not_mem_nil, or_false] at hq
  subst hq
  exact ⟨(RX10, TX10, 7), tyX10, Nat.le_of_ble_eq_true rfl, rfl, Nat.le_of_ble_eq_true rfl, okX10, rfl, rfl⟩
theorem gX10_29 : ∀ q ∈ ([(8, 6)] : List (Nat × Nat)), ∃ r0 : vw_C, aCl[q.1]? = some r0 ∧ (r0.2.1 q.2).1 = RX10 ∧ Cond.fieldLink RX10 29 (r0.2.1 q.2).1 (r0.2.1 q.2).2.1 (r0.2.1 q.2).2.2.1 ∈ lw_all := by
  intro q hq
  simp only [List.mem_cons, List.not_mem_nil, or_false] at hq
  subst hq
  exact ⟨(RX10, TX10, 7), rfl, rfl, q2069⟩
abbrev YX10_init : YC := (yX10_init, cX10_init, 8, none, [])
theorem kX10_init : aMk YX10_init 7 := ⟨rfl, q2058, q163, ⟨by decide +kernel, by decide +kernel, by decide +kernel⟩, Nat.le_of_ble_eq_true rfl⟩
def x_X10_init (g : AG) (N : Nat) (h : AH) (x0 : Nat) (x1 : Int32) (x2 : Int32) (x3 : Int32) (x4 : Int32) (x5 : Int32) (x6 : Int32) (x7 : Int32) : Option AH :=
  (x_J33_init g N h x0).bind fun q1 => (wrV g q1 x0 [(8, 0)] (.int x1)).bind fun h3 => (wrV g h3 x0 [(8, 1)] (.int x2)).bind fun h5 => (wrV g h5 x0 [(8, 2)] (.int x3)).bind fun h7 => (wrV g h7 x0 [(8, 3)] (.int x4)).bind fun h9 => (wrV g h9 x0 [(8, 4)] (.int x5)).bind fun h11 => bif isb x6 then ((wrV g h11 x0 [(8, 5)] (.int x6)).bind fun h14 => (wrV g h14 x0 [(8, 6)] (.int x7)).bind fun h16 => some h16) else none
theorem ct_X10_init (g : AG) (hst : (gL g).stackTraces = false) (N : Nat) : ∀ (h : AH) (x0 : Nat) (x1 : Int32) (x2 : Int32) (x3 : Int32) (x4 : Int32) (x5 : Int32) (x6 : Int32) (x7 : Int32) (q : AH), x_X10_init g N h x0 x1 x2 x3 x4 x5 x6 x7 = some q → CT g YX10_init 4 [.ref x0, .int x1, .int x2, .int x3, .int x4, .int x5, .int x6, .int x7] h (xV q) := by
  intro h x0 x1 x2 x3 x4 x5 x6 x7 q hq
  refine CT.of rfl (by decide +kernel) (loc := [some (.ref x0), some (.int x1), some (.int x2), some (.int x3), some (.int x4), some (.int x5), some (.int x6), some (.int x7)]) (by first | exact Nat.le_of_ble_eq_true rfl | (simp only [lgl_rf, lgl_i, lgl_j, lgl_ref, lgl_nil]; exact Nat.le_of_ble_eq_true rfl)) (by first | rfl | (simp only [aent_rf, aent_i, aent_j, aent_ref, aent_nil]; rfl)) ?_
  unfold x_X10_init at hq
  refine aw_aload_n (i := 0) dX10_init_0 rfl rfl trivial ?_
  replace hq := obind hq
  obtain ⟨q1, e2, hq⟩ := hq
  refine aw_callI (Y2 := YJ33_init) (As := []) (rest := []) (b := x0) kJ33_init rfl rfl q2059 q2060 dX10_init_1 rfl rfl (ct_J33_init g hst N h x0 _ e2) (Nat.le_of_ble_eq_true rfl) (Nat.le_of_ble_eq_true rfl) (fun v9 h9 z9 y9 => ?_)
  obtain ⟨rfl, y9⟩ := y9
  rw [y9]
  refine aw_st (st' := []) rfl ?_
  refine aw_aload_n (i := 0) dX10_init_4 rfl rfl trivial ?_
  refine aw_iload_n (i := 1) dX10_init_5 rfl rfl ?_
  replace hq := obind hq
  obtain ⟨h3, e4, hq⟩ := hq
  refine xw_putF e4 fX10_7 tX10_0f rfl gX10_7 ⟨rfl, rfl⟩ dX10_init_6 ?_
  refine aw_aload_n (i := 0) dX10_init_9 rfl rfl trivial ?_
  refine aw_iload_n (i := 2) dX10_init_10 rfl rfl ?_
  replace hq := obind hq
  obtain ⟨h5, e6, hq⟩ := hq
  refine xw_putF e6 fX10_13 tX10_1f rfl gX10_13 ⟨rfl, rfl⟩ dX10_init_11 ?_
  refine aw_aload_n (i := 0) dX10_init_14 rfl rfl trivial ?_
  refine aw_iload_n (i := 3) dX10_init_15 rfl rfl ?_
  replace hq := obind hq
  obtain ⟨h7, e8, hq⟩ := hq
  refine xw_putF e8 fX10_16 tX10_2f rfl gX10_16 ⟨rfl, rfl⟩ dX10_init_16 ?_
  refine aw_aload_n (i := 0) dX10_init_19 rfl rfl trivial ?_
  refine aw_iload dX10_init_20 rfl ?_
  replace hq := obind hq
  obtain ⟨h9, e10, hq⟩ := hq
  refine xw_putF e10 fX10_19 tX10_3f rfl gX10_19 ⟨rfl, rfl⟩ dX10_init_22 ?_
  refine aw_aload_n (i := 0) dX10_init_25 rfl rfl trivial ?_
  refine aw_iload dX10_init_26 rfl ?_
  replace hq := obind hq
  obtain ⟨h11, e12, hq⟩ := hq
  refine xw_putF e12 fX10_22 tX10_4f rfl gX10_22 ⟨rfl, rfl⟩ dX10_init_28 ?_
  refine aw_aload_n (i := 0) dX10_init_31 rfl rfl trivial ?_
  refine aw_iload dX10_init_32 rfl ?_
  replace hq := cond_t hq
  obtain ⟨z13, hq⟩ := hq
  replace hq := obind hq
  obtain ⟨h14, e15, hq⟩ := hq
  refine xw_putF e15 fX10_25 tX10_5f rfl gX10_25 (isb_ok z13) dX10_init_34 ?_
  refine aw_aload_n (i := 0) dX10_init_37 rfl rfl trivial ?_
  refine aw_iload dX10_init_38 rfl ?_
  replace hq := obind hq
  obtain ⟨h16, e17, hq⟩ := hq
  refine xw_putF e17 fX10_29 tX10_6f rfl gX10_29 ⟨rfl, rfl⟩ dX10_init_40 ?_
  cases hq
  exact aw_vret dX10_init_43 rfl ⟨rfl, rfl⟩
theorem fX3_174 : ∀ q ∈ ([(7, 0)] : List (Nat × Nat)), aFl RX3 174 q.1 q.2 := by
  intro q hq
  simp only [List.mem_cons, List.not_mem_nil, or_false] at hq
  subst hq
  exact aFl.ofN (RX9, TX9, 8) rfl (Nat.le_of_ble_eq_true rfl) q1855
theorem fX3_35 : ∀ q ∈ ([(2, 4)] : List (Nat × Nat)), aFl RX3 35 q.1 q.2 := by
  intro q hq
  simp only [List.mem_cons, List.not_mem_nil, or_false] at hq
  subst hq
  exact aFl.of (RX3, TX3, 10) rfl (Nat.le_of_ble_eq_true rfl) q323
theorem dfX10 : ∀ j, j < 7 → defaultValue (tyX10 j) = vp_V [.int 0, .int 0, .int 0, .int 0, .int 0, .int 0, .int 0] j := by decide +kernel
theorem fX3_162 : ∀ q ∈ ([(6, 0)] : List (Nat × Nat)), aFl RX3 162 q.1 q.2 := by
  intro q hq
  simp only [List.mem_cons, List.not_mem_nil, or_false] at hq
  subst hq
  exact aFl.ofN (RX8, TX8, 4) rfl (Nat.le_of_ble_eq_true rfl) q1080
theorem fX3_132 : ∀ q ∈ ([(3, 0)] : List (Nat × Nat)), aFl RX3 132 q.1 q.2 := by
  intro q hq
  simp only [List.mem_cons, List.not_mem_nil, or_false] at hq
  subst hq
  exact aFl.ofN (RX4, TX4, 1) rfl (Nat.le_of_ble_eq_true rfl) q310
theorem fX3_176 : ∀ q ∈ ([(7, 7)] : List (Nat × Nat)), aFl RX3 176 q.1 q.2 := by
  intro q hq
  simp only [List.mem_cons, List.not_mem_nil, or_false] at hq
  subst hq
  exact aFl.ofN (RX9, TX9, 8) rfl (Nat.le_of_ble_eq_true rfl) q1871
abbrev YX3_see : YC := (yX3_see, cX3_see, 7, none, [])
theorem kX3_see : aMk YX3_see 6 := ⟨rfl, q2051, q118, ⟨by decide +kernel, by decide +kernel, by decide +kernel⟩, Nat.le_of_ble_eq_true rfl⟩
def x_X3_see_93 (g : AG) (N : Nat) (h : AH) (x0 : Nat) (x1 : Int32) (r2 : Option Nat) (r3 : Option Nat) (r4 : Option Nat) (x5 : Int32) (x6 : Int32) (t0 : Option Nat) (t1 : Option Nat) (t2 : Option Nat) (s3 : Int32) (s4 : Int32) (s5 : Int32) (s6 : Int32) (s7 : Int32) (s8 : Int32) : Option AH :=
  (t2).bind fun a44 => (x_X10_init g N h a44 s3 s4 s5 s6 s7 s8 x6).bind fun q46 => (t0).bind fun a48 => bif clB q46 a48 [13] then ((x_J4_add g N q46 a48 t1).bind fun q51 => some q51.2) else none
theorem p_x_X3_see_93 (g : AG) (hst : (gL g).stackTraces = false) (N : Nat) : ∀ (h : AH) (x0 : Nat) (x1 : Int32) (r2 : Option Nat) (r3 : Option Nat) (r4 : Option Nat) (x5 : Int32) (x6 : Int32) (t0 : Option Nat) (t1 : Option Nat) (t2 : Option Nat) (s3 : Int32) (s4 : Int32) (s5 : Int32) (s6 : Int32) (s7 : Int32) (s8 : Int32) (q : AH), x_X3_see_93 g N h x0 x1 r2 r3 r4 x5 x6 t0 t1 t2 s3 s4 s5 s6 s7 s8 = some q → AW g YX3_see 9 (xV q) h [some (.ref x0), some (.int x1), some (va_rf r2), some (va_rf r3), some (va_rf r4), some (.int x5), some (.int x6)] 93 [.int s8, .int s7, .int s6, .int s5, .int s4, .int s3, va_rf t2, va_rf t1, va_rf t0] := by
  intro h x0 x1 r2 r3 r4 x5 x6 t0 t1 t2 s3 s4 s5 s6 s7 s8 q hq
  unfold x_X3_see_93 at hq
  refine aw_iload dX3_see_93 rfl ?_
  replace hq := obind hq
  obtain ⟨a44, e45, hq⟩ := hq
  subst e45
  replace hq := obind hq
  obtain ⟨q46, e47, hq⟩ := hq
  refine aw_callIN (Y2 := YX10_init) (As := [.int s3, .int s4, .int s5, .int s6, .int s7, .int s8, .int x6]) (rest := [va_rf t1, va_rf t0]) (b := a44) kX10_init rfl rfl q2056 q2057 dX3_see_95 rfl rfl (ct_X10_init g hst N h a44 s3 s4 s5 s6 s7 s8 x6 _ e47) (Nat.le_of_ble_eq_true rfl) (by simp only [List.map_cons, List.map_nil, List.sum_cons, List.sum_nil, cat_rf]; exact Nat.le_of_ble_eq_true rfl) (fun v9 h9 z9 y9 => ?_)
  obtain ⟨rfl, y9⟩ := y9
  rw [y9]
  refine aw_st (st' := [va_rf t1, va_rf t0]) rfl ?_
  replace hq := obind hq
  obtain ⟨a48, e49, hq⟩ := hq
  subst e49
  replace hq := cond_t hq
  obtain ⟨z50, hq⟩ := hq
  obtain ⟨fs9, ha9⟩ := clB1 z50
  replace hq := obind hq
  obtain ⟨q51, e52, hq⟩ := hq
  refine aw_callF (Y2 := YJ4_add) (As := [va_rf t1]) (rest := []) (r := (RJ4, TJ4, 3)) (x := ⟨"java/util/List", "add", "(Ljava/lang/Object;)Z"⟩) kJ4_add ha9 rfl (by decide) (by decide) ⟨by decide +kernel, by decide +kernel, by decide +kernel⟩ q2086 q976 q974 dX3_see_98 rfl rfl (ct_J4_add g hst N q46 a48 t1 _ e52) (Nat.le_of_ble_eq_true rfl) (Nat.le_of_ble_eq_true rfl) (fun v9 h9 z9 y9 => ?_)
  obtain ⟨rfl, rfl⟩ := y9
  refine aw_st (st' := [.int q51.1]) rfl ?_
  refine aw_pop dX3_see_103 rfl ?_
  cases hq
  exact aw_vret dX3_see_104 rfl ⟨rfl, rfl⟩
def x_X3_see (g : AG) (N : Nat) (h : AH) (x0 : Nat) (x1 : Int32) (r2 : Option Nat) (r3 : Option Nat) (r4 : Option Nat) (x5 : Int32) (x6 : Int32) : Option AH :=
  (r2).bind fun a1 => (rdI h a1 [(7, 0)]).bind fun i3 => if i3 = (2 : Int32) then ((rdR h a1 [(7, 7)]).bind fun o53 => (r3).bind fun a55 => (rdI h a55 [(6, 0)]).bind fun i57 => (o53).bind fun a59 => ((rdA h a59 0 (((3 : Int32) * i57) + x5)).bind vI).bind fun i61 => (wrA g h a59 0 (((3 : Int32) * i57) + x5) (.int (i61 + (1 : Int32)))).bind fun h63 => some h63) else (if x5 ≤ 0 then (some h) else ((rdR h x0 [(2, 4)]).bind fun o7 => (o7).bind fun a9 => bif clB h a9 [13] then ((x_J4_size g N h a9).bind fun q12 => if (40 : Int32) ≤ q12.1 then (some q12.2) else ((rdR q12.2 x0 [(2, 4)]).bind fun o15 => (mkO g q12.2 7 8 [.int 0, .int 0, .int 0, .int 0, .int 0, .int 0, .int 0]).bind fun h17 => (r3).bind fun a19 => (rdI h17 a19 [(6, 0)]).bind fun i21 => (r4).bind fun a23 => (rdR h17 a23 [(3, 0)]).bind fun o25 => (o25).bind fun a27 => ((rdA h17 a27 0 (0 : Int32)).bind vI).bind fun i29 => (rdR h17 a23 [(3, 0)]).bind fun o31 => (o31).bind fun a33 => ((rdA h17 a33 0 (1 : Int32)).bind vI).bind fun i35 => (rdR h17 a23 [(3, 0)]).bind fun o37 => (o37).bind fun a39 => ((rdA h17 a39 0 (2 : Int32)).bind vI).bind fun i41 => if x5 = (2 : Int32) then (x_X3_see_93 g N  h17 x0 x1 (some a1) (some a19) (some a23) x5 x6 o15 (some q12.2.2.1) (some q12.2.2.1) x1 i21 i29 i35 i41 (1 : Int32)) else (x_X3_see_93 g N  h17 x0 x1 (some a1) (some a19) (some a23) x5 x6 o15 (some q12.2.2.1) (some q12.2.2.1) x1 i21 i29 i35 i41 (0 : Int32)))) else none))
theorem ct_X3_see (g : AG) (hst : (gL g).stackTraces = false) (N : Nat) : ∀ (h : AH) (x0 : Nat) (x1 : Int32) (r2 : Option Nat) (r3 : Option Nat) (r4 : Option Nat) (x5 : Int32) (x6 : Int32) (q : AH), x_X3_see g N h x0 x1 r2 r3 r4 x5 x6 = some q → CT g YX3_see 9 [.ref x0, .int x1, va_rf r2, va_rf r3, va_rf r4, .int x5, .int x6] h (xV q) := by
  intro h x0 x1 r2 r3 r4 x5 x6 q hq
  refine CT.of rfl (by decide +kernel) (loc := [some (.ref x0), some (.int x1), some (va_rf r2), some (va_rf r3), some (va_rf r4), some (.int x5), some (.int x6)]) (by first | exact Nat.le_of_ble_eq_true rfl | (simp only [lgl_rf, lgl_i, lgl_j, lgl_ref, lgl_nil]; exact Nat.le_of_ble_eq_true rfl)) (by first | rfl | (simp only [aent_rf, aent_i, aent_j, aent_ref, aent_nil]; rfl)) ?_
  unfold x_X3_see at hq
  refine aw_aload_n (i := 2) dX3_see_0 rfl rfl (aIsR_rf _) ?_
  replace hq := obind hq
  obtain ⟨a1, e2, hq⟩ := hq
  subst e2
  replace hq := obind hq
  obtain ⟨i3, e4, hq⟩ := hq
  refine xw_getI e4 fX3_174 dX3_see_1 ?_
  refine aw_iconst (v := 2) dX3_see_4 (by decide) ?_
  refine aw_icmp_ne (tgt := 29) dX3_see_5 (by decide) (fun c5 => ?_) (fun c5 => ?_)
  · rw [if_neg c5] at hq
    refine aw_iload dX3_see_29 rfl ?_
    refine aw_if_le (tgt := 104) dX3_see_31 (by decide) (fun c6 => ?_) (fun c6 => ?_)
    · rw [if_pos c6] at hq
      cases hq
      exact aw_vret dX3_see_104 rfl ⟨rfl, rfl⟩
    · rw [if_neg c6] at hq
      refine aw_aload_n (i := 0) dX3_see_34 rfl rfl trivial ?_
      replace hq := obind hq
      obtain ⟨o7, e8, hq⟩ := hq
      refine xw_getR e8 fX3_35 dX3_see_35 ?_
      replace hq := obind hq
      obtain ⟨a9, e10, hq⟩ := hq
      subst e10
      replace hq := cond_t hq
      obtain ⟨z11, hq⟩ := hq
      obtain ⟨fs9, ha9⟩ := clB1 z11
      replace hq := obind hq
      obtain ⟨q12, e13, hq⟩ := hq
      refine aw_callF (Y2 := YJ4_size) (As := []) (rest := []) (r := (RJ4, TJ4, 3)) (x := ⟨"java/util/List", "size", "()I"⟩) kJ4_size ha9 rfl (by decide) (by decide) ⟨by decide +kernel, by decide +kernel, by decide +kernel⟩ q2053 q384 q382 dX3_see_38 rfl rfl (ct_J4_size g hst N h a9 _ e13) (Nat.le_of_ble_eq_true rfl) (Nat.le_of_ble_eq_true rfl) (fun v9 h9 z9 y9 => ?_)
      obtain ⟨rfl, rfl⟩ := y9
      refine aw_st (st' := [.int q12.1]) rfl ?_
      refine aw_bipush (v := 40) dX3_see_43 (by decide) ?_
      refine aw_icmp_ge (tgt := 104) dX3_see_45 (by decide) (fun c14 => ?_) (fun c14 => ?_)
      · rw [if_pos c14] at hq
        cases hq
        exact aw_vret dX3_see_104 rfl ⟨rfl, rfl⟩
      · rw [if_neg c14] at hq
        refine aw_aload_n (i := 0) dX3_see_48 rfl rfl trivial ?_
        replace hq := obind hq
        obtain ⟨o15, e16, hq⟩ := hq
        refine xw_getR e16 fX3_35 dX3_see_49 ?_
        replace hq := obind hq
        obtain ⟨h17, e18, hq⟩ := hq
        refine xw_new (r := (RX10, TX10, 7)) e18 q2054 q2055 q163 (by decide) rfl okX10 rfl dfX10 dX3_see_52 ?_
        refine aw_dup dX3_see_55 rfl ?_
        refine aw_iload_n (i := 1) dX3_see_56 rfl rfl ?_
        refine aw_aload_n (i := 3) dX3_see_57 rfl rfl (aIsR_rf _) ?_
        replace hq := obind hq
        obtain ⟨a19, e20, hq⟩ := hq
        subst e20
        replace hq := obind hq
        obtain ⟨i21, e22, hq⟩ := hq
        refine xw_getI e22 fX3_162 dX3_see_58 ?_
        refine aw_aload dX3_see_61 rfl (aIsR_rf _) ?_
        replace hq := obind hq
        obtain ⟨a23, e24, hq⟩ := hq
        subst e24
        replace hq := obind hq
        obtain ⟨o25, e26, hq⟩ := hq
        refine xw_getR e26 fX3_132 dX3_see_63 ?_
        refine aw_iconst (v := 0) dX3_see_66 (by decide) ?_
        replace hq := obind hq
        obtain ⟨a27, e28, hq⟩ := hq
        subst e28
        replace hq := obind hq
        obtain ⟨i29, e30, hq⟩ := hq
        refine xw_iald e30 dX3_see_67 ?_
        refine aw_aload dX3_see_68 rfl trivial ?_
        replace hq := obind hq
        obtain ⟨o31, e32, hq⟩ := hq
        refine xw_getR e32 fX3_132 dX3_see_70 ?_
        refine aw_iconst (v := 1) dX3_see_73 (by decide) ?_
        replace hq := obind hq
        obtain ⟨a33, e34, hq⟩ := hq
        subst e34
        replace hq := obind hq
        obtain ⟨i35, e36, hq⟩ := hq
        refine xw_iald e36 dX3_see_74 ?_
        refine aw_aload dX3_see_75 rfl trivial ?_
        replace hq := obind hq
        obtain ⟨o37, e38, hq⟩ := hq
        refine xw_getR e38 fX3_132 dX3_see_77 ?_
        refine aw_iconst (v := 2) dX3_see_80 (by decide) ?_
        replace hq := obind hq
        obtain ⟨a39, e40, hq⟩ := hq
        subst e40
        replace hq := obind hq
        obtain ⟨i41, e42, hq⟩ := hq
        refine xw_iald e42 dX3_see_81 ?_
        refine aw_iload dX3_see_82 rfl ?_
        refine aw_iconst (v := 2) dX3_see_84 (by decide) ?_
        refine aw_icmp_ne (tgt := 92) dX3_see_85 (by decide) (fun c43 => ?_) (fun c43 => ?_)
        · rw [if_neg c43] at hq
          refine aw_iconst (v := 0) dX3_see_92 (by decide) ?_
          exact p_x_X3_see_93 g hst N   h17 x0 x1 (some a1) (some a19) (some a23) x5 x6 o15 (some q12.2.2.1) (some q12.2.2.1) x1 i21 i29 i35 i41 (0 : Int32) _ hq
        · rw [if_pos c43] at hq
          refine aw_iconst (v := 1) dX3_see_88 (by decide) ?_
          refine aw_goto (tgt := 93) dX3_see_89 (by decide) ?_
          exact p_x_X3_see_93 g hst N   h17 x0 x1 (some a1) (some a19) (some a23) x5 x6 o15 (some q12.2.2.1) (some q12.2.2.1) x1 i21 i29 i35 i41 (1 : Int32) _ hq
  · rw [if_pos c5] at hq
    refine aw_aload_n (i := 2) dX3_see_8 rfl rfl trivial ?_
    replace hq := obind hq
    obtain ⟨o53, e54, hq⟩ := hq
    refine xw_getR e54 fX3_176 dX3_see_9 ?_
    refine aw_iconst (v := 3) dX3_see_12 (by decide) ?_
    refine aw_aload_n (i := 3) dX3_see_13 rfl rfl (aIsR_rf _) ?_
    replace hq := obind hq
    obtain ⟨a55, e56, hq⟩ := hq
    subst e56
    replace hq := obind hq
    obtain ⟨i57, e58, hq⟩ := hq
    refine xw_getI e58 fX3_162 dX3_see_14 ?_
    refine aw_imul dX3_see_17 ?_
    refine aw_iload dX3_see_18 rfl ?_
    refine aw_iadd dX3_see_20 ?_
    refine aw_dup2 dX3_see_21 rfl (cat_rf _) ?_
    replace hq := obind hq
    obtain ⟨a59, e60, hq⟩ := hq
    subst e60
    replace hq := obind hq
    obtain ⟨i61, e62, hq⟩ := hq
    refine xw_iald e62 dX3_see_22 ?_
    refine aw_iconst (v := 1) dX3_see_23 (by decide) ?_
    refine aw_iadd dX3_see_24 ?_
    replace hq := obind hq
    obtain ⟨h63, e64, hq⟩ := hq
    refine xw_iast e64 dX3_see_25 ?_
    refine aw_goto (tgt := 104) dX3_see_26 (by decide) ?_
    cases hq
    exact aw_vret dX3_see_104 rfl ⟨rfl, rfl⟩
