/-! THE COMPONENT AND THE JDK as functions of the heap, and their contracts: printed by wip gen/dec2.py -/
set_option maxRecDepth 100000
theorem fX3_85 : ∀ q ∈ ([(2, 5)] : List (Nat × Nat)), aFl RX3 85 q.1 q.2 := by
  intro q hq
  simp only [List.mem_cons, List.not_mem_nil, or_false] at hq
  subst hq
  exact aFl.of (RX3, TX3, 10) rfl (Nat.le_of_ble_eq_true rfl) q325
theorem okX3 : aCK (RX3, TX3, 10) tyX3 := ⟨in_X3, tyX3_ok, nmX3⟩
theorem tX3_5 : ∀ q ∈ ([(2, 5)] : List (Nat × Nat)), aFt q.1 q.2 false .boolean := by
  intro q hq
  simp only [List.mem_cons, List.not_mem_nil, or_false] at hq
  subst hq
  exact ⟨(RX3, TX3, 10), tyX3, Nat.le_of_ble_eq_true rfl, rfl, Nat.le_of_ble_eq_true rfl, okX3, rfl, rfl⟩
abbrev YX3_fail : YC := (yX3_fail, cX3_fail, 2, (some .int), [])
theorem kX3_fail : aMk YX3_fail 1 := ⟨rfl, q2031, q118, ⟨by decide +kernel, by decide +kernel, by decide +kernel⟩, Nat.le_of_ble_eq_true rfl⟩
def x_X3_fail (g : AG) (N : Nat) (h : AH) (x0 : Nat) (x1 : Int32) : Option (Int32 × AH) :=
  (wrV g h x0 [(2, 5)] (.int (1 : Int32))).bind fun h1 => some (x1, h1)
theorem ct_X3_fail (g : AG) (hst : (gL g).stackTraces = false) (N : Nat) : ∀ (h : AH) (x0 : Nat) (x1 : Int32) (q : (Int32 × AH)), x_X3_fail g N h x0 x1 = some q → CT g YX3_fail 1 [.ref x0, .int x1] h (xI q) := by
  intro h x0 x1 q hq
  refine CT.of rfl (by decide +kernel) (loc := [some (.ref x0), some (.int x1)]) (by first | exact Nat.le_of_ble_eq_true rfl | (simp only [lgl_rf, lgl_i, lgl_j, lgl_ref, lgl_nil]; exact Nat.le_of_ble_eq_true rfl)) (by first | rfl | (simp only [aent_rf, aent_i, aent_j, aent_ref, aent_nil]; rfl)) ?_
  unfold x_X3_fail at hq
  refine aw_aload_n (i := 0) dX3_fail_0 rfl rfl trivial ?_
  refine aw_iconst (v := 1) dX3_fail_1 (by decide) ?_
  replace hq := obind hq
  obtain ⟨h1, e2, hq⟩ := hq
  refine xw_put e2 fX3_85 tX3_5 (isb_ok (by decide)) dX3_fail_2 ?_
  refine aw_iload_n (i := 1) dX3_fail_5 rfl rfl ?_
  cases hq
  exact aw_ireturn dX3_fail_6 rfl rfl ⟨rfl, rfl⟩
abbrev YX3_divide : YC := (yX3_divide, cX3_divide, 4, (some .int), [])
theorem kX3_divide : aMk YX3_divide 3 := ⟨rfl, q2121, q118, ⟨by decide +kernel, by decide +kernel, by decide +kernel⟩, Nat.le_of_ble_eq_true rfl⟩
def x_X3_divide (g : AG) (N : Nat) (h : AH) (x0 : Nat) (r1 : Option Nat) (x2 : Int32) (x3 : Int32) : Option (Int32 × AH) :=
  if x3 = 0 then (bif clB h x0 [2] then ((x_X3_fail g N h x0 (-1 : Int32)).bind fun q8 => some (q8.1, q8.2)) else none) else ((vR (gV g 10)).bind fun o2 => if r1 = o2 then (if x3 = 0 then none else (some ((x2 / x3), h))) else (if x3 = 0 then none else (some ((x2 - x2 / x3 * x3), h))))
theorem ct_X3_divide (g : AG) (hst : (gL g).stackTraces = false) (N : Nat) : ∀ (h : AH) (x0 : Nat) (r1 : Option Nat) (x2 : Int32) (x3 : Int32) (q : (Int32 × AH)), x_X3_divide g N h x0 r1 x2 x3 = some q → CT g YX3_divide 2 [.ref x0, va_rf r1, .int x2, .int x3] h (xI q) := by
  intro h x0 r1 x2 x3 q hq
  refine CT.of rfl (by decide +kernel) (loc := [some (.ref x0), some (va_rf r1), some (.int x2), some (.int x3)]) (by first | exact Nat.le_of_ble_eq_true rfl | (simp only [lgl_rf, lgl_i, lgl_j, lgl_ref, lgl_nil]; exact Nat.le_of_ble_eq_true rfl)) (by first | rfl | (simp only [aent_rf, aent_i, aent_j, aent_ref, aent_nil]; rfl)) ?_
  unfold x_X3_divide at hq
  refine aw_iload_n (i := 3) dX3_divide_0 rfl rfl ?_
  refine aw_if_ne (tgt := 10) dX3_divide_1 (by decide) (fun c1 => ?_) (fun c1 => ?_)
  · rw [if_neg c1] at hq
    refine aw_aload_n (i := 1) dX3_divide_10 rfl rfl (aIsR_rf _) ?_
    replace hq := obind hq
    obtain ⟨o2, e3, hq⟩ := hq
    refine xw_gets (i := 10) (vR_eq e3) rfl q2122 dX3_divide_11 rfl ?_
    refine xw_acmp_ne (v := r1) (w := o2) (tgt := 23) dX3_divide_14 (by decide) (fun c4 => ?_) (fun c4 => ?_)
    · rw [if_neg c4] at hq
      refine aw_iload_n (i := 2) dX3_divide_23 rfl rfl ?_
      refine aw_iload_n (i := 3) dX3_divide_24 rfl rfl ?_
      by_cases z5 : x3 = 0
      · rw [if_pos z5] at hq
        cases hq
      rw [if_neg z5] at hq
      refine aw_irem dX3_divide_25 z5 ?_
      cases hq
      exact aw_ireturn dX3_divide_26 rfl rfl ⟨rfl, rfl⟩
    · rw [if_pos c4] at hq
      refine aw_iload_n (i := 2) dX3_divide_17 rfl rfl ?_
      refine aw_iload_n (i := 3) dX3_divide_18 rfl rfl ?_
      by_cases z6 : x3 = 0
      · rw [if_pos z6] at hq
        cases hq
      rw [if_neg z6] at hq
      refine aw_idiv dX3_divide_19 z6 ?_
      refine aw_goto (tgt := 26) dX3_divide_20 (by decide) ?_
      cases hq
      exact aw_ireturn dX3_divide_26 rfl rfl ⟨rfl, rfl⟩
  · rw [if_pos c1] at hq
    refine aw_aload_n (i := 0) dX3_divide_4 rfl rfl trivial ?_
    refine aw_iconst (v := (-1)) dX3_divide_5 (by decide) ?_
    replace hq := cond_t hq
    obtain ⟨z7, hq⟩ := hq
    obtain ⟨fs9, ha9⟩ := clB1 z7
    replace hq := obind hq
    obtain ⟨q8, e9, hq⟩ := hq
    refine aw_callV (Y2 := YX3_fail) (As := [.int (-1 : Int32)]) (rest := []) (r := (RX3, TX3, 10)) kX3_fail ha9 rfl rfl q2028 q2030 qs44 dX3_divide_6 rfl rfl (ct_X3_fail g hst N h x0 (-1 : Int32) _ e9) (Nat.le_of_ble_eq_true rfl) (Nat.le_of_ble_eq_true rfl) (fun v9 h9 z9 y9 => ?_)
    obtain ⟨rfl, rfl⟩ := y9
    refine aw_st (st' := [.int q8.1]) rfl ?_
    cases hq
    exact aw_ireturn dX3_divide_9 rfl rfl ⟨rfl, rfl⟩
theorem fX3_21 : ∀ q ∈ ([(2, 1)] : List (Nat × Nat)), aFl RX3 21 q.1 q.2 := by
  intro q hq
  simp only [List.mem_cons, List.not_mem_nil, or_false] at hq
  subst hq
  exact aFl.of (RX3, TX3, 10) rfl (Nat.le_of_ble_eq_true rfl) q317
theorem casProbeConsole_Method : ∀ c ∈ ([6] : List Nat), ∃ r : vw_C, aCl[c]? = some r ∧ (r.1 = "ProbeConsole$Method" ∨ Cond.castable r.1 "ProbeConsole$Method" ∈ lw_tbl) := by
  intro c hc
  simp only [List.mem_cons, List.not_mem_nil, or_false] at hc
  subst hc
  exact ⟨(RX8, TX8, 4), rfl, Or.inl rfl⟩
theorem fX3_71 : ∀ q ∈ ([(6, 2)] : List (Nat × Nat)), aFl RX3 71 q.1 q.2 := by
  intro q hq
  simp only [List.mem_cons, List.not_mem_nil, or_false] at hq
  subst hq
  exact aFl.ofN (RX8, TX8, 4) rfl (Nat.le_of_ble_eq_true rfl) q1085
theorem fX3_75 : ∀ q ∈ ([(6, 1)] : List (Nat × Nat)), aFl RX3 75 q.1 q.2 := by
  intro q hq
  simp only [List.mem_cons, List.not_mem_nil, or_false] at hq
  subst hq
  exact aFl.ofN (RX8, TX8, 4) rfl (Nat.le_of_ble_eq_true rfl) q1082
abbrev YX3_find : YC := (yX3_find, cX3_find, 5, (some (.object "ProbeConsole$Method")), [])
theorem kX3_find : aMk YX3_find 2 := ⟨rfl, q2106, q118, ⟨by decide +kernel, by decide +kernel, by decide +kernel⟩, Nat.le_of_ble_eq_true rfl⟩
def x_X3_find_54 (g : AG) (N : Nat) (K2 : AH → Nat → Option Nat → Int32 → Int32 → Option (Option Nat × AH)) (h : AH) (x0 : Nat) (r1 : Option Nat) (x2 : Int32) (x3 : Int32) (r4 : Option Nat) : Option (Option Nat × AH) :=
  K2 h x0 r1 x2 (x3 + 1)
theorem p_x_X3_find_54 (g : AG) (hst : (gL g).stackTraces = false) (N : Nat) (K2 : AH → Nat → Option Nat → Int32 → Int32 → Option (Option Nat × AH)) (hK2 : ∀ (h : AH) (x0 : Nat) (r1 : Option Nat) (x2 : Int32) (x3 : Int32) (q : (Option Nat × AH)), K2 h x0 r1 x2 x3 = some q → AW g YX3_find 4 (xR q) h [some (.ref x0), some (va_rf r1), some (.int x2), some (.int x3), none] 2 []) : ∀ (h : AH) (x0 : Nat) (r1 : Option Nat) (x2 : Int32) (x3 : Int32) (r4 : Option Nat) (q : (Option Nat × AH)), x_X3_find_54 g N K2 h x0 r1 x2 x3 r4 = some q → AW g YX3_find 4 (xR q) h [some (.ref x0), some (va_rf r1), some (.int x2), some (.int x3), some (va_rf r4)] 54 [] := by
  intro h x0 r1 x2 x3 r4 q hq
  unfold x_X3_find_54 at hq
  refine aw_iinc (v := x3 + 1) (loc' := [some (.ref x0), some (va_rf r1), some (.int x2), some (.int (x3 + 1)), some (va_rf r4)]) dX3_find_54 rfl rfl (Nat.le_of_ble_eq_true rfl) rfl ?_
  refine aw_goto (tgt := 2) dX3_find_57 (by decide) ?_
  refine aw_subl (loc' := [some (.ref x0), some (va_rf r1), some (.int x2), some (.int (x3 + 1)), none]) ⟨Or.inr rfl, Or.inr rfl, Or.inr rfl, Or.inr rfl, Or.inl rfl, trivial⟩ ?_
  exact hK2 h x0 r1 x2 (x3 + 1) _ hq
def x_X3_find_2 (g : AG) (N : Nat) : Nat → AH → Nat → Option Nat → Int32 → Int32 → Option (Option Nat × AH)
  | 0, _, _, _, _, _ => none
  | n9 + 1, h, x0, r1, x2, x3 =>
  (rdR h x0 [(2, 1)]).bind fun o1 => (o1).bind fun a3 => bif clB h a3 [13] then ((x_J4_size g N h a3).bind fun q6 => if q6.1 ≤ x3 then (some ((none), q6.2)) else ((rdR q6.2 x0 [(2, 1)]).bind fun o9 => (o9).bind fun a11 => bif clB q6.2 a11 [13] then ((x_J4_get g N q6.2 a11 x3).bind fun q14 => bif casB q14.2 q14.1 [6] then ((q14.1).bind fun a17 => (rdI q14.2 a17 [(6, 2)]).bind fun i19 => if i19 = x2 then ((rdR q14.2 a17 [(6, 1)]).bind fun o22 => (o22).bind fun a24 => bif clB q14.2 a24 [17] then ((x_J13_equals g N q14.2 a24 r1).bind fun q27 => if q27.1 = 0 then (x_X3_find_54 g N (fun h x0 r1 x2 x3 => x_X3_find_2 g N n9 h x0 r1 x2 x3) q27.2 x0 r1 x2 x3 (some a17)) else (some ((some a17), q27.2))) else none) else (x_X3_find_54 g N (fun h x0 r1 x2 x3 => x_X3_find_2 g N n9 h x0 r1 x2 x3) q14.2 x0 r1 x2 x3 (some a17))) else none) else none)) else none
theorem p_x_X3_find_2 (g : AG) (hst : (gL g).stackTraces = false) (N : Nat) : ∀ (n9 : Nat) (h : AH) (x0 : Nat) (r1 : Option Nat) (x2 : Int32) (x3 : Int32) (q : (Option Nat × AH)), x_X3_find_2 g N n9 h x0 r1 x2 x3 = some q → AW g YX3_find 4 (xR q) h [some (.ref x0), some (va_rf r1), some (.int x2), some (.int x3), none] 2 [] := by
  intro n9
  induction n9 with
  | zero =>
    intro h x0 r1 x2 x3 q hq
    cases hq
  | succ n9 ih =>
    intro h x0 r1 x2 x3 q hq
    rw [x_X3_find_2] at hq
    refine aw_iload_n (i := 3) dX3_find_2 rfl rfl ?_
    refine aw_aload_n (i := 0) dX3_find_3 rfl rfl trivial ?_
    replace hq := obind hq
    obtain ⟨o1, e2, hq⟩ := hq
    refine xw_getR e2 fX3_21 dX3_find_4 ?_
    replace hq := obind hq
    obtain ⟨a3, e4, hq⟩ := hq
    subst e4
    replace hq := cond_t hq
    obtain ⟨z5, hq⟩ := hq
    obtain ⟨fs9, ha9⟩ := clB1 z5
    replace hq := obind hq
    obtain ⟨q6, e7, hq⟩ := hq
    refine aw_callF (Y2 := YJ4_size) (As := []) (rest := [.int x3]) (r := (RJ4, TJ4, 3)) (x := ⟨"java/util/List", "size", "()I"⟩) kJ4_size ha9 rfl (by decide) (by decide) ⟨by decide +kernel, by decide +kernel, by decide +kernel⟩ q2053 q384 q382 dX3_find_7 rfl rfl (ct_J4_size g hst N h a3 _ e7) (Nat.le_of_ble_eq_true rfl) (Nat.le_of_ble_eq_true rfl) (fun v9 h9 z9 y9 => ?_)
    obtain ⟨rfl, rfl⟩ := y9
    refine aw_st (st' := [.int q6.1, .int x3]) rfl ?_
    refine aw_icmp_ge (tgt := 60) dX3_find_12 (by decide) (fun c8 => ?_) (fun c8 => ?_)
    · rw [if_pos c8] at hq
      refine aw_null dX3_find_60 ?_
      cases hq
      exact aw_areturn dX3_find_61 rfl (Or.inl ⟨_, rfl⟩) trivial ⟨rfl, rfl⟩
    · rw [if_neg c8] at hq
      refine aw_aload_n (i := 0) dX3_find_15 rfl rfl trivial ?_
      replace hq := obind hq
      obtain ⟨o9, e10, hq⟩ := hq
      refine xw_getR e10 fX3_21 dX3_find_16 ?_
      refine aw_iload_n (i := 3) dX3_find_19 rfl rfl ?_
      replace hq := obind hq
      obtain ⟨a11, e12, hq⟩ := hq
      subst e12
      replace hq := cond_t hq
      obtain ⟨z13, hq⟩ := hq
      obtain ⟨fs9, ha9⟩ := clB1 z13
      replace hq := obind hq
      obtain ⟨q14, e15, hq⟩ := hq
      refine aw_callF (Y2 := YJ4_get) (As := [.int x3]) (rest := []) (r := (RJ4, TJ4, 3)) (x := ⟨"java/util/List", "get", "(I)Ljava/lang/Object;"⟩) kJ4_get ha9 rfl (by decide) (by decide) ⟨by decide +kernel, by decide +kernel, by decide +kernel⟩ q2101 q2004 q2002 dX3_find_20 rfl rfl (ct_J4_get g hst N q6.2 a11 x3 _ e15) (Nat.le_of_ble_eq_true rfl) (Nat.le_of_ble_eq_true rfl) (fun v9 h9 z9 y9 => ?_)
      obtain ⟨rfl, rfl⟩ := y9
      refine aw_st (st' := [va_rf q14.1]) rfl ?_
      replace hq := cond_t hq
      obtain ⟨z16, hq⟩ := hq
      refine xw_cast (r := q14.1) z16 q2107 casProbeConsole_Method dX3_find_25 ?_
      refine aw_astore (loc' := [some (.ref x0), some (va_rf r1), some (.int x2), some (.int x3), some (va_rf q14.1)]) dX3_find_28 (Nat.le_of_ble_eq_true rfl) (aIsR_rf _) rfl ?_
      refine aw_aload dX3_find_30 rfl (aIsR_rf _) ?_
      replace hq := obind hq
      obtain ⟨a17, e18, hq⟩ := hq
      rw [e18]
      replace hq := obind hq
      obtain ⟨i19, e20, hq⟩ := hq
      refine xw_getI e20 fX3_71 dX3_find_32 ?_
      refine aw_iload_n (i := 2) dX3_find_35 rfl rfl ?_
      refine aw_icmp_ne (tgt := 54) dX3_find_36 (by decide) (fun c21 => ?_) (fun c21 => ?_)
      · rw [if_neg c21] at hq
        exact p_x_X3_find_54 g hst N _ ih q14.2 x0 r1 x2 x3 (some a17) _ hq
      · rw [if_pos c21] at hq
        refine aw_aload dX3_find_39 rfl trivial ?_
        replace hq := obind hq
        obtain ⟨o22, e23, hq⟩ := hq
        refine xw_getR e23 fX3_75 dX3_find_41 ?_
        refine aw_aload_n (i := 1) dX3_find_44 rfl rfl (aIsR_rf _) ?_
        replace hq := obind hq
        obtain ⟨a24, e25, hq⟩ := hq
        subst e25
        replace hq := cond_t hq
        obtain ⟨z26, hq⟩ := hq
        obtain ⟨fs9, ha9⟩ := clB1 z26
        replace hq := obind hq
        obtain ⟨q27, e28, hq⟩ := hq
        refine aw_callV (Y2 := YJ13_equals) (As := [va_rf r1]) (rest := []) (r := (RJ13, TJ13, 4)) kJ13_equals ha9 rfl rfl q2108 q1251 q2782 dX3_find_45 rfl rfl (ct_J13_equals g hst N q14.2 a24 r1 _ e28) (Nat.le_of_ble_eq_true rfl) (Nat.le_of_ble_eq_true rfl) (fun v9 h9 z9 y9 => ?_)
        obtain ⟨rfl, rfl⟩ := y9
        refine aw_st (st' := [.int q27.1]) rfl ?_
        refine aw_if_eq (tgt := 54) dX3_find_48 (by decide) (fun c29 => ?_) (fun c29 => ?_)
        · rw [if_pos c29] at hq
          exact p_x_X3_find_54 g hst N _ ih q27.2 x0 r1 x2 x3 (some a17) _ hq
        · rw [if_neg c29] at hq
          refine aw_aload dX3_find_51 rfl trivial ?_
          cases hq
          exact aw_areturn dX3_find_53 rfl (Or.inl ⟨_, rfl⟩) trivial ⟨rfl, rfl⟩
def x_X3_find (g : AG) (N : Nat) (h : AH) (x0 : Nat) (r1 : Option Nat) (x2 : Int32) : Option (Option Nat × AH) :=
  x_X3_find_2 g N  N h x0 r1 x2 (0 : Int32)
theorem ct_X3_find (g : AG) (hst : (gL g).stackTraces = false) (N : Nat) : ∀ (h : AH) (x0 : Nat) (r1 : Option Nat) (x2 : Int32) (q : (Option Nat × AH)), x_X3_find g N h x0 r1 x2 = some q → CT g YX3_find 4 [.ref x0, va_rf r1, .int x2] h (xR q) := by
  intro h x0 r1 x2 q hq
  refine CT.of rfl (by decide +kernel) (loc := [some (.ref x0), some (va_rf r1), some (.int x2), none, none]) (by first | exact Nat.le_of_ble_eq_true rfl | (simp only [lgl_rf, lgl_i, lgl_j, lgl_ref, lgl_nil]; exact Nat.le_of_ble_eq_true rfl)) (by first | rfl | (simp only [aent_rf, aent_i, aent_j, aent_ref, aent_nil]; rfl)) ?_
  unfold x_X3_find at hq
  refine aw_iconst (v := 0) dX3_find_0 (by decide) ?_
  refine aw_istore_n (i := 3) (loc' := [some (.ref x0), some (va_rf r1), some (.int x2), some (.int (0 : Int32)), none]) dX3_find_1 rfl (Nat.le_of_ble_eq_true rfl) rfl ?_
  exact p_x_X3_find_2 g hst N   N h x0 r1 x2 (0 : Int32) _ hq
theorem fX11_7 : ∀ q ∈ ([(9, 0)] : List (Nat × Nat)), aFl RX11 7 q.1 q.2 := by
  intro q hq
  simp only [List.mem_cons, List.not_mem_nil, or_false] at hq
  subst hq
  exact aFl.of (RX11, TX11, 5) rfl (Nat.le_of_ble_eq_true rfl) q2130
theorem okX11 : aCK (RX11, TX11, 5) tyX11 := ⟨in_X11, tyX11_ok, nmX11⟩
theorem tX11_0f : ∀ q ∈ ([(9, 0)] : List (Nat × Nat)), aFt q.1 q.2 true .int := by
  intro q hq
  simp only [List.mem_cons, List.not_mem_nil, or_false] at hq
  subst hq
  exact ⟨(RX11, TX11, 5), tyX11, Nat.le_of_ble_eq_true rfl, rfl, Nat.le_of_ble_eq_true rfl, okX11, rfl, rfl⟩
theorem gX11_7 : ∀ q ∈ ([(9, 0)] : List (Nat × Nat)), ∃ r0 : vw_C, aCl[q.1]? = some r0 ∧ (r0.2.1 q.2).1 = RX11 ∧ Cond.fieldLink RX11 7 (r0.2.1 q.2).1 (r0.2.1 q.2).2.1 (r0.2.1 q.2).2.2.1 ∈ lw_all := by
  intro q hq
  simp only [List.mem_cons, List.not_mem_nil, or_false] at hq
  subst hq
  exact ⟨(RX11, TX11, 5), rfl, rfl, q2130⟩
theorem fX11_13 : ∀ q ∈ ([(9, 1)] : List (Nat × Nat)), aFl RX11 13 q.1 q.2 := by
  intro q hq
  simp only [List.mem_cons, List.not_mem_nil, or_false] at hq
  subst hq
  exact aFl.of (RX11, TX11, 5) rfl (Nat.le_of_ble_eq_true rfl) q2131
theorem tX11_1f : ∀ q ∈ ([(9, 1)] : List (Nat × Nat)), aFt q.1 q.2 true .int := by
  intro q hq
  simp only [List.mem_cons, List.not_mem_nil, or_false] at hq
  subst hq
  exact ⟨(RX11, TX11, 5), tyX11, Nat.le_of_ble_eq_true rfl, rfl, Nat.le_of_ble_eq_true rfl, okX11, rfl, rfl⟩
theorem gX11_13 : ∀ q ∈ ([(9, 1)] : List (Nat × Nat)), ∃ r0 : vw_C, aCl[q.1]? = some r0 ∧ (r0.2.1 q.2).1 = RX11 ∧ Cond.fieldLink RX11 13 (r0.2.1 q.2).1 (r0.2.1 q.2).2.1 (r0.2.1 q.2).2.2.1 ∈ lw_all := by
  intro q hq
  simp only [List.mem_cons, List.not_mem_nil, or_false] at hq
  subst hq
  exact ⟨(RX11, TX11, 5), rfl, rfl, q2131⟩
theorem fX11_16 : ∀ q ∈ ([(9, 2)] : List (Nat × Nat)), aFl RX11 16 q.1 q.2 := by
  intro q hq
  simp only [List.mem_cons, List.not_mem_nil, or_false] at hq
  subst hq
  exact aFl.of (RX11, TX11, 5) rfl (Nat.le_of_ble_eq_true rfl) q2132
theorem tX11_2f : ∀ q ∈ ([(9, 2)] : List (Nat × Nat)), aFt q.1 q.2 true .int := by
  intro q hq
  simp only [List.mem_cons, List.not_mem_nil, or_false] at hq
  subst hq
  exact ⟨(RX11, TX11, 5), tyX11, Nat.le_of_ble_eq_true rfl, rfl, Nat.le_of_ble_eq_true rfl, okX11, rfl, rfl⟩
theorem gX11_16 : ∀ q ∈ ([(9, 2)] : List (Nat × Nat)), ∃ r0 : vw_C, aCl[q.1]? = some r0 ∧ (r0.2.1 q.2).1 = RX11 ∧ Cond.fieldLink RX11 16 (r0.2.1 q.2).1 (r0.2.1 q.2).2.1 (r0.2.1 q.2).2.2.1 ∈ lw_all := by
  intro q hq
  simp only [List.mem_cons, List.not_mem_nil, or_false] at hq
  subst hq
  exact ⟨(RX11, TX11, 5), rfl, rfl, q2132⟩
theorem fX11_19 : ∀ q ∈ ([(9, 3)] : List (Nat × Nat)), aFl RX11 19 q.1 q.2 := by
  intro q hq
  simp only [List.mem_cons, List.not_mem_nil, or_false] at hq
  subst hq
  exact aFl.of (RX11, TX11, 5) rfl (Nat.le_of_ble_eq_true rfl) q2133
theorem tX11_3f : ∀ q ∈ ([(9, 3)] : List (Nat × Nat)), aFt q.1 q.2 true .boolean := by
  intro q hq
  simp only [List.mem_cons, List.not_mem_nil, or_false] at hq
  subst hq
  exact ⟨(RX11, TX11, 5), tyX11, Nat.le_of_ble_eq_true rfl, rfl, Nat.le_of_ble_eq_true rfl, okX11, rfl, rfl⟩
theorem gX11_19 : ∀ q ∈ ([(9, 3)] : List (Nat × Nat)), ∃ r0 : vw_C, aCl[q.1]? = some r0 ∧ (r0.2.1 q.2).1 = RX11 ∧ Cond.fieldLink RX11 19 (r0.2.1 q.2).1 (r0.2.1 q.2).2.1 (r0.2.1 q.2).2.2.1 ∈ lw_all := by
  intro q hq
  simp only [List.mem_cons, List.not_mem_nil, or_false] at hq
  subst hq
  exact ⟨(RX11, TX11, 5), rfl, rfl, q2133⟩
theorem fX11_23 : ∀ q ∈ ([(9, 4)] : List (Nat × Nat)), aFl RX11 23 q.1 q.2 := by
  intro q hq
  simp only [List.mem_cons, List.not_mem_nil, or_false] at hq
  subst hq
  exact aFl.of (RX11, TX11, 5) rfl (Nat.le_of_ble_eq_true rfl) q2134
theorem tX11_4f : ∀ q ∈ ([(9, 4)] : List (Nat × Nat)), aFt q.1 q.2 true .int := by
  intro q hq
  simp only [List.mem_cons, List.not_mem_nil, or_false] at hq
  subst hq
  exact ⟨(RX11, TX11, 5), tyX11, Nat.le_of_ble_eq_true rfl, rfl, Nat.le_of_ble_eq_true rfl, okX11, rfl, rfl⟩
theorem gX11_23 : ∀ q ∈ ([(9, 4)] : List (Nat × Nat)), ∃ r0 : vw_C, aCl[q.1]? = some r0 ∧ (r0.2.1 q.2).1 = RX11 ∧ Cond.fieldLink RX11 23 (r0.2.1 q.2).1 (r0.2.1 q.2).2.1 (r0.2.1 q.2).2.2.1 ∈ lw_all := by
  intro q hq
  simp only [List.mem_cons, List.not_mem_nil, or_false] at hq
  subst hq
  exact ⟨(RX11, TX11, 5), rfl, rfl, q2134⟩
abbrev YX11_init : YC := (yX11_init, cX11_init, 6, none, [])
theorem kX11_init : aMk YX11_init 5 := ⟨rfl, q2128, q164, ⟨by decide +kernel, by decide +kernel, by decide +kernel⟩, Nat.le_of_ble_eq_true rfl⟩
def x_X11_init (g : AG) (N : Nat) (h : AH) (x0 : Nat) (x1 : Int32) (x2 : Int32) (x3 : Int32) (x4 : Int32) (x5 : Int32) : Option AH :=
  (x_J33_init g N h x0).bind fun q1 => (wrV g q1 x0 [(9, 0)] (.int x1)).bind fun h3 => (wrV g h3 x0 [(9, 1)] (.int x2)).bind fun h5 => (wrV g h5 x0 [(9, 2)] (.int x3)).bind fun h7 => bif isb x4 then ((wrV g h7 x0 [(9, 3)] (.int x4)).bind fun h10 => (wrV g h10 x0 [(9, 4)] (.int x5)).bind fun h12 => some h12) else none
theorem ct_X11_init (g : AG) (hst : (gL g).stackTraces = false) (N : Nat) : ∀ (h : AH) (x0 : Nat) (x1 : Int32) (x2 : Int32) (x3 : Int32) (x4 : Int32) (x5 : Int32) (q : AH), x_X11_init g N h x0 x1 x2 x3 x4 x5 = some q → CT g YX11_init 4 [.ref x0, .int x1, .int x2, .int x3, .int x4, .int x5] h (xV q) := by
  intro h x0 x1 x2 x3 x4 x5 q hq
  refine CT.of rfl (by decide +kernel) (loc := [some (.ref x0), some (.int x1), some (.int x2), some (.int x3), some (.int x4), some (.int x5)]) (by first | exact Nat.le_of_ble_eq_true rfl | (simp only [lgl_rf, lgl_i, lgl_j, lgl_ref, lgl_nil]; exact Nat.le_of_ble_eq_true rfl)) (by first | rfl | (simp only [aent_rf, aent_i, aent_j, aent_ref, aent_nil]; rfl)) ?_
  unfold x_X11_init at hq
  refine aw_aload_n (i := 0) dX11_init_0 rfl rfl trivial ?_
  replace hq := obind hq
  obtain ⟨q1, e2, hq⟩ := hq
  refine aw_callI (Y2 := YJ33_init) (As := []) (rest := []) (b := x0) kJ33_init rfl rfl q2129 q2060 dX11_init_1 rfl rfl (ct_J33_init g hst N h x0 _ e2) (Nat.le_of_ble_eq_true rfl) (Nat.le_of_ble_eq_true rfl) (fun v9 h9 z9 y9 => ?_)
  obtain ⟨rfl, y9⟩ := y9
  rw [y9]
  refine aw_st (st' := []) rfl ?_
  refine aw_aload_n (i := 0) dX11_init_4 rfl rfl trivial ?_
  refine aw_iload_n (i := 1) dX11_init_5 rfl rfl ?_
  replace hq := obind hq
  obtain ⟨h3, e4, hq⟩ := hq
  refine xw_putF e4 fX11_7 tX11_0f rfl gX11_7 ⟨rfl, rfl⟩ dX11_init_6 ?_
  refine aw_aload_n (i := 0) dX11_init_9 rfl rfl trivial ?_
  refine aw_iload_n (i := 2) dX11_init_10 rfl rfl ?_
  replace hq := obind hq
  obtain ⟨h5, e6, hq⟩ := hq
  refine xw_putF e6 fX11_13 tX11_1f rfl gX11_13 ⟨rfl, rfl⟩ dX11_init_11 ?_
  refine aw_aload_n (i := 0) dX11_init_14 rfl rfl trivial ?_
  refine aw_iload_n (i := 3) dX11_init_15 rfl rfl ?_
  replace hq := obind hq
  obtain ⟨h7, e8, hq⟩ := hq
  refine xw_putF e8 fX11_16 tX11_2f rfl gX11_16 ⟨rfl, rfl⟩ dX11_init_16 ?_
  refine aw_aload_n (i := 0) dX11_init_19 rfl rfl trivial ?_
  refine aw_iload dX11_init_20 rfl ?_
  replace hq := cond_t hq
  obtain ⟨z9, hq⟩ := hq
  replace hq := obind hq
  obtain ⟨h10, e11, hq⟩ := hq
  refine xw_putF e11 fX11_19 tX11_3f rfl gX11_19 (isb_ok z9) dX11_init_22 ?_
  refine aw_aload_n (i := 0) dX11_init_25 rfl rfl trivial ?_
  refine aw_iload dX11_init_26 rfl ?_
  replace hq := obind hq
  obtain ⟨h12, e13, hq⟩ := hq
  refine xw_putF e13 fX11_23 tX11_4f rfl gX11_23 ⟨rfl, rfl⟩ dX11_init_28 ?_
  cases hq
  exact aw_vret dX11_init_31 rfl ⟨rfl, rfl⟩
theorem fX9_22 : ∀ q ∈ ([(7, 1)] : List (Nat × Nat)), aFl RX9 22 q.1 q.2 := by
  intro q hq
  simp only [List.mem_cons, List.not_mem_nil, or_false] at hq
  subst hq
  exact aFl.of (RX9, TX9, 8) rfl (Nat.le_of_ble_eq_true rfl) q1857
abbrev YX9_fits : YC := (yX9_fits, cX9_fits, 7, (some .boolean), [])
theorem kX9_fits : aMk YX9_fits 1 := ⟨rfl, q2045, q159, ⟨by decide +kernel, by decide +kernel, by decide +kernel⟩, Nat.le_of_ble_eq_true rfl⟩
def x_X9_fits_133 (g : AG) (N : Nat) (K10 : AH → Nat → Option Nat → Int32 → Int32 → Int32 → Int32 → Option (Int32 × AH)) (K136 : AH → Nat → Option Nat → Int32 → Int32 → Int32 → Int32 → Option (Int32 × AH)) (h : AH) (x0 : Nat) (r1 : Option Nat) (x2 : Int32) (x3 : Int32) (x4 : Int32) (x5 : Int32) (x6 : Int32) : Option (Int32 × AH) :=
  K10 h x0 r1 x2 x3 x4 x5
theorem p_x_X9_fits_133 (g : AG) (hst : (gL g).stackTraces = false) (N : Nat) (K10 : AH → Nat → Option Nat → Int32 → Int32 → Int32 → Int32 → Option (Int32 × AH)) (K136 : AH → Nat → Option Nat → Int32 → Int32 → Int32 → Int32 → Option (Int32 × AH)) (hK10 : ∀ (h : AH) (x0 : Nat) (r1 : Option Nat) (x2 : Int32) (x3 : Int32) (x4 : Int32) (x5 : Int32) (q : (Int32 × AH)), K10 h x0 r1 x2 x3 x4 x5 = some q → AW g YX9_fits 6 (xI q) h [some (.ref x0), some (va_rf r1), some (.int x2), some (.int x3), some (.int x4), some (.int x5), none] 10 []) (hK136 : ∀ (h : AH) (x0 : Nat) (r1 : Option Nat) (x2 : Int32) (x3 : Int32) (x4 : Int32) (x5 : Int32) (q : (Int32 × AH)), K136 h x0 r1 x2 x3 x4 x5 = some q → AW g YX9_fits 6 (xI q) h [some (.ref x0), some (va_rf r1), some (.int x2), some (.int x3), some (.int x4), some (.int x5), none] 136 []) : ∀ (h : AH) (x0 : Nat) (r1 : Option Nat) (x2 : Int32) (x3 : Int32) (x4 : Int32) (x5 : Int32) (x6 : Int32) (q : (Int32 × AH)), x_X9_fits_133 g N K10 K136 h x0 r1 x2 x3 x4 x5 x6 = some q → AW g YX9_fits 6 (xI q) h [some (.ref x0), some (va_rf r1), some (.int x2), some (.int x3), some (.int x4), some (.int x5), some (.int x6)] 133 [] := by
  intro h x0 r1 x2 x3 x4 x5 x6 q hq
  unfold x_X9_fits_133 at hq
  refine aw_goto (tgt := 10) dX9_fits_133 (by decide) ?_
  refine aw_subl (loc' := [some (.ref x0), some (va_rf r1), some (.int x2), some (.int x3), some (.int x4), some (.int x5), none]) ⟨Or.inr rfl, Or.inr rfl, Or.inr rfl, Or.inr rfl, Or.inr rfl, Or.inr rfl, Or.inl rfl, trivial⟩ ?_
  exact hK10 h x0 r1 x2 x3 x4 x5 _ hq
def x_X9_fits_111 (g : AG) (N : Nat) (K10 : AH → Nat → Option Nat → Int32 → Int32 → Int32 → Int32 → Option (Int32 × AH)) (K136 : AH → Nat → Option Nat → Int32 → Int32 → Int32 → Int32 → Option (Int32 × AH)) (h : AH) (x0 : Nat) (r1 : Option Nat) (x2 : Int32) (x3 : Int32) (x4 : Int32) (x5 : Int32) (x6 : Int32) : Option (Int32 × AH) :=
  if x4 = (-1 : Int32) then (some ((0 : Int32), h)) else (x_X9_fits_133 g N K10 K136 h x0 r1 (x4 + (1 : Int32)) (x5 + 1) x4 (x5 + 1) x6)
theorem p_x_X9_fits_111 (g : AG) (hst : (gL g).stackTraces = false) (N : Nat) (K10 : AH → Nat → Option Nat → Int32 → Int32 → Int32 → Int32 → Option (Int32 × AH)) (K136 : AH → Nat → Option Nat → Int32 → Int32 → Int32 → Int32 → Option (Int32 × AH)) (hK10 : ∀ (h : AH) (x0 : Nat) (r1 : Option Nat) (x2 : Int32) (x3 : Int32) (x4 : Int32) (x5 : Int32) (q : (Int32 × AH)), K10 h x0 r1 x2 x3 x4 x5 = some q → AW g YX9_fits 6 (xI q) h [some (.ref x0), some (va_rf r1), some (.int x2), some (.int x3), some (.int x4), some (.int x5), none] 10 []) (hK136 : ∀ (h : AH) (x0 : Nat) (r1 : Option Nat) (x2 : Int32) (x3 : Int32) (x4 : Int32) (x5 : Int32) (q : (Int32 × AH)), K136 h x0 r1 x2 x3 x4 x5 = some q → AW g YX9_fits 6 (xI q) h [some (.ref x0), some (va_rf r1), some (.int x2), some (.int x3), some (.int x4), some (.int x5), none] 136 []) : ∀ (h : AH) (x0 : Nat) (r1 : Option Nat) (x2 : Int32) (x3 : Int32) (x4 : Int32) (x5 : Int32) (x6 : Int32) (q : (Int32 × AH)), x_X9_fits_111 g N K10 K136 h x0 r1 x2 x3 x4 x5 x6 = some q → AW g YX9_fits 6 (xI q) h [some (.ref x0), some (va_rf r1), some (.int x2), some (.int x3), some (.int x4), some (.int x5), some (.int x6)] 111 [] := by
  intro h x0 r1 x2 x3 x4 x5 x6 q hq
  unfold x_X9_fits_111 at hq
  refine aw_iload dX9_fits_111 rfl ?_
  refine aw_iconst (v := (-1)) dX9_fits_113 (by decide) ?_
  refine aw_icmp_eq (tgt := 131) dX9_fits_114 (by decide) (fun c31 => ?_) (fun c31 => ?_)
  · rw [if_pos c31] at hq
    refine aw_iconst (v := 0) dX9_fits_131 (by decide) ?_
    cases hq
    exact aw_ireturn dX9_fits_132 rfl rfl ⟨rfl, rfl⟩
  · rw [if_neg c31] at hq
    refine aw_iload dX9_fits_117 rfl ?_
    refine aw_iconst (v := 1) dX9_fits_119 (by decide) ?_
    refine aw_iadd dX9_fits_120 ?_
    refine aw_istore_n (i := 2) (loc' := [some (.ref x0), some (va_rf r1), some (.int (x4 + (1 : Int32))), some (.int x3), some (.int x4), some (.int x5), some (.int x6)]) dX9_fits_121 rfl (Nat.le_of_ble_eq_true rfl) (aset1_rf rfl) ?_
    refine aw_iinc (v := x5 + 1) (loc' := [some (.ref x0), some (va_rf r1), some (.int (x4 + (1 : Int32))), some (.int x3), some (.int x4), some (.int (x5 + 1)), some (.int x6)]) dX9_fits_122 rfl rfl (Nat.le_of_ble_eq_true rfl) rfl ?_
    refine aw_iload dX9_fits_125 rfl ?_
    refine aw_istore_n (i := 3) (loc' := [some (.ref x0), some (va_rf r1), some (.int (x4 + (1 : Int32))), some (.int (x5 + 1)), some (.int x4), some (.int (x5 + 1)), some (.int x6)]) dX9_fits_127 rfl (Nat.le_of_ble_eq_true rfl) rfl ?_
    refine aw_goto (tgt := 133) dX9_fits_128 (by decide) ?_
    exact p_x_X9_fits_133 g hst N _ _ hK10 hK136 h x0 r1 (x4 + (1 : Int32)) (x5 + 1) x4 (x5 + 1) x6 _ hq
def x_X9_fits_102 (g : AG) (N : Nat) (K10 : AH → Nat → Option Nat → Int32 → Int32 → Int32 → Int32 → Option (Int32 × AH)) (K136 : AH → Nat → Option Nat → Int32 → Int32 → Int32 → Int32 → Option (Int32 × AH)) (h : AH) (x0 : Nat) (r1 : Option Nat) (x2 : Int32) (x3 : Int32) (x4 : Int32) (x5 : Int32) (x6 : Int32) : Option (Int32 × AH) :=
  x_X9_fits_133 g N K10 K136 h x0 r1 (x2 + 1) (x3 + 1) x4 x5 x6
theorem p_x_X9_fits_102 (g : AG) (hst : (gL g).stackTraces = false) (N : Nat) (K10 : AH → Nat → Option Nat → Int32 → Int32 → Int32 → Int32 → Option (Int32 × AH)) (K136 : AH → Nat → Option Nat → Int32 → Int32 → Int32 → Int32 → Option (Int32 × AH)) (hK10 : ∀ (h : AH) (x0 : Nat) (r1 : Option Nat) (x2 : Int32) (x3 : Int32) (x4 : Int32) (x5 : Int32) (q : (Int32 × AH)), K10 h x0 r1 x2 x3 x4 x5 = some q → AW g YX9_fits 6 (xI q) h [some (.ref x0), some (va_rf r1), some (.int x2), some (.int x3), some (.int x4), some (.int x5), none] 10 []) (hK136 : ∀ (h : AH) (x0 : Nat) (r1 : Option Nat) (x2 : Int32) (x3 : Int32) (x4 : Int32) (x5 : Int32) (q : (Int32 × AH)), K136 h x0 r1 x2 x3 x4 x5 = some q → AW g YX9_fits 6 (xI q) h [some (.ref x0), some (va_rf r1), some (.int x2), some (.int x3), some (.int x4), some (.int x5), none] 136 []) : ∀ (h : AH) (x0 : Nat) (r1 : Option Nat) (x2 : Int32) (x3 : Int32) (x4 : Int32) (x5 : Int32) (x6 : Int32) (q : (Int32 × AH)), x_X9_fits_102 g N K10 K136 h x0 r1 x2 x3 x4 x5 x6 = some q → AW g YX9_fits 6 (xI q) h [some (.ref x0), some (va_rf r1), some (.int x2), some (.int x3), some (.int x4), some (.int x5), some (.int x6)] 102 [] := by
  intro h x0 r1 x2 x3 x4 x5 x6 q hq
  unfold x_X9_fits_102 at hq
  refine aw_iinc (v := x2 + 1) (loc' := [some (.ref x0), some (va_rf r1), some (.int (x2 + 1)), some (.int x3), some (.int x4), some (.int x5), some (.int x6)]) dX9_fits_102 rfl rfl (Nat.le_of_ble_eq_true rfl) (aset1_rf rfl) ?_
  refine aw_iinc (v := x3 + 1) (loc' := [some (.ref x0), some (va_rf r1), some (.int (x2 + 1)), some (.int (x3 + 1)), some (.int x4), some (.int x5), some (.int x6)]) dX9_fits_105 rfl rfl (Nat.le_of_ble_eq_true rfl) rfl ?_
  refine aw_goto (tgt := 133) dX9_fits_108 (by decide) ?_
  exact p_x_X9_fits_133 g hst N _ _ hK10 hK136 h x0 r1 (x2 + 1) (x3 + 1) x4 x5 x6 _ hq
def x_X9_fits_74 (g : AG) (N : Nat) (K10 : AH → Nat → Option Nat → Int32 → Int32 → Int32 → Int32 → Option (Int32 × AH)) (K136 : AH → Nat → Option Nat → Int32 → Int32 → Int32 → Int32 → Option (Int32 × AH)) (h : AH) (x0 : Nat) (r1 : Option Nat) (x2 : Int32) (x3 : Int32) (x4 : Int32) (x5 : Int32) (x6 : Int32) : Option (Int32 × AH) :=
  (rdR h x0 [(7, 1)]).bind fun o23 => (o23).bind fun a25 => bif clB h a25 [17] then ((x_J13_length g N h a25).bind fun q28 => if q28.1 ≤ x2 then (x_X9_fits_111 g N K10 K136 q28.2 x0 r1 x2 x3 x4 x5 x6) else (if x6 = (63 : Int32) then (x_X9_fits_102 g N K10 K136 q28.2 x0 r1 x2 x3 x4 x5 x6) else ((r1).bind fun a33 => bif clB q28.2 a33 [17] then ((x_J13_charAt g N q28.2 a33 x3).bind fun q36 => if x6 = q36.1 then (x_X9_fits_102 g N K10 K136 q36.2 x0 (some a33) x2 x3 x4 x5 x6) else (x_X9_fits_111 g N K10 K136 q36.2 x0 (some a33) x2 x3 x4 x5 x6)) else none))) else none
theorem p_x_X9_fits_74 (g : AG) (hst : (gL g).stackTraces = false) (N : Nat) (K10 : AH → Nat → Option Nat → Int32 → Int32 → Int32 → Int32 → Option (Int32 × AH)) (K136 : AH → Nat → Option Nat → Int32 → Int32 → Int32 → Int32 → Option (Int32 × AH)) (hK10 : ∀ (h : AH) (x0 : Nat) (r1 : Option Nat) (x2 : Int32) (x3 : Int32) (x4 : Int32) (x5 : Int32) (q : (Int32 × AH)), K10 h x0 r1 x2 x3 x4 x5 = some q → AW g YX9_fits 6 (xI q) h [some (.ref x0), some (va_rf r1), some (.int x2), some (.int x3), some (.int x4), some (.int x5), none] 10 []) (hK136 : ∀ (h : AH) (x0 : Nat) (r1 : Option Nat) (x2 : Int32) (x3 : Int32) (x4 : Int32) (x5 : Int32) (q : (Int32 × AH)), K136 h x0 r1 x2 x3 x4 x5 = some q → AW g YX9_fits 6 (xI q) h [some (.ref x0), some (va_rf r1), some (.int x2), some (.int x3), some (.int x4), some (.int x5), none] 136 []) : ∀ (h : AH) (x0 : Nat) (r1 : Option Nat) (x2 : Int32) (x3 : Int32) (x4 : Int32) (x5 : Int32) (x6 : Int32) (q : (Int32 × AH)), x_X9_fits_74 g N K10 K136 h x0 r1 x2 x3 x4 x5 x6 = some q → AW g YX9_fits 6 (xI q) h [some (.ref x0), some (va_rf r1), some (.int x2), some (.int x3), some (.int x4), some (.int x5), some (.int x6)] 74 [] := by
  intro h x0 r1 x2 x3 x4 x5 x6 q hq
  unfold x_X9_fits_74 at hq
  refine aw_iload_n (i := 2) dX9_fits_74 rfl rfl ?_
  refine aw_aload_n (i := 0) dX9_fits_75 rfl rfl trivial ?_
  replace hq := obind hq
  obtain ⟨o23, e24, hq⟩ := hq
  refine xw_getR e24 fX9_22 dX9_fits_76 ?_
  replace hq := obind hq
  obtain ⟨a25, e26, hq⟩ := hq
  subst e26
  replace hq := cond_t hq
  obtain ⟨z27, hq⟩ := hq
  obtain ⟨fs9, ha9⟩ := clB1 z27
  replace hq := obind hq
  obtain ⟨q28, e29, hq⟩ := hq
  refine aw_callV (Y2 := YJ13_length) (As := []) (rest := [.int x2]) (r := (RJ13, TJ13, 4)) kJ13_length ha9 rfl rfl q2046 q705 q706 dX9_fits_79 rfl rfl (ct_J13_length g hst N h a25 _ e29) (Nat.le_of_ble_eq_true rfl) (Nat.le_of_ble_eq_true rfl) (fun v9 h9 z9 y9 => ?_)
  obtain ⟨rfl, rfl⟩ := y9
  refine aw_st (st' := [.int q28.1, .int x2]) rfl ?_
  refine aw_icmp_ge (tgt := 111) dX9_fits_82 (by decide) (fun c30 => ?_) (fun c30 => ?_)
  · rw [if_pos c30] at hq
    exact p_x_X9_fits_111 g hst N _ _ hK10 hK136 q28.2 x0 r1 x2 x3 x4 x5 x6 _ hq
  · rw [if_neg c30] at hq
    refine aw_iload dX9_fits_85 rfl ?_
    refine aw_bipush (v := 63) dX9_fits_87 (by decide) ?_
    refine aw_icmp_eq (tgt := 102) dX9_fits_89 (by decide) (fun c32 => ?_) (fun c32 => ?_)
    · rw [if_pos c32] at hq
      exact p_x_X9_fits_102 g hst N _ _ hK10 hK136 q28.2 x0 r1 x2 x3 x4 x5 x6 _ hq
    · rw [if_neg c32] at hq
      refine aw_iload dX9_fits_92 rfl ?_
      refine aw_aload_n (i := 1) dX9_fits_94 rfl rfl (aIsR_rf _) ?_
      refine aw_iload_n (i := 3) dX9_fits_95 rfl rfl ?_
      replace hq := obind hq
      obtain ⟨a33, e34, hq⟩ := hq
      subst e34
      replace hq := cond_t hq
      obtain ⟨z35, hq⟩ := hq
      obtain ⟨fs9, ha9⟩ := clB1 z35
      replace hq := obind hq
      obtain ⟨q36, e37, hq⟩ := hq
      refine aw_callV (Y2 := YJ13_charAt) (As := [.int x3]) (rest := [.int x6]) (r := (RJ13, TJ13, 4)) kJ13_charAt ha9 rfl rfl q2047 q767 q768 dX9_fits_96 rfl rfl (ct_J13_charAt g hst N q28.2 a33 x3 _ e37) (Nat.le_of_ble_eq_true rfl) (Nat.le_of_ble_eq_true rfl) (fun v9 h9 z9 y9 => ?_)
      obtain ⟨rfl, rfl⟩ := y9
      refine aw_st (st' := [.int q36.1, .int x6]) rfl ?_
      refine aw_icmp_ne (tgt := 111) dX9_fits_99 (by decide) (fun c38 => ?_) (fun c38 => ?_)
      · rw [if_neg c38] at hq
        exact p_x_X9_fits_111 g hst N _ _ hK10 hK136 q36.2 x0 (some a33) x2 x3 x4 x5 x6 _ hq
      · rw [if_pos c38] at hq
        exact p_x_X9_fits_102 g hst N _ _ hK10 hK136 q36.2 x0 (some a33) x2 x3 x4 x5 x6 _ hq
def x_X9_fits_42 (g : AG) (N : Nat) (K10 : AH → Nat → Option Nat → Int32 → Int32 → Int32 → Int32 → Option (Int32 × AH)) (K136 : AH → Nat → Option Nat → Int32 → Int32 → Int32 → Int32 → Option (Int32 × AH)) (h : AH) (x0 : Nat) (r1 : Option Nat) (x2 : Int32) (x3 : Int32) (x4 : Int32) (x5 : Int32) (s0 : Int32) : Option (Int32 × AH) :=
  (rdR h x0 [(7, 1)]).bind fun o15 => (o15).bind fun a17 => bif clB h a17 [17] then ((x_J13_length g N h a17).bind fun q20 => if q20.1 ≤ x2 then (x_X9_fits_74 g N K10 K136 q20.2 x0 r1 x2 x3 x4 x5 s0) else (if s0 = (42 : Int32) then (x_X9_fits_133 g N K10 K136 q20.2 x0 r1 (x2 + 1) x3 x2 x3 s0) else (x_X9_fits_74 g N K10 K136 q20.2 x0 r1 x2 x3 x4 x5 s0))) else none
theorem p_x_X9_fits_42 (g : AG) (hst : (gL g).stackTraces = false) (N : Nat) (K10 : AH → Nat → Option Nat → Int32 → Int32 → Int32 → Int32 → Option (Int32 × AH)) (K136 : AH → Nat → Option Nat → Int32 → Int32 → Int32 → Int32 → Option (Int32 × AH)) (hK10 : ∀ (h : AH) (x0 : Nat) (r1 : Option Nat) (x2 : Int32) (x3 : Int32) (x4 : Int32) (x5 : Int32) (q : (Int32 × AH)), K10 h x0 r1 x2 x3 x4 x5 = some q → AW g YX9_fits 6 (xI q) h [some (.ref x0), some (va_rf r1), some (.int x2), some (.int x3), some (.int x4), some (.int x5), none] 10 []) (hK136 : ∀ (h : AH) (x0 : Nat) (r1 : Option Nat) (x2 : Int32) (x3 : Int32) (x4 : Int32) (x5 : Int32) (q : (Int32 × AH)), K136 h x0 r1 x2 x3 x4 x5 = some q → AW g YX9_fits 6 (xI q) h [some (.ref x0), some (va_rf r1), some (.int x2), some (.int x3), some (.int x4), some (.int x5), none] 136 []) : ∀ (h : AH) (x0 : Nat) (r1 : Option Nat) (x2 : Int32) (x3 : Int32) (x4 : Int32) (x5 : Int32) (s0 : Int32) (q : (Int32 × AH)), x_X9_fits_42 g N K10 K136 h x0 r1 x2 x3 x4 x5 s0 = some q → AW g YX9_fits 6 (xI q) h [some (.ref x0), some (va_rf r1), some (.int x2), some (.int x3), some (.int x4), some (.int x5), none] 42 [.int s0] := by
  intro h x0 r1 x2 x3 x4 x5 s0 q hq
  unfold x_X9_fits_42 at hq
  refine aw_istore (loc' := [some (.ref x0), some (va_rf r1), some (.int x2), some (.int x3), some (.int x4), some (.int x5), some (.int s0)]) dX9_fits_42 (Nat.le_of_ble_eq_true rfl) rfl ?_
  refine aw_iload_n (i := 2) dX9_fits_44 rfl rfl ?_
  refine aw_aload_n (i := 0) dX9_fits_45 rfl rfl trivial ?_
  replace hq := obind hq
  obtain ⟨o15, e16, hq⟩ := hq
  refine xw_getR e16 fX9_22 dX9_fits_46 ?_
  replace hq := obind hq
  obtain ⟨a17, e18, hq⟩ := hq
  subst e18
  replace hq := cond_t hq
  obtain ⟨z19, hq⟩ := hq
  obtain ⟨fs9, ha9⟩ := clB1 z19
  replace hq := obind hq
  obtain ⟨q20, e21, hq⟩ := hq
  refine aw_callV (Y2 := YJ13_length) (As := []) (rest := [.int x2]) (r := (RJ13, TJ13, 4)) kJ13_length ha9 rfl rfl q2046 q705 q706 dX9_fits_49 rfl rfl (ct_J13_length g hst N h a17 _ e21) (Nat.le_of_ble_eq_true rfl) (Nat.le_of_ble_eq_true rfl) (fun v9 h9 z9 y9 => ?_)
  obtain ⟨rfl, rfl⟩ := y9
  refine aw_st (st' := [.int q20.1, .int x2]) rfl ?_
  refine aw_icmp_ge (tgt := 74) dX9_fits_52 (by decide) (fun c22 => ?_) (fun c22 => ?_)
  · rw [if_pos c22] at hq
    exact p_x_X9_fits_74 g hst N _ _ hK10 hK136 q20.2 x0 r1 x2 x3 x4 x5 s0 _ hq
  · rw [if_neg c22] at hq
    refine aw_iload dX9_fits_55 rfl ?_
    refine aw_bipush (v := 42) dX9_fits_57 (by decide) ?_
    refine aw_icmp_ne (tgt := 74) dX9_fits_59 (by decide) (fun c39 => ?_) (fun c39 => ?_)
    · rw [if_neg c39] at hq
      exact p_x_X9_fits_74 g hst N _ _ hK10 hK136 q20.2 x0 r1 x2 x3 x4 x5 s0 _ hq
    · rw [if_pos c39] at hq
      refine aw_iload_n (i := 2) dX9_fits_62 rfl rfl ?_
      refine aw_istore (loc' := [some (.ref x0), some (va_rf r1), some (.int x2), some (.int x3), some (.int x2), some (.int x5), some (.int s0)]) dX9_fits_63 (Nat.le_of_ble_eq_true rfl) rfl ?_
      refine aw_iload_n (i := 3) dX9_fits_65 rfl rfl ?_
      refine aw_istore (loc' := [some (.ref x0), some (va_rf r1), some (.int x2), some (.int x3), some (.int x2), some (.int x3), some (.int s0)]) dX9_fits_66 (Nat.le_of_ble_eq_true rfl) rfl ?_
      refine aw_iinc (v := x2 + 1) (loc' := [some (.ref x0), some (va_rf r1), some (.int (x2 + 1)), some (.int x3), some (.int x2), some (.int x3), some (.int s0)]) dX9_fits_68 rfl rfl (Nat.le_of_ble_eq_true rfl) (aset1_rf rfl) ?_
      refine aw_goto (tgt := 133) dX9_fits_71 (by decide) ?_
      exact p_x_X9_fits_133 g hst N _ _ hK10 hK136 q20.2 x0 r1 (x2 + 1) x3 x2 x3 s0 _ hq
def x_X9_fits_10 (g : AG) (N : Nat) (K136 : AH → Nat → Option Nat → Int32 → Int32 → Int32 → Int32 → Option (Int32 × AH)) : Nat → AH → Nat → Option Nat → Int32 → Int32 → Int32 → Int32 → Option (Int32 × AH)
  | 0, _, _, _, _, _, _, _ => none
  | n9 + 1, h, x0, r1, x2, x3, x4, x5 =>
  (r1).bind fun a1 => bif clB h a1 [17] then ((x_J13_length g N h a1).bind fun q4 => if q4.1 ≤ x3 then (K136 q4.2 x0 (some a1) x2 x3 x4 x5) else ((rdR q4.2 x0 [(7, 1)]).bind fun o7 => (o7).bind fun a9 => bif clB q4.2 a9 [17] then ((x_J13_length g N q4.2 a9).bind fun q12 => if q12.1 ≤ x2 then (x_X9_fits_42 g N (fun h x0 r1 x2 x3 x4 x5 => x_X9_fits_10 g N K136 n9 h x0 r1 x2 x3 x4 x5) K136 q12.2 x0 (some a1) x2 x3 x4 x5 (42 : Int32)) else ((rdR q12.2 x0 [(7, 1)]).bind fun o40 => (o40).bind fun a42 => bif clB q12.2 a42 [17] then ((x_J13_charAt g N q12.2 a42 x2).bind fun q45 => x_X9_fits_42 g N (fun h x0 r1 x2 x3 x4 x5 => x_X9_fits_10 g N K136 n9 h x0 r1 x2 x3 x4 x5) K136 q45.2 x0 (some a1) x2 x3 x4 x5 q45.1) else none)) else none)) else none
theorem p_x_X9_fits_10 (g : AG) (hst : (gL g).stackTraces = false) (N : Nat) (K136 : AH → Nat → Option Nat → Int32 → Int32 → Int32 → Int32 → Option (Int32 × AH)) (hK136 : ∀ (h : AH) (x0 : Nat) (r1 : Option Nat) (x2 : Int32) (x3 : Int32) (x4 : Int32) (x5 : Int32) (q : (Int32 × AH)), K136 h x0 r1 x2 x3 x4 x5 = some q → AW g YX9_fits 6 (xI q) h [some (.ref x0), some (va_rf r1), some (.int x2), some (.int x3), some (.int x4), some (.int x5), none] 136 []) : ∀ (n9 : Nat) (h : AH) (x0 : Nat) (r1 : Option Nat) (x2 : Int32) (x3 : Int32) (x4 : Int32) (x5 : Int32) (q : (Int32 × AH)), x_X9_fits_10 g N K136 n9 h x0 r1 x2 x3 x4 x5 = some q → AW g YX9_fits 6 (xI q) h [some (.ref x0), some (va_rf r1), some (.int x2), some (.int x3), some (.int x4), some (.int x5), none] 10 [] := by
  intro n9
  induction n9 with
  | zero =>
    intro h x0 r1 x2 x3 x4 x5 q hq
    cases hq
  | succ n9 ih =>
    intro h x0 r1 x2 x3 x4 x5 q hq
    rw [x_X9_fits_10] at hq
    refine aw_iload_n (i := 3) dX9_fits_10 rfl rfl ?_
    refine aw_aload_n (i := 1) dX9_fits_11 rfl rfl (aIsR_rf _) ?_
    replace hq := obind hq
    obtain ⟨a1, e2, hq⟩ := hq
    subst e2
    replace hq := cond_t hq
    obtain ⟨z3, hq⟩ := hq
    obtain ⟨fs9, ha9⟩ := clB1 z3
    replace hq := obind hq
    obtain ⟨q4, e5, hq⟩ := hq
    refine aw_callV (Y2 := YJ13_length) (As := []) (rest := [.int x3]) (r := (RJ13, TJ13, 4)) kJ13_length ha9 rfl rfl q2046 q705 q706 dX9_fits_12 rfl rfl (ct_J13_length g hst N h a1 _ e5) (Nat.le_of_ble_eq_true rfl) (Nat.le_of_ble_eq_true rfl) (fun v9 h9 z9 y9 => ?_)
    obtain ⟨rfl, rfl⟩ := y9
    refine aw_st (st' := [.int q4.1, .int x3]) rfl ?_
    refine aw_icmp_ge (tgt := 136) dX9_fits_15 (by decide) (fun c6 => ?_) (fun c6 => ?_)
    · rw [if_pos c6] at hq
      exact hK136 q4.2 x0 (some a1) x2 x3 x4 x5 _ hq
    · rw [if_neg c6] at hq
      refine aw_iload_n (i := 2) dX9_fits_18 rfl rfl ?_
      refine aw_aload_n (i := 0) dX9_fits_19 rfl rfl trivial ?_
      replace hq := obind hq
      obtain ⟨o7, e8, hq⟩ := hq
      refine xw_getR e8 fX9_22 dX9_fits_20 ?_
      replace hq := obind hq
      obtain ⟨a9, e10, hq⟩ := hq
      subst e10
      replace hq := cond_t hq
      obtain ⟨z11, hq⟩ := hq
      obtain ⟨fs9, ha9⟩ := clB1 z11
      replace hq := obind hq
      obtain ⟨q12, e13, hq⟩ := hq
      refine aw_callV (Y2 := YJ13_length) (As := []) (rest := [.int x2]) (r := (RJ13, TJ13, 4)) kJ13_length ha9 rfl rfl q2046 q705 q706 dX9_fits_23 rfl rfl (ct_J13_length g hst N q4.2 a9 _ e13) (Nat.le_of_ble_eq_true rfl) (Nat.le_of_ble_eq_true rfl) (fun v9 h9 z9 y9 => ?_)
      obtain ⟨rfl, rfl⟩ := y9
      refine aw_st (st' := [.int q12.1, .int x2]) rfl ?_
      refine aw_icmp_ge (tgt := 40) dX9_fits_26 (by decide) (fun c14 => ?_) (fun c14 => ?_)
      · rw [if_pos c14] at hq
        refine aw_bipush (v := 42) dX9_fits_40 (by decide) ?_
        exact p_x_X9_fits_42 g hst N _ _ ih hK136 q12.2 x0 (some a1) x2 x3 x4 x5 (42 : Int32) _ hq
      · rw [if_neg c14] at hq
        refine aw_aload_n (i := 0) dX9_fits_29 rfl rfl trivial ?_
        replace hq := obind hq
        obtain ⟨o40, e41, hq⟩ := hq
        refine xw_getR e41 fX9_22 dX9_fits_30 ?_
        refine aw_iload_n (i := 2) dX9_fits_33 rfl rfl ?_
        replace hq := obind hq
        obtain ⟨a42, e43, hq⟩ := hq
        subst e43
        replace hq := cond_t hq
        obtain ⟨z44, hq⟩ := hq
        obtain ⟨fs9, ha9⟩ := clB1 z44
        replace hq := obind hq
        obtain ⟨q45, e46, hq⟩ := hq
        refine aw_callV (Y2 := YJ13_charAt) (As := [.int x2]) (rest := []) (r := (RJ13, TJ13, 4)) kJ13_charAt ha9 rfl rfl q2047 q767 q768 dX9_fits_34 rfl rfl (ct_J13_charAt g hst N q12.2 a42 x2 _ e46) (Nat.le_of_ble_eq_true rfl) (Nat.le_of_ble_eq_true rfl) (fun v9 h9 z9 y9 => ?_)
        obtain ⟨rfl, rfl⟩ := y9
        refine aw_st (st' := [.int q45.1]) rfl ?_
        refine aw_goto (tgt := 42) dX9_fits_37 (by decide) ?_
        exact p_x_X9_fits_42 g hst N _ _ ih hK136 q45.2 x0 (some a1) x2 x3 x4 x5 q45.1 _ hq
def x_X9_fits_136 (g : AG) (N : Nat) (K166 : AH → Nat → Option Nat → Int32 → Int32 → Int32 → Int32 → Option (Int32 × AH)) : Nat → AH → Nat → Option Nat → Int32 → Int32 → Int32 → Int32 → Option (Int32 × AH)
  | 0, _, _, _, _, _, _, _ => none
  | n9 + 1, h, x0, r1, x2, x3, x4, x5 =>
  (rdR h x0 [(7, 1)]).bind fun o47 => (o47).bind fun a49 => bif clB h a49 [17] then ((x_J13_length g N h a49).bind fun q52 => if q52.1 ≤ x2 then (K166 q52.2 x0 r1 x2 x3 x4 x5) else ((rdR q52.2 x0 [(7, 1)]).bind fun o55 => (o55).bind fun a57 => bif clB q52.2 a57 [17] then ((x_J13_charAt g N q52.2 a57 x2).bind fun q60 => if q60.1 = (42 : Int32) then (x_X9_fits_136 g N K166 n9 q60.2 x0 r1 (x2 + 1) x3 x4 x5) else (K166 q60.2 x0 r1 x2 x3 x4 x5)) else none)) else none
theorem p_x_X9_fits_136 (g : AG) (hst : (gL g).stackTraces = false) (N : Nat) (K166 : AH → Nat → Option Nat → Int32 → Int32 → Int32 → Int32 → Option (Int32 × AH)) (hK166 : ∀ (h : AH) (x0 : Nat) (r1 : Option Nat) (x2 : Int32) (x3 : Int32) (x4 : Int32) (x5 : Int32) (q : (Int32 × AH)), K166 h x0 r1 x2 x3 x4 x5 = some q → AW g YX9_fits 6 (xI q) h [some (.ref x0), some (va_rf r1), some (.int x2), some (.int x3), some (.int x4), some (.int x5), none] 166 []) : ∀ (n9 : Nat) (h : AH) (x0 : Nat) (r1 : Option Nat) (x2 : Int32) (x3 : Int32) (x4 : Int32) (x5 : Int32) (q : (Int32 × AH)), x_X9_fits_136 g N K166 n9 h x0 r1 x2 x3 x4 x5 = some q → AW g YX9_fits 6 (xI q) h [some (.ref x0), some (va_rf r1), some (.int x2), some (.int x3), some (.int x4), some (.int x5), none] 136 [] := by
  intro n9
  induction n9 with
  | zero =>
    intro h x0 r1 x2 x3 x4 x5 q hq
    cases hq
  | succ n9 ih =>
    intro h x0 r1 x2 x3 x4 x5 q hq
    rw [x_X9_fits_136] at hq
    refine aw_iload_n (i := 2) dX9_fits_136 rfl rfl ?_
    refine aw_aload_n (i := 0) dX9_fits_137 rfl rfl trivial ?_
    replace hq := obind hq
    obtain ⟨o47, e48, hq⟩ := hq
    refine xw_getR e48 fX9_22 dX9_fits_138 ?_
    replace hq := obind hq
    obtain ⟨a49, e50, hq⟩ := hq
    subst e50
    replace hq := cond_t hq
    obtain ⟨z51, hq⟩ := hq
    obtain ⟨fs9, ha9⟩ := clB1 z51
    replace hq := obind hq
    obtain ⟨q52, e53, hq⟩ := hq
    refine aw_callV (Y2 := YJ13_length) (As := []) (rest := [.int x2]) (r := (RJ13, TJ13, 4)) kJ13_length ha9 rfl rfl q2046 q705 q706 dX9_fits_141 rfl rfl (ct_J13_length g hst N h a49 _ e53) (Nat.le_of_ble_eq_true rfl) (Nat.le_of_ble_eq_true rfl) (fun v9 h9 z9 y9 => ?_)
    obtain ⟨rfl, rfl⟩ := y9
    refine aw_st (st' := [.int q52.1, .int x2]) rfl ?_
    refine aw_icmp_ge (tgt := 166) dX9_fits_144 (by decide) (fun c54 => ?_) (fun c54 => ?_)
    · rw [if_pos c54] at hq
      exact hK166 q52.2 x0 r1 x2 x3 x4 x5 _ hq
    · rw [if_neg c54] at hq
      refine aw_aload_n (i := 0) dX9_fits_147 rfl rfl trivial ?_
      replace hq := obind hq
      obtain ⟨o55, e56, hq⟩ := hq
      refine xw_getR e56 fX9_22 dX9_fits_148 ?_
      refine aw_iload_n (i := 2) dX9_fits_151 rfl rfl ?_
      replace hq := obind hq
      obtain ⟨a57, e58, hq⟩ := hq
      subst e58
      replace hq := cond_t hq
      obtain ⟨z59, hq⟩ := hq
      obtain ⟨fs9, ha9⟩ := clB1 z59
      replace hq := obind hq
      obtain ⟨q60, e61, hq⟩ := hq
      refine aw_callV (Y2 := YJ13_charAt) (As := [.int x2]) (rest := []) (r := (RJ13, TJ13, 4)) kJ13_charAt ha9 rfl rfl q2047 q767 q768 dX9_fits_152 rfl rfl (ct_J13_charAt g hst N q52.2 a57 x2 _ e61) (Nat.le_of_ble_eq_true rfl) (Nat.le_of_ble_eq_true rfl) (fun v9 h9 z9 y9 => ?_)
      obtain ⟨rfl, rfl⟩ := y9
      refine aw_st (st' := [.int q60.1]) rfl ?_
      refine aw_bipush (v := 42) dX9_fits_155 (by decide) ?_
      refine aw_icmp_ne (tgt := 166) dX9_fits_157 (by decide) (fun c62 => ?_) (fun c62 => ?_)
      · rw [if_neg c62] at hq
        exact hK166 q60.2 x0 r1 x2 x3 x4 x5 _ hq
      · rw [if_pos c62] at hq
        refine aw_iinc (v := x2 + 1) (loc' := [some (.ref x0), some (va_rf r1), some (.int (x2 + 1)), some (.int x3), some (.int x4), some (.int x5), none]) dX9_fits_160 rfl rfl (Nat.le_of_ble_eq_true rfl) (aset1_rf rfl) ?_
        refine aw_goto (tgt := 136) dX9_fits_163 (by decide) ?_
        exact ih q60.2 x0 r1 (x2 + 1) x3 x4 x5 _ hq
def x_X9_fits_166 (g : AG) (N : Nat) (h : AH) (x0 : Nat) (r1 : Option Nat) (x2 : Int32) (x3 : Int32) (x4 : Int32) (x5 : Int32) : Option (Int32 × AH) :=
  (rdR h x0 [(7, 1)]).bind fun o63 => (o63).bind fun a65 => bif clB h a65 [17] then ((x_J13_length g N h a65).bind fun q68 => if x2 = q68.1 then (some ((1 : Int32), q68.2)) else (some ((0 : Int32), q68.2))) else none
theorem p_x_X9_fits_166 (g : AG) (hst : (gL g).stackTraces = false) (N : Nat) : ∀ (h : AH) (x0 : Nat) (r1 : Option Nat) (x2 : Int32) (x3 : Int32) (x4 : Int32) (x5 : Int32) (q : (Int32 × AH)), x_X9_fits_166 g N h x0 r1 x2 x3 x4 x5 = some q → AW g YX9_fits 6 (xI q) h [some (.ref x0), some (va_rf r1), some (.int x2), some (.int x3), some (.int x4), some (.int x5), none] 166 [] := by
  intro h x0 r1 x2 x3 x4 x5 q hq
  unfold x_X9_fits_166 at hq
  refine aw_iload_n (i := 2) dX9_fits_166 rfl rfl ?_
  refine aw_aload_n (i := 0) dX9_fits_167 rfl rfl trivial ?_
  replace hq := obind hq
  obtain ⟨o63, e64, hq⟩ := hq
  refine xw_getR e64 fX9_22 dX9_fits_168 ?_
  replace hq := obind hq
  obtain ⟨a65, e66, hq⟩ := hq
  subst e66
  replace hq := cond_t hq
  obtain ⟨z67, hq⟩ := hq
  obtain ⟨fs9, ha9⟩ := clB1 z67
  replace hq := obind hq
  obtain ⟨q68, e69, hq⟩ := hq
  refine aw_callV (Y2 := YJ13_length) (As := []) (rest := [.int x2]) (r := (RJ13, TJ13, 4)) kJ13_length ha9 rfl rfl q2046 q705 q706 dX9_fits_171 rfl rfl (ct_J13_length g hst N h a65 _ e69) (Nat.le_of_ble_eq_true rfl) (Nat.le_of_ble_eq_true rfl) (fun v9 h9 z9 y9 => ?_)
  obtain ⟨rfl, rfl⟩ := y9
  refine aw_st (st' := [.int q68.1, .int x2]) rfl ?_
  refine aw_icmp_ne (tgt := 181) dX9_fits_174 (by decide) (fun c70 => ?_) (fun c70 => ?_)
  · rw [if_neg c70] at hq
    refine aw_iconst (v := 0) dX9_fits_181 (by decide) ?_
    cases hq
    exact aw_ireturn dX9_fits_182 rfl rfl ⟨rfl, rfl⟩
  · rw [if_pos c70] at hq
    refine aw_iconst (v := 1) dX9_fits_177 (by decide) ?_
    refine aw_goto (tgt := 182) dX9_fits_178 (by decide) ?_
    cases hq
    exact aw_ireturn dX9_fits_182 rfl rfl ⟨rfl, rfl⟩
def x_X9_fits (g : AG) (N : Nat) (h : AH) (x0 : Nat) (r1 : Option Nat) : Option (Int32 × AH) :=
  x_X9_fits_10 g N (fun h x0 r1 x2 x3 x4 x5 => x_X9_fits_136 g N (fun h x0 r1 x2 x3 x4 x5 => x_X9_fits_166 g N  h x0 r1 x2 x3 x4 x5) N h x0 r1 x2 x3 x4 x5) N h x0 r1 (0 : Int32) (0 : Int32) (-1 : Int32) (0 : Int32)
theorem ct_X9_fits (g : AG) (hst : (gL g).stackTraces = false) (N : Nat) : ∀ (h : AH) (x0 : Nat) (r1 : Option Nat) (q : (Int32 × AH)), x_X9_fits g N h x0 r1 = some q → CT g YX9_fits 6 [.ref x0, va_rf r1] h (xI q) := by
  intro h x0 r1 q hq
  refine CT.of rfl (by decide +kernel) (loc := [some (.ref x0), some (va_rf r1), none, none, none, none, none]) (by first | exact Nat.le_of_ble_eq_true rfl | (simp only [lgl_rf, lgl_i, lgl_j, lgl_ref, lgl_nil]; exact Nat.le_of_ble_eq_true rfl)) (by first | rfl | (simp only [aent_rf, aent_i, aent_j, aent_ref, aent_nil]; rfl)) ?_
  unfold x_X9_fits at hq
  refine aw_iconst (v := 0) dX9_fits_0 (by decide) ?_
  refine aw_istore_n (i := 2) (loc' := [some (.ref x0), some (va_rf r1), some (.int (0 : Int32)), none, none, none, none]) dX9_fits_1 rfl (Nat.le_of_ble_eq_true rfl) (aset1_rf rfl) ?_
  refine aw_iconst (v := 0) dX9_fits_2 (by decide) ?_
  refine aw_istore_n (i := 3) (loc' := [some (.ref x0), some (va_rf r1), some (.int (0 : Int32)), some (.int (0 : Int32)), none, none, none]) dX9_fits_3 rfl (Nat.le_of_ble_eq_true rfl) rfl ?_
  refine aw_iconst (v := (-1)) dX9_fits_4 (by decide) ?_
  refine aw_istore (loc' := [some (.ref x0), some (va_rf r1), some (.int (0 : Int32)), some (.int (0 : Int32)), some (.int (-1 : Int32)), none, none]) dX9_fits_5 (Nat.le_of_ble_eq_true rfl) rfl ?_
  refine aw_iconst (v := 0) dX9_fits_7 (by decide) ?_
  refine aw_istore (loc' := [some (.ref x0), some (va_rf r1), some (.int (0 : Int32)), some (.int (0 : Int32)), some (.int (-1 : Int32)), some (.int (0 : Int32)), none]) dX9_fits_8 (Nat.le_of_ble_eq_true rfl) rfl ?_
  refine p_x_X9_fits_10 g hst N _ ?_ N h x0 r1 (0 : Int32) (0 : Int32) (-1 : Int32) (0 : Int32) _ hq
  · intro h x0 r1 x2 x3 x4 x5 q hq
    refine p_x_X9_fits_136 g hst N _ ?_ N h x0 r1 x2 x3 x4 x5 _ hq
    · intro h x0 r1 x2 x3 x4 x5 q hq
      exact p_x_X9_fits_166 g hst N   h x0 r1 x2 x3 x4 x5 _ hq
