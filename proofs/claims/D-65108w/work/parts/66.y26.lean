/-! THE COMPONENT AND THE JDK as functions of the heap, and their contracts: printed by wip gen/dec2.py -/
set_option maxRecDepth 100000
theorem tX3_8 : ∀ q ∈ ([(2, 8)] : List (Nat × Nat)), aFt q.1 q.2 false .boolean := by
  intro q hq
  simp only [List.mem_cons, List.not_mem_nil, or_false] at hq
  subst hq
  exact ⟨(RX3, TX3, 10), tyX3, Nat.le_of_ble_eq_true rfl, rfl, Nat.le_of_ble_eq_true rfl, okX3, rfl, rfl⟩
abbrev YX3_begin : YC := (yX3_begin, cX3_begin, 6, (some .int), [])
theorem kX3_begin : aMk YX3_begin 5 := ⟨rfl, q2023, q118, ⟨by decide +kernel, by decide +kernel, by decide +kernel⟩, Nat.le_of_ble_eq_true rfl⟩
def x_X3_begin_62 (g : AG) (N : Nat) (h : AH) (x0 : Nat) (r1 : Option Nat) (x2 : Int32) (x3 : Int32) (x4 : Int32) (x5 : Int32) (t1 : Option Nat) (s2 : Int32) (s3 : Int32) (s4 : Int32) : Option (Int32 × AH) :=
  bif clB h x0 [2] then ((x_X3_invoke g N h x0 t1 s2 s3 s4 (1 : Int32)).bind fun q26 => some (q26.1, q26.2)) else none
theorem p_x_X3_begin_62 (g : AG) (hst : (gL g).stackTraces = false) (N : Nat) : ∀ (h : AH) (x0 : Nat) (r1 : Option Nat) (x2 : Int32) (x3 : Int32) (x4 : Int32) (x5 : Int32) (t1 : Option Nat) (s2 : Int32) (s3 : Int32) (s4 : Int32) (q : (Int32 × AH)), x_X3_begin_62 g N h x0 r1 x2 x3 x4 x5 t1 s2 s3 s4 = some q → AW g YX3_begin 611 (xI q) h [some (.ref x0), some (va_rf r1), some (.int x2), some (.int x3), some (.int x4), some (.int x5)] 62 [.int s4, .int s3, .int s2, va_rf t1, .ref x0] := by
  intro h x0 r1 x2 x3 x4 x5 t1 s2 s3 s4 q hq
  unfold x_X3_begin_62 at hq
  refine aw_iconst (v := 1) dX3_begin_62 (by decide) ?_
  replace hq := cond_t hq
  obtain ⟨z25, hq⟩ := hq
  obtain ⟨fs9, ha9⟩ := clB1 z25
  replace hq := obind hq
  obtain ⟨q26, e27, hq⟩ := hq
  refine aw_callV (Y2 := YX3_invoke) (As := [va_rf t1, .int s2, .int s3, .int s4, .int (1 : Int32)]) (rest := []) (r := (RX3, TX3, 10)) kX3_invoke ha9 rfl rfl q2024 q2026 qs43 dX3_begin_63 rfl rfl (ct_X3_invoke g hst N h x0 t1 s2 s3 s4 (1 : Int32) _ e27) (Nat.le_of_ble_eq_true rfl) (Nat.le_of_ble_eq_true rfl) (fun v9 h9 z9 y9 => ?_)
  obtain ⟨rfl, rfl⟩ := y9
  refine aw_st (st' := [.int q26.1]) rfl ?_
  cases hq
  exact aw_ireturn dX3_begin_66 rfl rfl ⟨rfl, rfl⟩
def x_X3_begin_48 (g : AG) (N : Nat) (h : AH) (x0 : Nat) (r1 : Option Nat) (x2 : Int32) (x3 : Int32) (x4 : Int32) (x5 : Int32) (t1 : Option Nat) (s2 : Int32) (s3 : Int32) : Option (Int32 × AH) :=
  (r1).bind fun a20 => (rdI h a20 [(6, 2)]).bind fun i22 => if i22 ≤ (2 : Int32) then (x_X3_begin_62 g N  h x0 (some a20) x2 x3 x4 x5 t1 s2 s3 (0 : Int32)) else (x_X3_begin_62 g N  h x0 (some a20) x2 x3 x4 x5 t1 s2 s3 x4)
theorem p_x_X3_begin_48 (g : AG) (hst : (gL g).stackTraces = false) (N : Nat) : ∀ (h : AH) (x0 : Nat) (r1 : Option Nat) (x2 : Int32) (x3 : Int32) (x4 : Int32) (x5 : Int32) (t1 : Option Nat) (s2 : Int32) (s3 : Int32) (q : (Int32 × AH)), x_X3_begin_48 g N h x0 r1 x2 x3 x4 x5 t1 s2 s3 = some q → AW g YX3_begin 611 (xI q) h [some (.ref x0), some (va_rf r1), some (.int x2), some (.int x3), some (.int x4), some (.int x5)] 48 [.int s3, .int s2, va_rf t1, .ref x0] := by
  intro h x0 r1 x2 x3 x4 x5 t1 s2 s3 q hq
  unfold x_X3_begin_48 at hq
  refine aw_aload_n (i := 1) dX3_begin_48 rfl rfl (aIsR_rf _) ?_
  replace hq := obind hq
  obtain ⟨a20, e21, hq⟩ := hq
  subst e21
  replace hq := obind hq
  obtain ⟨i22, e23, hq⟩ := hq
  refine xw_getI e23 fX3_71 dX3_begin_49 ?_
  refine aw_iconst (v := 2) dX3_begin_52 (by decide) ?_
  refine aw_icmp_le (tgt := 61) dX3_begin_53 (by decide) (fun c24 => ?_) (fun c24 => ?_)
  · rw [if_pos c24] at hq
    refine aw_iconst (v := 0) dX3_begin_61 (by decide) ?_
    exact p_x_X3_begin_62 g hst N   h x0 (some a20) x2 x3 x4 x5 t1 s2 s3 (0 : Int32) _ hq
  · rw [if_neg c24] at hq
    refine aw_iload dX3_begin_56 rfl ?_
    refine aw_goto (tgt := 62) dX3_begin_58 (by decide) ?_
    exact p_x_X3_begin_62 g hst N   h x0 (some a20) x2 x3 x4 x5 t1 s2 s3 x4 _ hq
def x_X3_begin_35 (g : AG) (N : Nat) (h : AH) (x0 : Nat) (r1 : Option Nat) (x2 : Int32) (x3 : Int32) (x4 : Int32) (x5 : Int32) (t1 : Option Nat) (s2 : Int32) : Option (Int32 × AH) :=
  (r1).bind fun a15 => (rdI h a15 [(6, 2)]).bind fun i17 => if i17 ≤ (1 : Int32) then (x_X3_begin_48 g N  h x0 (some a15) x2 x3 x4 x5 t1 s2 (0 : Int32)) else (x_X3_begin_48 g N  h x0 (some a15) x2 x3 x4 x5 t1 s2 x3)
theorem p_x_X3_begin_35 (g : AG) (hst : (gL g).stackTraces = false) (N : Nat) : ∀ (h : AH) (x0 : Nat) (r1 : Option Nat) (x2 : Int32) (x3 : Int32) (x4 : Int32) (x5 : Int32) (t1 : Option Nat) (s2 : Int32) (q : (Int32 × AH)), x_X3_begin_35 g N h x0 r1 x2 x3 x4 x5 t1 s2 = some q → AW g YX3_begin 611 (xI q) h [some (.ref x0), some (va_rf r1), some (.int x2), some (.int x3), some (.int x4), some (.int x5)] 35 [.int s2, va_rf t1, .ref x0] := by
  intro h x0 r1 x2 x3 x4 x5 t1 s2 q hq
  unfold x_X3_begin_35 at hq
  refine aw_aload_n (i := 1) dX3_begin_35 rfl rfl (aIsR_rf _) ?_
  replace hq := obind hq
  obtain ⟨a15, e16, hq⟩ := hq
  subst e16
  replace hq := obind hq
  obtain ⟨i17, e18, hq⟩ := hq
  refine xw_getI e18 fX3_71 dX3_begin_36 ?_
  refine aw_iconst (v := 1) dX3_begin_39 (by decide) ?_
  refine aw_icmp_le (tgt := 47) dX3_begin_40 (by decide) (fun c19 => ?_) (fun c19 => ?_)
  · rw [if_pos c19] at hq
    refine aw_iconst (v := 0) dX3_begin_47 (by decide) ?_
    exact p_x_X3_begin_48 g hst N   h x0 (some a15) x2 x3 x4 x5 t1 s2 (0 : Int32) _ hq
  · rw [if_neg c19] at hq
    refine aw_iload_n (i := 3) dX3_begin_43 rfl rfl ?_
    refine aw_goto (tgt := 48) dX3_begin_44 (by decide) ?_
    exact p_x_X3_begin_48 g hst N   h x0 (some a15) x2 x3 x4 x5 t1 s2 x3 _ hq
def x_X3_begin (g : AG) (N : Nat) (h : AH) (x0 : Nat) (r1 : Option Nat) (x2 : Int32) (x3 : Int32) (x4 : Int32) (x5 : Int32) : Option (Int32 × AH) :=
  (wrV g h x0 [(2, 5)] (.int (0 : Int32))).bind fun h1 => (wrV g h1 x0 [(2, 6)] (.int (0 : Int32))).bind fun h3 => (wrV g h3 x0 [(2, 7)] (.int (0 : Int32))).bind fun h5 => bif isb x5 then ((wrV g h5 x0 [(2, 8)] (.int x5)).bind fun h8 => (r1).bind fun a10 => (rdI h8 a10 [(6, 2)]).bind fun i12 => if i12 ≤ 0 then (x_X3_begin_35 g N  h8 x0 (some a10) x2 x3 x4 x5 (some a10) (0 : Int32)) else (x_X3_begin_35 g N  h8 x0 (some a10) x2 x3 x4 x5 (some a10) x2)) else none
theorem ct_X3_begin (g : AG) (hst : (gL g).stackTraces = false) (N : Nat) : ∀ (h : AH) (x0 : Nat) (r1 : Option Nat) (x2 : Int32) (x3 : Int32) (x4 : Int32) (x5 : Int32) (q : (Int32 × AH)), x_X3_begin g N h x0 r1 x2 x3 x4 x5 = some q → CT g YX3_begin 611 [.ref x0, va_rf r1, .int x2, .int x3, .int x4, .int x5] h (xI q) := by
  intro h x0 r1 x2 x3 x4 x5 q hq
  refine CT.of rfl (by decide +kernel) (loc := [some (.ref x0), some (va_rf r1), some (.int x2), some (.int x3), some (.int x4), some (.int x5)]) (by first | exact Nat.le_of_ble_eq_true rfl | (simp only [lgl_rf, lgl_i, lgl_j, lgl_ref, lgl_nil]; exact Nat.le_of_ble_eq_true rfl)) (by first | rfl | (simp only [aent_rf, aent_i, aent_j, aent_ref, aent_nil]; rfl)) ?_
  unfold x_X3_begin at hq
  refine aw_aload_n (i := 0) dX3_begin_0 rfl rfl trivial ?_
  refine aw_iconst (v := 0) dX3_begin_1 (by decide) ?_
  replace hq := obind hq
  obtain ⟨h1, e2, hq⟩ := hq
  refine xw_put e2 fX3_85 tX3_5 (isb_ok (by decide)) dX3_begin_2 ?_
  refine aw_aload_n (i := 0) dX3_begin_5 rfl rfl trivial ?_
  refine aw_iconst (v := 0) dX3_begin_6 (by decide) ?_
  replace hq := obind hq
  obtain ⟨h3, e4, hq⟩ := hq
  refine xw_put e4 fX3_118 tX3_6 (isb_ok (by decide)) dX3_begin_7 ?_
  refine aw_aload_n (i := 0) dX3_begin_10 rfl rfl trivial ?_
  refine aw_iconst (v := 0) dX3_begin_11 (by decide) ?_
  replace hq := obind hq
  obtain ⟨h5, e6, hq⟩ := hq
  refine xw_put e6 fX3_214 tX3_7 ⟨rfl, rfl⟩ dX3_begin_12 ?_
  refine aw_aload_n (i := 0) dX3_begin_15 rfl rfl trivial ?_
  refine aw_iload dX3_begin_16 rfl ?_
  replace hq := cond_t hq
  obtain ⟨z7, hq⟩ := hq
  replace hq := obind hq
  obtain ⟨h8, e9, hq⟩ := hq
  refine xw_put e9 fX3_184 tX3_8 (isb_ok z7) dX3_begin_18 ?_
  refine aw_aload_n (i := 0) dX3_begin_21 rfl rfl trivial ?_
  refine aw_aload_n (i := 1) dX3_begin_22 rfl rfl (aIsR_rf _) ?_
  refine aw_aload_n (i := 1) dX3_begin_23 rfl rfl (aIsR_rf _) ?_
  replace hq := obind hq
  obtain ⟨a10, e11, hq⟩ := hq
  subst e11
  replace hq := obind hq
  obtain ⟨i12, e13, hq⟩ := hq
  refine xw_getI e13 fX3_71 dX3_begin_24 ?_
  refine aw_if_le (tgt := 34) dX3_begin_27 (by decide) (fun c14 => ?_) (fun c14 => ?_)
  · rw [if_pos c14] at hq
    refine aw_iconst (v := 0) dX3_begin_34 (by decide) ?_
    exact p_x_X3_begin_35 g hst N   h8 x0 (some a10) x2 x3 x4 x5 (some a10) (0 : Int32) _ hq
  · rw [if_neg c14] at hq
    refine aw_iload_n (i := 2) dX3_begin_30 rfl rfl ?_
    refine aw_goto (tgt := 35) dX3_begin_31 (by decide) ?_
    exact p_x_X3_begin_35 g hst N   h8 x0 (some a10) x2 x3 x4 x5 (some a10) x2 _ hq
theorem fX1_25 : ∀ q ∈ ([(0, 3)] : List (Nat × Nat)), aFl RX1 25 q.1 q.2 := by
  intro q hq
  simp only [List.mem_cons, List.not_mem_nil, or_false] at hq
  subst hq
  exact aFl.of (RX1, TX1, 5) rfl (Nat.le_of_ble_eq_true rfl) q356
theorem fX1_169 : ∀ q ∈ ([(0, 4)] : List (Nat × Nat)), aFl RX1 169 q.1 q.2 := by
  intro q hq
  simp only [List.mem_cons, List.not_mem_nil, or_false] at hq
  subst hq
  exact aFl.of (RX1, TX1, 5) rfl (Nat.le_of_ble_eq_true rfl) q357
theorem okX1 : aCK (RX1, TX1, 5) tyX1 := ⟨in_X1, tyX1_ok, nmX1⟩
theorem tX1_4 : ∀ q ∈ ([(0, 4)] : List (Nat × Nat)), aFt q.1 q.2 false .int := by
  intro q hq
  simp only [List.mem_cons, List.not_mem_nil, or_false] at hq
  subst hq
  exact ⟨(RX1, TX1, 5), tyX1, Nat.le_of_ble_eq_true rfl, rfl, Nat.le_of_ble_eq_true rfl, okX1, rfl, rfl⟩
theorem fX1_172 : ∀ q ∈ ([(2, 5)] : List (Nat × Nat)), aFl RX1 172 q.1 q.2 := by
  intro q hq
  simp only [List.mem_cons, List.not_mem_nil, or_false] at hq
  subst hq
  exact aFl.ofN (RX3, TX3, 10) rfl (Nat.le_of_ble_eq_true rfl) q326
abbrev YX1_begin : YC := (yX1_begin, cX1_begin, 6, (some .int), [])
theorem kX1_begin : aMk YX1_begin 5 := ⟨rfl, q2019, q116, ⟨by decide +kernel, by decide +kernel, by decide +kernel⟩, Nat.le_of_ble_eq_true rfl⟩
def x_X1_begin (g : AG) (N : Nat) (h : AH) (x0 : Nat) (r1 : Option Nat) (x2 : Int32) (x3 : Int32) (x4 : Int32) (x5 : Int32) : Option (Int32 × AH) :=
  (rdR h x0 [(0, 3)]).bind fun o1 => (o1).bind fun a3 => bif clB h a3 [2] then ((x_X3_begin g N h a3 r1 x2 x3 x4 x5).bind fun q6 => (wrV g q6.2 x0 [(0, 4)] (.int q6.1)).bind fun h8 => (rdR h8 x0 [(0, 3)]).bind fun o10 => (o10).bind fun a12 => (rdI h8 a12 [(2, 5)]).bind fun i14 => if i14 = 0 then (some ((0 : Int32), h8)) else (some ((1 : Int32), h8))) else none
theorem ct_X1_begin (g : AG) (hst : (gL g).stackTraces = false) (N : Nat) : ∀ (h : AH) (x0 : Nat) (r1 : Option Nat) (x2 : Int32) (x3 : Int32) (x4 : Int32) (x5 : Int32) (q : (Int32 × AH)), x_X1_begin g N h x0 r1 x2 x3 x4 x5 = some q → CT g YX1_begin 612 [.ref x0, va_rf r1, .int x2, .int x3, .int x4, .int x5] h (xI q) := by
  intro h x0 r1 x2 x3 x4 x5 q hq
  refine CT.of rfl (by decide +kernel) (loc := [some (.ref x0), some (va_rf r1), some (.int x2), some (.int x3), some (.int x4), some (.int x5)]) (by first | exact Nat.le_of_ble_eq_true rfl | (simp only [lgl_rf, lgl_i, lgl_j, lgl_ref, lgl_nil]; exact Nat.le_of_ble_eq_true rfl)) (by first | rfl | (simp only [aent_rf, aent_i, aent_j, aent_ref, aent_nil]; rfl)) ?_
  unfold x_X1_begin at hq
  refine aw_aload_n (i := 0) dX1_begin_0 rfl rfl trivial ?_
  refine aw_aload_n (i := 0) dX1_begin_1 rfl rfl trivial ?_
  replace hq := obind hq
  obtain ⟨o1, e2, hq⟩ := hq
  refine xw_getR e2 fX1_25 dX1_begin_2 ?_
  refine aw_aload_n (i := 1) dX1_begin_5 rfl rfl (aIsR_rf _) ?_
  refine aw_iload_n (i := 2) dX1_begin_6 rfl rfl ?_
  refine aw_iload_n (i := 3) dX1_begin_7 rfl rfl ?_
  refine aw_iload dX1_begin_8 rfl ?_
  refine aw_iload dX1_begin_10 rfl ?_
  replace hq := obind hq
  obtain ⟨a3, e4, hq⟩ := hq
  subst e4
  replace hq := cond_t hq
  obtain ⟨z5, hq⟩ := hq
  obtain ⟨fs9, ha9⟩ := clB1 z5
  replace hq := obind hq
  obtain ⟨q6, e7, hq⟩ := hq
  refine aw_callV (Y2 := YX3_begin) (As := [va_rf r1, .int x2, .int x3, .int x4, .int x5]) (rest := [.ref x0]) (r := (RX3, TX3, 10)) kX3_begin ha9 rfl rfl q2020 q2021 q2022 dX1_begin_12 rfl rfl (ct_X3_begin g hst N h a3 r1 x2 x3 x4 x5 _ e7) (Nat.le_of_ble_eq_true rfl) (Nat.le_of_ble_eq_true rfl) (fun v9 h9 z9 y9 => ?_)
  obtain ⟨rfl, rfl⟩ := y9
  refine aw_st (st' := [.int q6.1, .ref x0]) rfl ?_
  replace hq := obind hq
  obtain ⟨h8, e9, hq⟩ := hq
  refine xw_put e9 fX1_169 tX1_4 ⟨rfl, rfl⟩ dX1_begin_15 ?_
  refine aw_aload_n (i := 0) dX1_begin_18 rfl rfl trivial ?_
  replace hq := obind hq
  obtain ⟨o10, e11, hq⟩ := hq
  refine xw_getR e11 fX1_25 dX1_begin_19 ?_
  replace hq := obind hq
  obtain ⟨a12, e13, hq⟩ := hq
  subst e13
  replace hq := obind hq
  obtain ⟨i14, e15, hq⟩ := hq
  refine xw_getI e15 fX1_172 dX1_begin_22 ?_
  refine aw_if_eq (tgt := 32) dX1_begin_25 (by decide) (fun c16 => ?_) (fun c16 => ?_)
  · rw [if_pos c16] at hq
    refine aw_iconst (v := 0) dX1_begin_32 (by decide) ?_
    cases hq
    exact aw_ireturn dX1_begin_33 rfl rfl ⟨rfl, rfl⟩
  · rw [if_neg c16] at hq
    refine aw_iconst (v := 1) dX1_begin_28 (by decide) ?_
    refine aw_goto (tgt := 33) dX1_begin_29 (by decide) ?_
    cases hq
    exact aw_ireturn dX1_begin_33 rfl rfl ⟨rfl, rfl⟩
theorem fX1_55 : ∀ q ∈ ([(2, 1)] : List (Nat × Nat)), aFl RX1 55 q.1 q.2 := by
  intro q hq
  simp only [List.mem_cons, List.not_mem_nil, or_false] at hq
  subst hq
  exact aFl.ofN (RX3, TX3, 10) rfl (Nat.le_of_ble_eq_true rfl) q318
abbrev YX1_call : YC := (yX1_call, cX1_call, 5, (some .int), [])
theorem kX1_call : aMk YX1_call 4 := ⟨rfl, q1981, q116, ⟨by decide +kernel, by decide +kernel, by decide +kernel⟩, Nat.le_of_ble_eq_true rfl⟩
def x_X1_call (g : AG) (N : Nat) (h : AH) (x0 : Nat) (x1 : Int32) (x2 : Int32) (x3 : Int32) (x4 : Int32) : Option ((String ⊕ Int32) × AH) :=
  (rdR h x0 [(0, 3)]).bind fun o1 => (o1).bind fun a3 => (rdR h a3 [(2, 1)]).bind fun o5 => (o5).bind fun a7 => bif clB h a7 [13] then ((x_J4_size g N h a7).bind fun q10 => (x_X1_lies g N q10.2 x1 q10.1).bind fun q12 => tcase q12.1 (fun E14 => some (.inl E14, q12.2)) (fun v15 => (rdR q12.2 x0 [(0, 3)]).bind fun o16 => (o16).bind fun a18 => (rdR q12.2 a18 [(2, 1)]).bind fun o20 => (o20).bind fun a22 => bif clB q12.2 a22 [13] then ((x_J4_get g N q12.2 a22 x1).bind fun q25 => bif casB q25.2 q25.1 [6] then (bif clB q25.2 x0 [0] then ((x_X1_begin g N q25.2 x0 q25.1 x2 x3 x4 (0 : Int32)).bind fun q29 => some (.inr q29.1, q29.2)) else none) else none) else none)) else none
theorem ct_X1_call (g : AG) (hst : (gL g).stackTraces = false) (N : Nat) : ∀ (h : AH) (x0 : Nat) (x1 : Int32) (x2 : Int32) (x3 : Int32) (x4 : Int32) (q : ((String ⊕ Int32) × AH)), x_X1_call g N h x0 x1 x2 x3 x4 = some q → CT g YX1_call 613 [.ref x0, .int x1, .int x2, .int x3, .int x4] h (tI q) := by
  intro h x0 x1 x2 x3 x4 q hq
  refine CT.of rfl (by decide +kernel) (loc := [some (.ref x0), some (.int x1), some (.int x2), some (.int x3), some (.int x4)]) (by first | exact Nat.le_of_ble_eq_true rfl | (simp only [lgl_rf, lgl_i, lgl_j, lgl_ref, lgl_nil]; exact Nat.le_of_ble_eq_true rfl)) (by first | rfl | (simp only [aent_rf, aent_i, aent_j, aent_ref, aent_nil]; rfl)) ?_
  unfold x_X1_call at hq
  refine aw_iload_n (i := 1) dX1_call_0 rfl rfl ?_
  refine aw_aload_n (i := 0) dX1_call_1 rfl rfl trivial ?_
  replace hq := obind hq
  obtain ⟨o1, e2, hq⟩ := hq
  refine xw_getR e2 fX1_25 dX1_call_2 ?_
  replace hq := obind hq
  obtain ⟨a3, e4, hq⟩ := hq
  subst e4
  replace hq := obind hq
  obtain ⟨o5, e6, hq⟩ := hq
  refine xw_getR e6 fX1_55 dX1_call_5 ?_
  replace hq := obind hq
  obtain ⟨a7, e8, hq⟩ := hq
  subst e8
  replace hq := cond_t hq
  obtain ⟨z9, hq⟩ := hq
  obtain ⟨fs9, ha9⟩ := clB1 z9
  replace hq := obind hq
  obtain ⟨q10, e11, hq⟩ := hq
  refine aw_callF (Y2 := YJ4_size) (As := []) (rest := [.int x1]) (r := (RJ4, TJ4, 3)) (x := ⟨"java/util/List", "size", "()I"⟩) kJ4_size ha9 rfl (by decide) (by decide) ⟨by decide +kernel, by decide +kernel, by decide +kernel⟩ q378 q384 q382 dX1_call_8 rfl rfl (ct_J4_size g hst N h a7 _ e11) (Nat.le_of_ble_eq_true rfl) (Nat.le_of_ble_eq_true rfl) (fun v9 h9 z9 y9 => ?_)
  obtain ⟨rfl, rfl⟩ := y9
  refine aw_st (st' := [.int q10.1, .int x1]) rfl ?_
  replace hq := obind hq
  obtain ⟨q12, e13, hq⟩ := hq
  refine aw_callSX (Y2 := YX1_lies) (As := [.int x1, .int q10.1]) (rest := []) kX1_lies q1982 q1983 dX1_call_13 rfl rfl (ct_X1_lies g hst N q10.2 x1 q10.1 _ e13) (Nat.le_of_ble_eq_true rfl) (Nat.le_of_ble_eq_true rfl) (fun v9 h9 z9 y9 => ?_) (fun E14 h9 z9 y9 => ?_)
  rotate_left
  · obtain ⟨e9, rfl⟩ := tV_exc y9
    replace hq := tcase_l e9 hq
    cases hq
    exact ax_out (by decide) ⟨rfl, rfl⟩
  obtain ⟨v15, e9, rfl, rfl⟩ := tV_ret y9
  replace hq := tcase_r e9 hq
  refine aw_st (st' := []) rfl ?_
  refine aw_aload_n (i := 0) dX1_call_16 rfl rfl trivial ?_
  refine aw_aload_n (i := 0) dX1_call_17 rfl rfl trivial ?_
  replace hq := obind hq
  obtain ⟨o16, e17, hq⟩ := hq
  refine xw_getR e17 fX1_25 dX1_call_18 ?_
  replace hq := obind hq
  obtain ⟨a18, e19, hq⟩ := hq
  subst e19
  replace hq := obind hq
  obtain ⟨o20, e21, hq⟩ := hq
  refine xw_getR e21 fX1_55 dX1_call_21 ?_
  refine aw_iload_n (i := 1) dX1_call_24 rfl rfl ?_
  replace hq := obind hq
  obtain ⟨a22, e23, hq⟩ := hq
  subst e23
  replace hq := cond_t hq
  obtain ⟨z24, hq⟩ := hq
  obtain ⟨fs9, ha9⟩ := clB1 z24
  replace hq := obind hq
  obtain ⟨q25, e26, hq⟩ := hq
  refine aw_callF (Y2 := YJ4_get) (As := [.int x1]) (rest := [.ref x0]) (r := (RJ4, TJ4, 3)) (x := ⟨"java/util/List", "get", "(I)Ljava/lang/Object;"⟩) kJ4_get ha9 rfl (by decide) (by decide) ⟨by decide +kernel, by decide +kernel, by decide +kernel⟩ q1999 q2004 q2002 dX1_call_25 rfl rfl (ct_J4_get g hst N q12.2 a22 x1 _ e26) (Nat.le_of_ble_eq_true rfl) (Nat.le_of_ble_eq_true rfl) (fun v9 h9 z9 y9 => ?_)
  obtain ⟨rfl, rfl⟩ := y9
  refine aw_st (st' := [va_rf q25.1, .ref x0]) rfl ?_
  replace hq := cond_t hq
  obtain ⟨z27, hq⟩ := hq
  refine xw_cast (r := q25.1) z27 q2015 casProbeConsole_Method dX1_call_30 ?_
  refine aw_iload_n (i := 2) dX1_call_33 rfl rfl ?_
  refine aw_iload_n (i := 3) dX1_call_34 rfl rfl ?_
  refine aw_iload dX1_call_35 rfl ?_
  refine aw_iconst (v := 0) dX1_call_37 (by decide) ?_
  replace hq := cond_t hq
  obtain ⟨z28, hq⟩ := hq
  obtain ⟨fs9, ha9⟩ := clB1 z28
  replace hq := obind hq
  obtain ⟨q29, e30, hq⟩ := hq
  refine aw_callV (Y2 := YX1_begin) (As := [va_rf q25.1, .int x2, .int x3, .int x4, .int (0 : Int32)]) (rest := []) (r := (RX1, TX1, 5)) kX1_begin ha9 rfl rfl q2016 q2018 qs42 dX1_call_38 rfl rfl (ct_X1_begin g hst N q25.2 x0 q25.1 x2 x3 x4 (0 : Int32) _ e30) (Nat.le_of_ble_eq_true rfl) (Nat.le_of_ble_eq_true rfl) (fun v9 h9 z9 y9 => ?_)
  obtain ⟨rfl, rfl⟩ := y9
  refine aw_st (st' := [.int q29.1]) rfl ?_
  cases hq
  exact aw_ireturn dX1_call_41 rfl rfl ⟨rfl, rfl⟩
abbrev YX0_call : YC := (yX0_call, cX0_call, 7, (some .int), [(0, 14, 17, 19)])
theorem kX0_call : aMkW YX0_call 6 := ⟨rfl, q1958, q115, ⟨by decide +kernel, by decide +kernel, by decide +kernel⟩, Nat.le_of_ble_eq_true rfl⟩
def x_X0_call (g : AG) (N : Nat) (h : AH) (r0 : Option Nat) (x1 : Int32) (x2 : Int32) (x3 : Int32) (x4 : Int32) (r5 : Option Nat) : Option (Int32 × AH) :=
  (r0).bind fun a1 => bif clB h a1 [0] then ((x_X1_call g N h a1 x1 x2 x3 x4).bind fun q4 => tcase q4.1 (fun E6 => if E6 = "java/lang/IndexOutOfBoundsException" then (some ((1 : Int32), q4.2)) else (none)) (fun v7 => (r5).bind fun a9 => (wrA g q4.2 a9 1 (0 : Int32) (.long v7.toInt64)).bind fun h11 => some ((0 : Int32), h11))) else none
theorem ct_X0_call (g : AG) (hst : (gL g).stackTraces = false) (N : Nat) : ∀ (h : AH) (r0 : Option Nat) (x1 : Int32) (x2 : Int32) (x3 : Int32) (x4 : Int32) (r5 : Option Nat) (q : (Int32 × AH)), x_X0_call g N h r0 x1 x2 x3 x4 r5 = some q → CT g YX0_call 614 [va_rf r0, .int x1, .int x2, .int x3, .int x4, va_rf r5] h (xI q) := by
  intro h r0 x1 x2 x3 x4 r5 q hq
  refine CT.ofW rfl (by decide +kernel) (loc := [some (va_rf r0), some (.int x1), some (.int x2), some (.int x3), some (.int x4), some (va_rf r5), none]) (by first | exact Nat.le_of_ble_eq_true rfl | (simp only [lgl_rf, lgl_i, lgl_j, lgl_ref, lgl_nil]; exact Nat.le_of_ble_eq_true rfl)) (by first | rfl | (simp only [aent_rf, aent_i, aent_j, aent_ref, aent_nil]; rfl)) ?_
  unfold x_X0_call at hq
  refine aw_aload dX0_call_0 rfl (aIsR_rf _) ?_
  refine aw_iconst (v := 0) dX0_call_2 (by decide) ?_
  refine aw_aload_n (i := 0) dX0_call_3 rfl rfl (aIsR_rf _) ?_
  refine aw_iload_n (i := 1) dX0_call_4 rfl rfl ?_
  refine aw_iload_n (i := 2) dX0_call_5 rfl rfl ?_
  refine aw_iload_n (i := 3) dX0_call_6 rfl rfl ?_
  refine aw_iload dX0_call_7 rfl ?_
  replace hq := obind hq
  obtain ⟨a1, e2, hq⟩ := hq
  subst e2
  replace hq := cond_t hq
  obtain ⟨z3, hq⟩ := hq
  obtain ⟨fs9, ha9⟩ := clB1 z3
  replace hq := obind hq
  obtain ⟨q4, e5, hq⟩ := hq
  refine aw_callVX (Y2 := YX1_call) (As := [.int x1, .int x2, .int x3, .int x4]) (rest := [.int (0 : Int32), va_rf r5]) (r := (RX1, TX1, 5)) kX1_call ha9 rfl rfl q1978 q1979 q1980 dX0_call_9 rfl rfl (ct_X1_call g hst N h a1 x1 x2 x3 x4 _ e5) (Nat.le_of_ble_eq_true rfl) (by simp only [List.map_cons, List.map_nil, List.sum_cons, List.sum_nil, cat_rf]; exact Nat.le_of_ble_eq_true rfl) (fun v9 h9 z9 y9 => ?_) (fun E6 h9 z9 y9 => ?_)
  rotate_left
  · obtain ⟨e9, rfl⟩ := tI_exc y9
    replace hq := tcase_l e9 hq
    by_cases c8 : E6 = "java/lang/IndexOutOfBoundsException"
    · rw [if_pos c8] at hq
      subst c8
      refine xw_catch (x := ⟨0, 14, 17, 19⟩) (i := 6) (loc' := [some (.ref a1), some (.int x1), some (.int x2), some (.int x3), some (.int x4), some (va_rf r5), none]) (pc9 := 19) dX0_call_17 rfl (pre := []) (suf := []) rfl (fun z hz => by cases hz) (by decide) (by decide) q1959 q1987 (Nat.le_of_ble_eq_true rfl) rfl (Or.inl dX0_call_17) (fun _ => by first | rfl | (unfold akill; first | rfl | (split <;> first | rfl | (rename_i zz; simp at zz)))) (Nat.le_of_ble_eq_true rfl) ?_
      refine aw_iconst (v := 1) dX0_call_19 (by decide) ?_
      cases hq
      exact aw_ireturn dX0_call_20 rfl rfl ⟨rfl, rfl⟩
    rw [if_neg c8] at hq
    cases hq
  obtain ⟨v7, e9, rfl, rfl⟩ := tI_ret y9
  replace hq := tcase_r e9 hq
  refine aw_st (st' := [.int v7, .int (0 : Int32), va_rf r5]) rfl ?_
  refine aw_i2l dX0_call_12 ?_
  replace hq := obind hq
  obtain ⟨a9, e10, hq⟩ := hq
  subst e10
  replace hq := obind hq
  obtain ⟨h11, e12, hq⟩ := hq
  refine xw_last e12 dX0_call_13 ?_
  refine aw_goto (tgt := 21) dX0_call_14 (by decide) ?_
  refine aw_iconst (v := 0) dX0_call_21 (by decide) ?_
  cases hq
  exact aw_ireturn dX0_call_22 rfl rfl ⟨rfl, rfl⟩
abbrev YX1_fits : YC := (yX1_fits, cX1_fits, 1, none, [])
theorem kX1_fits : aMk YX1_fits 1 := ⟨rfl, q1952, q116, ⟨by decide +kernel, by decide +kernel, by decide +kernel⟩, Nat.le_of_ble_eq_true rfl⟩
def x_X1_fits (g : AG) (N : Nat) (h : AH) (x0 : Int32) : Option ((String ⊕ Unit) × AH) :=
  if x0 = 0 then ((mkX g h).bind fun h2 => some (.inl "java/lang/IllegalArgumentException", h2)) else (some (.inr (), h))
theorem ct_X1_fits (g : AG) (hst : (gL g).stackTraces = false) (N : Nat) : ∀ (h : AH) (x0 : Int32) (q : ((String ⊕ Unit) × AH)), x_X1_fits g N h x0 = some q → CT g YX1_fits 10 [.int x0] h (tV q) := by
  intro h x0 q hq
  refine CT.of rfl (by decide +kernel) (loc := [some (.int x0)]) (by first | exact Nat.le_of_ble_eq_true rfl | (simp only [lgl_rf, lgl_i, lgl_j, lgl_ref, lgl_nil]; exact Nat.le_of_ble_eq_true rfl)) (by first | rfl | (simp only [aent_rf, aent_i, aent_j, aent_ref, aent_nil]; rfl)) ?_
  unfold x_X1_fits at hq
  refine aw_iload_n (i := 0) dX1_fits_0 rfl rfl ?_
  refine aw_if_ne (tgt := 14) dX1_fits_1 (by decide) (fun c1 => ?_) (fun c1 => ?_)
  · rw [if_neg c1] at hq
    cases hq
    exact aw_vret dX1_fits_14 rfl ⟨rfl, rfl⟩
  · rw [if_pos c1] at hq
    replace hq := obind hq
    obtain ⟨h2, e3, hq⟩ := hq
    cases hq
    exact xw_throwS e3 hst thFits rfl (by omega) (by simp [cat_rf, Value.category]) dX1_fits_4 dX1_fits_7 dX1_fits_8 dX1_fits_10 dX1_fits_13 ⟨rfl, rfl⟩
theorem fX1_102 : ∀ q ∈ ([(2, 2)] : List (Nat × Nat)), aFl RX1 102 q.1 q.2 := by
  intro q hq
  simp only [List.mem_cons, List.not_mem_nil, or_false] at hq
  subst hq
  exact aFl.ofN (RX3, TX3, 10) rfl (Nat.le_of_ble_eq_true rfl) q320
theorem fX1_223 : ∀ q ∈ ([(7, 7)] : List (Nat × Nat)), aFl RX1 223 q.1 q.2 := by
  intro q hq
  simp only [List.mem_cons, List.not_mem_nil, or_false] at hq
  subst hq
  exact aFl.ofN (RX9, TX9, 8) rfl (Nat.le_of_ble_eq_true rfl) q1872
theorem fX1_214 : ∀ q ∈ ([(7, 0)] : List (Nat × Nat)), aFl RX1 214 q.1 q.2 := by
  intro q hq
  simp only [List.mem_cons, List.not_mem_nil, or_false] at hq
  subst hq
  exact aFl.ofN (RX9, TX9, 8) rfl (Nat.le_of_ble_eq_true rfl) q1856
abbrev YX1_counted : YC := (yX1_counted, cX1_counted, 5, (some .int), [])
theorem kX1_counted : aMk YX1_counted 3 := ⟨rfl, q2190, q116, ⟨by decide +kernel, by decide +kernel, by decide +kernel⟩, Nat.le_of_ble_eq_true rfl⟩
def x_X1_counted_67 (g : AG) (N : Nat) (h : AH) (x0 : Nat) (x1 : Int32) (x2 : Int32) (x3 : Int32) (r4 : Option Nat) (s0 : Int32) : Option ((String ⊕ Int32) × AH) :=
  (x_X1_fits g N h s0).bind fun q32 => tcase q32.1 (fun E34 => some (.inl E34, q32.2)) (fun v35 => (r4).bind fun a36 => (rdR q32.2 a36 [(7, 7)]).bind fun o38 => (o38).bind fun a40 => ((rdA q32.2 a40 0 (((3 : Int32) * x2) + x3)).bind vI).bind fun i42 => some (.inr i42, q32.2))
theorem p_x_X1_counted_67 (g : AG) (hst : (gL g).stackTraces = false) (N : Nat) : ∀ (h : AH) (x0 : Nat) (x1 : Int32) (x2 : Int32) (x3 : Int32) (r4 : Option Nat) (s0 : Int32) (q : ((String ⊕ Int32) × AH)), x_X1_counted_67 g N h x0 x1 x2 x3 r4 s0 = some q → AW g YX1_counted 11 (tI q) h [some (.ref x0), some (.int x1), some (.int x2), some (.int x3), some (va_rf r4)] 67 [.int s0] := by
  intro h x0 x1 x2 x3 r4 s0 q hq
  unfold x_X1_counted_67 at hq
  replace hq := obind hq
  obtain ⟨q32, e33, hq⟩ := hq
  refine aw_callSX (Y2 := YX1_fits) (As := [.int s0]) (rest := []) kX1_fits q1950 q1951 dX1_counted_67 rfl rfl (ct_X1_fits g hst N h s0 _ e33) (Nat.le_of_ble_eq_true rfl) (Nat.le_of_ble_eq_true rfl) (fun v9 h9 z9 y9 => ?_) (fun E34 h9 z9 y9 => ?_)
  rotate_left
  · obtain ⟨e9, rfl⟩ := tV_exc y9
    replace hq := tcase_l e9 hq
    cases hq
    exact ax_out (by decide) ⟨rfl, rfl⟩
  obtain ⟨v35, e9, rfl, rfl⟩ := tV_ret y9
  replace hq := tcase_r e9 hq
  refine aw_st (st' := []) rfl ?_
  refine aw_aload dX1_counted_70 rfl (aIsR_rf _) ?_
  replace hq := obind hq
  obtain ⟨a36, e37, hq⟩ := hq
  subst e37
  replace hq := obind hq
  obtain ⟨o38, e39, hq⟩ := hq
  refine xw_getR e39 fX1_223 dX1_counted_72 ?_
  refine aw_iconst (v := 3) dX1_counted_75 (by decide) ?_
  refine aw_iload_n (i := 2) dX1_counted_76 rfl rfl ?_
  refine aw_imul dX1_counted_77 ?_
  refine aw_iload_n (i := 3) dX1_counted_78 rfl rfl ?_
  refine aw_iadd dX1_counted_79 ?_
  replace hq := obind hq
  obtain ⟨a40, e41, hq⟩ := hq
  subst e41
  replace hq := obind hq
  obtain ⟨i42, e43, hq⟩ := hq
  refine xw_iald e43 dX1_counted_80 ?_
  cases hq
  exact aw_ireturn dX1_counted_81 rfl rfl ⟨rfl, rfl⟩
def x_X1_counted_66 (g : AG) (N : Nat) (h : AH) (x0 : Nat) (x1 : Int32) (x2 : Int32) (x3 : Int32) (r4 : Option Nat) : Option ((String ⊕ Int32) × AH) :=
  x_X1_counted_67 g N  h x0 x1 x2 x3 r4 (0 : Int32)
theorem p_x_X1_counted_66 (g : AG) (hst : (gL g).stackTraces = false) (N : Nat) : ∀ (h : AH) (x0 : Nat) (x1 : Int32) (x2 : Int32) (x3 : Int32) (r4 : Option Nat) (q : ((String ⊕ Int32) × AH)), x_X1_counted_66 g N h x0 x1 x2 x3 r4 = some q → AW g YX1_counted 11 (tI q) h [some (.ref x0), some (.int x1), some (.int x2), some (.int x3), some (va_rf r4)] 66 [] := by
  intro h x0 x1 x2 x3 r4 q hq
  unfold x_X1_counted_66 at hq
  refine aw_iconst (v := 0) dX1_counted_66 (by decide) ?_
  exact p_x_X1_counted_67 g hst N   h x0 x1 x2 x3 r4 (0 : Int32) _ hq
def x_X1_counted_38 (g : AG) (N : Nat) (h : AH) (x0 : Nat) (x1 : Int32) (x2 : Int32) (x3 : Int32) (r4 : Option Nat) (s0 : Int32) : Option ((String ⊕ Int32) × AH) :=
  (rdR h x0 [(0, 3)]).bind fun o16 => (o16).bind fun a18 => (rdR h a18 [(2, 1)]).bind fun o20 => (o20).bind fun a22 => bif clB h a22 [13] then ((x_J4_size g N h a22).bind fun q25 => (x_X1_lies g N q25.2 s0 q25.1).bind fun q27 => tcase q27.1 (fun E29 => some (.inl E29, q27.2)) (fun v30 => if x3 < 0 then (x_X1_counted_66 g N  q27.2 x0 x1 x2 x3 r4) else (if (2 : Int32) < x3 then (x_X1_counted_66 g N  q27.2 x0 x1 x2 x3 r4) else (x_X1_counted_67 g N  q27.2 x0 x1 x2 x3 r4 (1 : Int32))))) else none
theorem p_x_X1_counted_38 (g : AG) (hst : (gL g).stackTraces = false) (N : Nat) : ∀ (h : AH) (x0 : Nat) (x1 : Int32) (x2 : Int32) (x3 : Int32) (r4 : Option Nat) (s0 : Int32) (q : ((String ⊕ Int32) × AH)), x_X1_counted_38 g N h x0 x1 x2 x3 r4 s0 = some q → AW g YX1_counted 11 (tI q) h [some (.ref x0), some (.int x1), some (.int x2), some (.int x3), some (va_rf r4)] 38 [.int s0] := by
  intro h x0 x1 x2 x3 r4 s0 q hq
  unfold x_X1_counted_38 at hq
  refine aw_aload_n (i := 0) dX1_counted_38 rfl rfl trivial ?_
  replace hq := obind hq
  obtain ⟨o16, e17, hq⟩ := hq
  refine xw_getR e17 fX1_25 dX1_counted_39 ?_
  replace hq := obind hq
  obtain ⟨a18, e19, hq⟩ := hq
  subst e19
  replace hq := obind hq
  obtain ⟨o20, e21, hq⟩ := hq
  refine xw_getR e21 fX1_55 dX1_counted_42 ?_
  replace hq := obind hq
  obtain ⟨a22, e23, hq⟩ := hq
  subst e23
  replace hq := cond_t hq
  obtain ⟨z24, hq⟩ := hq
  obtain ⟨fs9, ha9⟩ := clB1 z24
  replace hq := obind hq
  obtain ⟨q25, e26, hq⟩ := hq
  refine aw_callF (Y2 := YJ4_size) (As := []) (rest := [.int s0]) (r := (RJ4, TJ4, 3)) (x := ⟨"java/util/List", "size", "()I"⟩) kJ4_size ha9 rfl (by decide) (by decide) ⟨by decide +kernel, by decide +kernel, by decide +kernel⟩ q378 q384 q382 dX1_counted_45 rfl rfl (ct_J4_size g hst N h a22 _ e26) (Nat.le_of_ble_eq_true rfl) (Nat.le_of_ble_eq_true rfl) (fun v9 h9 z9 y9 => ?_)
  obtain ⟨rfl, rfl⟩ := y9
  refine aw_st (st' := [.int q25.1, .int s0]) rfl ?_
  replace hq := obind hq
  obtain ⟨q27, e28, hq⟩ := hq
  refine aw_callSX (Y2 := YX1_lies) (As := [.int s0, .int q25.1]) (rest := []) kX1_lies q1982 q1983 dX1_counted_50 rfl rfl (ct_X1_lies g hst N q25.2 s0 q25.1 _ e28) (Nat.le_of_ble_eq_true rfl) (Nat.le_of_ble_eq_true rfl) (fun v9 h9 z9 y9 => ?_) (fun E29 h9 z9 y9 => ?_)
  rotate_left
  · obtain ⟨e9, rfl⟩ := tV_exc y9
    replace hq := tcase_l e9 hq
    cases hq
    exact ax_out (by decide) ⟨rfl, rfl⟩
  obtain ⟨v30, e9, rfl, rfl⟩ := tV_ret y9
  replace hq := tcase_r e9 hq
  refine aw_st (st' := []) rfl ?_
  refine aw_iload_n (i := 3) dX1_counted_53 rfl rfl ?_
  refine aw_if_lt (tgt := 66) dX1_counted_54 (by decide) (fun c31 => ?_) (fun c31 => ?_)
  · rw [if_pos c31] at hq
    exact p_x_X1_counted_66 g hst N   q27.2 x0 x1 x2 x3 r4 _ hq
  · rw [if_neg c31] at hq
    refine aw_iload_n (i := 3) dX1_counted_57 rfl rfl ?_
    refine aw_iconst (v := 2) dX1_counted_58 (by decide) ?_
    refine aw_icmp_gt (tgt := 66) dX1_counted_59 (by decide) (fun c44 => ?_) (fun c44 => ?_)
    · rw [if_pos c44] at hq
      exact p_x_X1_counted_66 g hst N   q27.2 x0 x1 x2 x3 r4 _ hq
    · rw [if_neg c44] at hq
      refine aw_iconst (v := 1) dX1_counted_62 (by decide) ?_
      refine aw_goto (tgt := 67) dX1_counted_63 (by decide) ?_
      exact p_x_X1_counted_67 g hst N   q27.2 x0 x1 x2 x3 r4 (1 : Int32) _ hq
def x_X1_counted_37 (g : AG) (N : Nat) (h : AH) (x0 : Nat) (x1 : Int32) (x2 : Int32) (x3 : Int32) (r4 : Option Nat) : Option ((String ⊕ Int32) × AH) :=
  x_X1_counted_38 g N  h x0 x1 x2 x3 r4 (-1 : Int32)
theorem p_x_X1_counted_37 (g : AG) (hst : (gL g).stackTraces = false) (N : Nat) : ∀ (h : AH) (x0 : Nat) (x1 : Int32) (x2 : Int32) (x3 : Int32) (r4 : Option Nat) (q : ((String ⊕ Int32) × AH)), x_X1_counted_37 g N h x0 x1 x2 x3 r4 = some q → AW g YX1_counted 11 (tI q) h [some (.ref x0), some (.int x1), some (.int x2), some (.int x3), some (va_rf r4)] 37 [] := by
  intro h x0 x1 x2 x3 r4 q hq
  unfold x_X1_counted_37 at hq
  refine aw_iconst (v := (-1)) dX1_counted_37 (by decide) ?_
  exact p_x_X1_counted_38 g hst N   h x0 x1 x2 x3 r4 (-1 : Int32) _ hq
def x_X1_counted (g : AG) (N : Nat) (h : AH) (x0 : Nat) (x1 : Int32) (x2 : Int32) (x3 : Int32) : Option ((String ⊕ Int32) × AH) :=
  (rdR h x0 [(0, 3)]).bind fun o1 => (o1).bind fun a3 => (rdR h a3 [(2, 2)]).bind fun o5 => (x_J21_valueOf g N h x1).bind fun q7 => (o5).bind fun a9 => bif clB q7.2 a9 [14] then ((x_J5_get g N q7.2 a9 q7.1).bind fun q12 => bif casB q12.2 q12.1 [7] then (ocase q12.1 (x_X1_counted_37 g N  q12.2 x0 x1 x2 x3 (none)) (fun a15 => (rdI q12.2 a15 [(7, 0)]).bind fun i45 => if i45 = (2 : Int32) then (x_X1_counted_38 g N  q12.2 x0 x1 x2 x3 (some a15) x2) else (x_X1_counted_37 g N  q12.2 x0 x1 x2 x3 (some a15)))) else none) else none
theorem ct_X1_counted (g : AG) (hst : (gL g).stackTraces = false) (N : Nat) : ∀ (h : AH) (x0 : Nat) (x1 : Int32) (x2 : Int32) (x3 : Int32) (q : ((String ⊕ Int32) × AH)), x_X1_counted g N h x0 x1 x2 x3 = some q → CT g YX1_counted 11 [.ref x0, .int x1, .int x2, .int x3] h (tI q) := by
  intro h x0 x1 x2 x3 q hq
  refine CT.of rfl (by decide +kernel) (loc := [some (.ref x0), some (.int x1), some (.int x2), some (.int x3), none]) (by first | exact Nat.le_of_ble_eq_true rfl | (simp only [lgl_rf, lgl_i, lgl_j, lgl_ref, lgl_nil]; exact Nat.le_of_ble_eq_true rfl)) (by first | rfl | (simp only [aent_rf, aent_i, aent_j, aent_ref, aent_nil]; rfl)) ?_
  unfold x_X1_counted at hq
  refine aw_aload_n (i := 0) dX1_counted_0 rfl rfl trivial ?_
  replace hq := obind hq
  obtain ⟨o1, e2, hq⟩ := hq
  refine xw_getR e2 fX1_25 dX1_counted_1 ?_
  replace hq := obind hq
  obtain ⟨a3, e4, hq⟩ := hq
  subst e4
  replace hq := obind hq
  obtain ⟨o5, e6, hq⟩ := hq
  refine xw_getR e6 fX1_102 dX1_counted_4 ?_
  refine aw_iload_n (i := 1) dX1_counted_7 rfl rfl ?_
  replace hq := obind hq
  obtain ⟨q7, e8, hq⟩ := hq
  refine aw_callS (Y2 := YJ21_valueOf) (As := [.int x1]) (rest := [va_rf o5]) kJ21_valueOf q1789 q1790 dX1_counted_8 rfl rfl (ct_J21_valueOf g hst N h x1 _ e8) (Nat.le_of_ble_eq_true rfl) (by simp only [List.map_cons, List.map_nil, List.sum_cons, List.sum_nil, cat_rf]; exact Nat.le_of_ble_eq_true rfl) (fun v9 h9 z9 y9 => ?_)
  obtain ⟨rfl, rfl⟩ := y9
  refine aw_st (st' := [va_rf q7.1, va_rf o5]) rfl ?_
  replace hq := obind hq
  obtain ⟨a9, e10, hq⟩ := hq
  subst e10
  replace hq := cond_t hq
  obtain ⟨z11, hq⟩ := hq
  obtain ⟨fs9, ha9⟩ := clB1 z11
  replace hq := obind hq
  obtain ⟨q12, e13, hq⟩ := hq
  refine aw_callV (Y2 := YJ5_get) (As := [va_rf q7.1]) (rest := []) (r := (RJ5, TJ5, 9)) kJ5_get ha9 rfl rfl q2182 q2038 q2039 dX1_counted_11 rfl rfl (ct_J5_get g hst N q7.2 a9 q7.1 _ e13) (Nat.le_of_ble_eq_true rfl) (Nat.le_of_ble_eq_true rfl) (fun v9 h9 z9 y9 => ?_)
  obtain ⟨rfl, rfl⟩ := y9
  refine aw_st (st' := [va_rf q12.1]) rfl ?_
  replace hq := cond_t hq
  obtain ⟨z14, hq⟩ := hq
  refine xw_cast (r := q12.1) z14 q2183 casProbeConsole_Job dX1_counted_14 ?_
  refine aw_astore (loc' := [some (.ref x0), some (.int x1), some (.int x2), some (.int x3), some (va_rf q12.1)]) dX1_counted_17 (Nat.le_of_ble_eq_true rfl) (aIsR_rf _) rfl ?_
  refine aw_aload dX1_counted_19 rfl (aIsR_rf _) ?_
  generalize q12.1 = v9 at hq ⊢
  rcases v9 with _ | a15
  · replace hq := ocase_n hq
    refine xw_ifnullN (tgt := 37) dX1_counted_21 (by decide) ?_
    exact p_x_X1_counted_37 g hst N   q12.2 x0 x1 x2 x3 (none) _ hq
  · replace hq := ocase_s hq
    refine xw_ifnullS (tgt := 37) dX1_counted_21 (by decide) ?_
    refine aw_aload dX1_counted_24 rfl trivial ?_
    replace hq := obind hq
    obtain ⟨i45, e46, hq⟩ := hq
    refine xw_getI e46 fX1_214 dX1_counted_26 ?_
    refine aw_iconst (v := 2) dX1_counted_29 (by decide) ?_
    refine aw_icmp_ne (tgt := 37) dX1_counted_30 (by decide) (fun c47 => ?_) (fun c47 => ?_)
    · rw [if_neg c47] at hq
      exact p_x_X1_counted_37 g hst N   q12.2 x0 x1 x2 x3 (some a15) _ hq
    · rw [if_pos c47] at hq
      refine aw_iload_n (i := 2) dX1_counted_33 rfl rfl ?_
      refine aw_goto (tgt := 38) dX1_counted_34 (by decide) ?_
      exact p_x_X1_counted_38 g hst N   q12.2 x0 x1 x2 x3 (some a15) x2 _ hq
abbrev YX0_counted : YC := (yX0_counted, cX0_counted, 6, (some .int), [(0, 12, 15, 19), (0, 12, 19, 13)])
theorem kX0_counted : aMkW YX0_counted 5 := ⟨rfl, q2186, q115, ⟨by decide +kernel, by decide +kernel, by decide +kernel⟩, Nat.le_of_ble_eq_true rfl⟩
def x_X0_counted (g : AG) (N : Nat) (h : AH) (r0 : Option Nat) (x1 : Int32) (x2 : Int32) (x3 : Int32) (r4 : Option Nat) : Option (Int32 × AH) :=
  (r0).bind fun a1 => bif clB h a1 [0] then ((x_X1_counted g N h a1 x1 x2 x3).bind fun q4 => tcase q4.1 (fun E6 => if E6 = "java/lang/IndexOutOfBoundsException" then (some ((1 : Int32), q4.2)) else (if E6 = "java/lang/IllegalArgumentException" then (some ((2 : Int32), q4.2)) else (none))) (fun v7 => (r4).bind fun a10 => (wrA g q4.2 a10 1 (0 : Int32) (.long v7.toInt64)).bind fun h12 => some ((0 : Int32), h12))) else none
theorem ct_X0_counted (g : AG) (hst : (gL g).stackTraces = false) (N : Nat) : ∀ (h : AH) (r0 : Option Nat) (x1 : Int32) (x2 : Int32) (x3 : Int32) (r4 : Option Nat) (q : (Int32 × AH)), x_X0_counted g N h r0 x1 x2 x3 r4 = some q → CT g YX0_counted 12 [va_rf r0, .int x1, .int x2, .int x3, va_rf r4] h (xI q) := by
  intro h r0 x1 x2 x3 r4 q hq
  refine CT.ofW rfl (by decide +kernel) (loc := [some (va_rf r0), some (.int x1), some (.int x2), some (.int x3), some (va_rf r4), none]) (by first | exact Nat.le_of_ble_eq_true rfl | (simp only [lgl_rf, lgl_i, lgl_j, lgl_ref, lgl_nil]; exact Nat.le_of_ble_eq_true rfl)) (by first | rfl | (simp only [aent_rf, aent_i, aent_j, aent_ref, aent_nil]; rfl)) ?_
  unfold x_X0_counted at hq
  refine aw_aload dX0_counted_0 rfl (aIsR_rf _) ?_
  refine aw_iconst (v := 0) dX0_counted_2 (by decide) ?_
  refine aw_aload_n (i := 0) dX0_counted_3 rfl rfl (aIsR_rf _) ?_
  refine aw_iload_n (i := 1) dX0_counted_4 rfl rfl ?_
  refine aw_iload_n (i := 2) dX0_counted_5 rfl rfl ?_
  refine aw_iload_n (i := 3) dX0_counted_6 rfl rfl ?_
  replace hq := obind hq
  obtain ⟨a1, e2, hq⟩ := hq
  subst e2
  replace hq := cond_t hq
  obtain ⟨z3, hq⟩ := hq
  obtain ⟨fs9, ha9⟩ := clB1 z3
  replace hq := obind hq
  obtain ⟨q4, e5, hq⟩ := hq
  refine aw_callVX (Y2 := YX1_counted) (As := [.int x1, .int x2, .int x3]) (rest := [.int (0 : Int32), va_rf r4]) (r := (RX1, TX1, 5)) kX1_counted ha9 rfl rfl q2187 q2188 q2189 dX0_counted_7 rfl rfl (ct_X1_counted g hst N h a1 x1 x2 x3 _ e5) (Nat.le_of_ble_eq_true rfl) (by simp only [List.map_cons, List.map_nil, List.sum_cons, List.sum_nil, cat_rf]; exact Nat.le_of_ble_eq_true rfl) (fun v9 h9 z9 y9 => ?_) (fun E6 h9 z9 y9 => ?_)
  rotate_left
  · obtain ⟨e9, rfl⟩ := tI_exc y9
    replace hq := tcase_l e9 hq
    by_cases c8 : E6 = "java/lang/IndexOutOfBoundsException"
    · rw [if_pos c8] at hq
      subst c8
      refine xw_catch (x := ⟨0, 12, 15, 19⟩) (i := 5) (loc' := [some (.ref a1), some (.int x1), some (.int x2), some (.int x3), some (va_rf r4), none]) (pc9 := 17) dX0_counted_15 rfl (pre := []) (suf := [⟨0, 12, 19, 13⟩]) rfl (fun z hz => by cases hz) (by decide) (by decide) q1959 q1987 (Nat.le_of_ble_eq_true rfl) rfl (Or.inl dX0_counted_15) (fun _ => by first | rfl | (unfold akill; first | rfl | (split <;> first | rfl | (rename_i zz; simp at zz)))) (Nat.le_of_ble_eq_true rfl) ?_
      refine aw_iconst (v := 1) dX0_counted_17 (by decide) ?_
      cases hq
      exact aw_ireturn dX0_counted_18 rfl rfl ⟨rfl, rfl⟩
    rw [if_neg c8] at hq
    by_cases c9 : E6 = "java/lang/IllegalArgumentException"
    · rw [if_pos c9] at hq
      subst c9
      refine xw_catch (x := ⟨0, 12, 19, 13⟩) (i := 5) (loc' := [some (.ref a1), some (.int x1), some (.int x2), some (.int x3), some (va_rf r4), none]) (pc9 := 21) dX0_counted_19 rfl (pre := [⟨0, 12, 15, 19⟩]) (suf := []) rfl (fun z hz => by
        cases List.mem_singleton.mp hz
        exact Or.inr ⟨by decide, "java/lang/IndexOutOfBoundsException", q1959, by decide⟩) (by decide) (by decide) q1945 q646 (Nat.le_of_ble_eq_true rfl) rfl (Or.inl dX0_counted_19) (fun _ => by first | rfl | (unfold akill; first | rfl | (split <;> first | rfl | (rename_i zz; simp at zz)))) (Nat.le_of_ble_eq_true rfl) ?_
      refine aw_iconst (v := 2) dX0_counted_21 (by decide) ?_
      cases hq
      exact aw_ireturn dX0_counted_22 rfl rfl ⟨rfl, rfl⟩
    rw [if_neg c9] at hq
    cases hq
  obtain ⟨v7, e9, rfl, rfl⟩ := tI_ret y9
  replace hq := tcase_r e9 hq
  refine aw_st (st' := [.int v7, .int (0 : Int32), va_rf r4]) rfl ?_
  refine aw_i2l dX0_counted_10 ?_
  replace hq := obind hq
  obtain ⟨a10, e11, hq⟩ := hq
  subst e11
  replace hq := obind hq
  obtain ⟨h12, e13, hq⟩ := hq
  refine xw_last e13 dX0_counted_11 ?_
  refine aw_goto (tgt := 23) dX0_counted_12 (by decide) ?_
  refine aw_iconst (v := 0) dX0_counted_23 (by decide) ?_
  cases hq
  exact aw_ireturn dX0_counted_24 rfl rfl ⟨rfl, rfl⟩
theorem fX1_45 : ∀ q ∈ ([(0, 1)] : List (Nat × Nat)), aFl RX1 45 q.1 q.2 := by
  intro q hq
  simp only [List.mem_cons, List.not_mem_nil, or_false] at hq
  subst hq
  exact aFl.of (RX1, TX1, 5) rfl (Nat.le_of_ble_eq_true rfl) q354
theorem fX1_9 : ∀ q ∈ ([(0, 0)] : List (Nat × Nat)), aFl RX1 9 q.1 q.2 := by
  intro q hq
  simp only [List.mem_cons, List.not_mem_nil, or_false] at hq
  subst hq
  exact aFl.of (RX1, TX1, 5) rfl (Nat.le_of_ble_eq_true rfl) q353
theorem tX1_1 : ∀ q ∈ ([(0, 1)] : List (Nat × Nat)), aFt q.1 q.2 false .int := by
  intro q hq
  simp only [List.mem_cons, List.not_mem_nil, or_false] at hq
  subst hq
  exact ⟨(RX1, TX1, 5), tyX1, Nat.le_of_ble_eq_true rfl, rfl, Nat.le_of_ble_eq_true rfl, okX1, rfl, rfl⟩
abbrev YX1_feed : YC := (yX1_feed, cX1_feed, 5, (some .int), [])
theorem kX1_feed : aMk YX1_feed 2 := ⟨rfl, q1949, q116, ⟨by decide +kernel, by decide +kernel, by decide +kernel⟩, Nat.le_of_ble_eq_true rfl⟩
def x_X1_feed_36 (g : AG) (N : Nat) : Nat → AH → Nat → Int32 → Int64 → Int32 → Option ((String ⊕ Int32) × AH)
  | 0, _, _, _, _, _ => none
  | n9 + 1, h, x0, x1, x2, x4 =>
  if x1 ≤ x4 then ((rdI h x0 [(0, 1)]).bind fun i10 => some (.inr i10, h)) else ((rdR h x0 [(0, 0)]).bind fun o12 => (rdI h x0 [(0, 1)]).bind fun i14 => (o12).bind fun a16 => (wrA g h a16 3 i14 (.int (((x2 >>> (((8 : Int32) * x4).toInt64 &&& 63)).toInt32).toInt8.toInt32).toInt8.toInt32)).bind fun h18 => (rdI h18 x0 [(0, 1)]).bind fun i20 => (wrV g h18 x0 [(0, 1)] (.int (i20 + (1 : Int32)))).bind fun h22 => x_X1_feed_36 g N n9 h22 x0 x1 x2 (x4 + 1))
theorem p_x_X1_feed_36 (g : AG) (hst : (gL g).stackTraces = false) (N : Nat) : ∀ (n9 : Nat) (h : AH) (x0 : Nat) (x1 : Int32) (x2 : Int64) (x4 : Int32) (q : ((String ⊕ Int32) × AH)), x_X1_feed_36 g N n9 h x0 x1 x2 x4 = some q → AW g YX1_feed 11 (tI q) h [some (.ref x0), some (.int x1), some (.long x2), none, some (.int x4)] 36 [] := by
  intro n9
  induction n9 with
  | zero =>
    intro h x0 x1 x2 x4 q hq
    cases hq
  | succ n9 ih =>
    intro h x0 x1 x2 x4 q hq
    rw [x_X1_feed_36] at hq
    refine aw_iload dX1_feed_36 rfl ?_
    refine aw_iload_n (i := 1) dX1_feed_38 rfl rfl ?_
    refine aw_icmp_ge (tgt := 76) dX1_feed_39 (by decide) (fun c9 => ?_) (fun c9 => ?_)
    · rw [if_pos c9] at hq
      refine aw_aload_n (i := 0) dX1_feed_76 rfl rfl trivial ?_
      replace hq := obind hq
      obtain ⟨i10, e11, hq⟩ := hq
      refine xw_getI e11 fX1_45 dX1_feed_77 ?_
      cases hq
      exact aw_ireturn dX1_feed_80 rfl rfl ⟨rfl, rfl⟩
    · rw [if_neg c9] at hq
      refine aw_aload_n (i := 0) dX1_feed_42 rfl rfl trivial ?_
      replace hq := obind hq
      obtain ⟨o12, e13, hq⟩ := hq
      refine xw_getR e13 fX1_9 dX1_feed_43 ?_
      refine aw_aload_n (i := 0) dX1_feed_46 rfl rfl trivial ?_
      replace hq := obind hq
      obtain ⟨i14, e15, hq⟩ := hq
      refine xw_getI e15 fX1_45 dX1_feed_47 ?_
      refine aw_lload_n (i := 2) dX1_feed_50 rfl rfl ?_
      refine aw_bipush (v := 8) dX1_feed_51 (by decide) ?_
      refine aw_iload dX1_feed_53 rfl ?_
      refine aw_imul dX1_feed_55 ?_
      refine aw_lshr dX1_feed_56 ?_
      refine aw_l2i dX1_feed_57 ?_
      refine aw_i2b dX1_feed_58 ?_
      replace hq := obind hq
      obtain ⟨a16, e17, hq⟩ := hq
      subst e17
      replace hq := obind hq
      obtain ⟨h18, e19, hq⟩ := hq
      refine xw_bast e19 dX1_feed_59 ?_
      refine aw_aload_n (i := 0) dX1_feed_60 rfl rfl trivial ?_
      refine aw_dup dX1_feed_61 rfl ?_
      replace hq := obind hq
      obtain ⟨i20, e21, hq⟩ := hq
      refine xw_getI e21 fX1_45 dX1_feed_62 ?_
      refine aw_iconst (v := 1) dX1_feed_65 (by decide) ?_
      refine aw_iadd dX1_feed_66 ?_
      replace hq := obind hq
      obtain ⟨h22, e23, hq⟩ := hq
      refine xw_put e23 fX1_45 tX1_1 ⟨rfl, rfl⟩ dX1_feed_67 ?_
      refine aw_iinc (v := x4 + 1) (loc' := [some (.ref x0), some (.int x1), some (.long x2), none, some (.int (x4 + 1))]) dX1_feed_70 rfl rfl (Nat.le_of_ble_eq_true rfl) rfl ?_
      refine aw_goto (tgt := 36) dX1_feed_73 (by decide) ?_
      exact ih h22 x0 x1 x2 (x4 + 1) _ hq
def x_X1_feed_16 (g : AG) (N : Nat) (h : AH) (x0 : Nat) (x1 : Int32) (x2 : Int64) (s0 : Int32) : Option ((String ⊕ Int32) × AH) :=
  (x_X1_fits g N h s0).bind fun q2 => tcase q2.1 (fun E4 => some (.inl E4, q2.2)) (fun v5 => (rdI q2.2 x0 [(0, 1)]).bind fun i6 => if (i6 + x1) ≤ (200 : Int32) then (x_X1_feed_36 g N  N q2.2 x0 x1 x2 (0 : Int32)) else (some (.inr (-1 : Int32), q2.2)))
theorem p_x_X1_feed_16 (g : AG) (hst : (gL g).stackTraces = false) (N : Nat) : ∀ (h : AH) (x0 : Nat) (x1 : Int32) (x2 : Int64) (s0 : Int32) (q : ((String ⊕ Int32) × AH)), x_X1_feed_16 g N h x0 x1 x2 s0 = some q → AW g YX1_feed 11 (tI q) h [some (.ref x0), some (.int x1), some (.long x2), none, none] 16 [.int s0] := by
  intro h x0 x1 x2 s0 q hq
  unfold x_X1_feed_16 at hq
  replace hq := obind hq
  obtain ⟨q2, e3, hq⟩ := hq
  refine aw_callSX (Y2 := YX1_fits) (As := [.int s0]) (rest := []) kX1_fits q1950 q1951 dX1_feed_16 rfl rfl (ct_X1_fits g hst N h s0 _ e3) (Nat.le_of_ble_eq_true rfl) (Nat.le_of_ble_eq_true rfl) (fun v9 h9 z9 y9 => ?_) (fun E4 h9 z9 y9 => ?_)
  rotate_left
  · obtain ⟨e9, rfl⟩ := tV_exc y9
    replace hq := tcase_l e9 hq
    cases hq
    exact ax_out (by decide) ⟨rfl, rfl⟩
  obtain ⟨v5, e9, rfl, rfl⟩ := tV_ret y9
  replace hq := tcase_r e9 hq
  refine aw_st (st' := []) rfl ?_
  refine aw_aload_n (i := 0) dX1_feed_19 rfl rfl trivial ?_
  replace hq := obind hq
  obtain ⟨i6, e7, hq⟩ := hq
  refine xw_getI e7 fX1_45 dX1_feed_20 ?_
  refine aw_iload_n (i := 1) dX1_feed_23 rfl rfl ?_
  refine aw_iadd dX1_feed_24 ?_
  refine aw_sipush (v := 200) dX1_feed_25 (by decide) ?_
  refine aw_icmp_le (tgt := 33) dX1_feed_28 (by decide) (fun c8 => ?_) (fun c8 => ?_)
  · rw [if_pos c8] at hq
    refine aw_iconst (v := 0) dX1_feed_33 (by decide) ?_
    refine aw_istore (loc' := [some (.ref x0), some (.int x1), some (.long x2), none, some (.int (0 : Int32))]) dX1_feed_34 (Nat.le_of_ble_eq_true rfl) rfl ?_
    exact p_x_X1_feed_36 g hst N   N q2.2 x0 x1 x2 (0 : Int32) _ hq
  · rw [if_neg c8] at hq
    refine aw_iconst (v := (-1)) dX1_feed_31 (by decide) ?_
    cases hq
    exact aw_ireturn dX1_feed_32 rfl rfl ⟨rfl, rfl⟩
def x_X1_feed_15 (g : AG) (N : Nat) (h : AH) (x0 : Nat) (x1 : Int32) (x2 : Int64) : Option ((String ⊕ Int32) × AH) :=
  x_X1_feed_16 g N  h x0 x1 x2 (0 : Int32)
theorem p_x_X1_feed_15 (g : AG) (hst : (gL g).stackTraces = false) (N : Nat) : ∀ (h : AH) (x0 : Nat) (x1 : Int32) (x2 : Int64) (q : ((String ⊕ Int32) × AH)), x_X1_feed_15 g N h x0 x1 x2 = some q → AW g YX1_feed 11 (tI q) h [some (.ref x0), some (.int x1), some (.long x2), none, none] 15 [] := by
  intro h x0 x1 x2 q hq
  unfold x_X1_feed_15 at hq
  refine aw_iconst (v := 0) dX1_feed_15 (by decide) ?_
  exact p_x_X1_feed_16 g hst N   h x0 x1 x2 (0 : Int32) _ hq
def x_X1_feed (g : AG) (N : Nat) (h : AH) (x0 : Nat) (x1 : Int32) (x2 : Int64) : Option ((String ⊕ Int32) × AH) :=
  if x1 < (1 : Int32) then (x_X1_feed_15 g N  h x0 x1 x2) else (if (8 : Int32) < x1 then (x_X1_feed_15 g N  h x0 x1 x2) else (x_X1_feed_16 g N  h x0 x1 x2 (1 : Int32)))
theorem ct_X1_feed (g : AG) (hst : (gL g).stackTraces = false) (N : Nat) : ∀ (h : AH) (x0 : Nat) (x1 : Int32) (x2 : Int64) (q : ((String ⊕ Int32) × AH)), x_X1_feed g N h x0 x1 x2 = some q → CT g YX1_feed 11 [.ref x0, .int x1, .long x2] h (tI q) := by
  intro h x0 x1 x2 q hq
  refine CT.of rfl (by decide +kernel) (loc := [some (.ref x0), some (.int x1), some (.long x2), none, none]) (by first | exact Nat.le_of_ble_eq_true rfl | (simp only [lgl_rf, lgl_i, lgl_j, lgl_ref, lgl_nil]; exact Nat.le_of_ble_eq_true rfl)) (by first | rfl | (simp only [aent_rf, aent_i, aent_j, aent_ref, aent_nil]; rfl)) ?_
  unfold x_X1_feed at hq
  refine aw_iload_n (i := 1) dX1_feed_0 rfl rfl ?_
  refine aw_iconst (v := 1) dX1_feed_1 (by decide) ?_
  refine aw_icmp_lt (tgt := 15) dX1_feed_2 (by decide) (fun c1 => ?_) (fun c1 => ?_)
  · rw [if_pos c1] at hq
    exact p_x_X1_feed_15 g hst N   h x0 x1 x2 _ hq
  · rw [if_neg c1] at hq
    refine aw_iload_n (i := 1) dX1_feed_5 rfl rfl ?_
    refine aw_bipush (v := 8) dX1_feed_6 (by decide) ?_
    refine aw_icmp_gt (tgt := 15) dX1_feed_8 (by decide) (fun c24 => ?_) (fun c24 => ?_)
    · rw [if_pos c24] at hq
      exact p_x_X1_feed_15 g hst N   h x0 x1 x2 _ hq
    · rw [if_neg c24] at hq
      refine aw_iconst (v := 1) dX1_feed_11 (by decide) ?_
      refine aw_goto (tgt := 16) dX1_feed_12 (by decide) ?_
      exact p_x_X1_feed_16 g hst N   h x0 x1 x2 (1 : Int32) _ hq
abbrev YX0_feed : YC := (yX0_feed, cX0_feed, 6, (some .int), [(0, 11, 14, 13)])
theorem kX0_feed : aMkW YX0_feed 4 := ⟨rfl, q1944, q115, ⟨by decide +kernel, by decide +kernel, by decide +kernel⟩, Nat.le_of_ble_eq_true rfl⟩
def x_X0_feed (g : AG) (N : Nat) (h : AH) (r0 : Option Nat) (x1 : Int32) (x2 : Int64) (r4 : Option Nat) : Option (Int32 × AH) :=
  (r0).bind fun a1 => bif clB h a1 [0] then ((x_X1_feed g N h a1 x1 x2).bind fun q4 => tcase q4.1 (fun E6 => if E6 = "java/lang/IllegalArgumentException" then (some ((1 : Int32), q4.2)) else (none)) (fun v7 => (r4).bind fun a9 => (wrA g q4.2 a9 1 (0 : Int32) (.long v7.toInt64)).bind fun h11 => some ((0 : Int32), h11))) else none
theorem ct_X0_feed (g : AG) (hst : (gL g).stackTraces = false) (N : Nat) : ∀ (h : AH) (r0 : Option Nat) (x1 : Int32) (x2 : Int64) (r4 : Option Nat) (q : (Int32 × AH)), x_X0_feed g N h r0 x1 x2 r4 = some q → CT g YX0_feed 12 [va_rf r0, .int x1, .long x2, va_rf r4] h (xI q) := by
  intro h r0 x1 x2 r4 q hq
  refine CT.ofW rfl (by decide +kernel) (loc := [some (va_rf r0), some (.int x1), some (.long x2), none, some (va_rf r4), none]) (by first | exact Nat.le_of_ble_eq_true rfl | (simp only [lgl_rf, lgl_i, lgl_j, lgl_ref, lgl_nil]; exact Nat.le_of_ble_eq_true rfl)) (by first | rfl | (simp only [aent_rf, aent_i, aent_j, aent_ref, aent_nil]; rfl)) ?_
  unfold x_X0_feed at hq
  refine aw_aload dX0_feed_0 rfl (aIsR_rf _) ?_
  refine aw_iconst (v := 0) dX0_feed_2 (by decide) ?_
  refine aw_aload_n (i := 0) dX0_feed_3 rfl rfl (aIsR_rf _) ?_
  refine aw_iload_n (i := 1) dX0_feed_4 rfl rfl ?_
  refine aw_lload_n (i := 2) dX0_feed_5 rfl rfl ?_
  replace hq := obind hq
  obtain ⟨a1, e2, hq⟩ := hq
  subst e2
  replace hq := cond_t hq
  obtain ⟨z3, hq⟩ := hq
  obtain ⟨fs9, ha9⟩ := clB1 z3
  replace hq := obind hq
  obtain ⟨q4, e5, hq⟩ := hq
  refine aw_callVX (Y2 := YX1_feed) (As := [.int x1, .long x2]) (rest := [.int (0 : Int32), va_rf r4]) (r := (RX1, TX1, 5)) kX1_feed ha9 rfl rfl q1946 q1947 q1948 dX0_feed_6 rfl rfl (ct_X1_feed g hst N h a1 x1 x2 _ e5) (Nat.le_of_ble_eq_true rfl) (by simp only [List.map_cons, List.map_nil, List.sum_cons, List.sum_nil, cat_rf]; exact Nat.le_of_ble_eq_true rfl) (fun v9 h9 z9 y9 => ?_) (fun E6 h9 z9 y9 => ?_)
  rotate_left
  · obtain ⟨e9, rfl⟩ := tI_exc y9
    replace hq := tcase_l e9 hq
    by_cases c8 : E6 = "java/lang/IllegalArgumentException"
    · rw [if_pos c8] at hq
      subst c8
      refine xw_catch (x := ⟨0, 11, 14, 13⟩) (i := 5) (loc' := [some (.ref a1), some (.int x1), some (.long x2), none, some (va_rf r4), none]) (pc9 := 16) dX0_feed_14 rfl (pre := []) (suf := []) rfl (fun z hz => by cases hz) (by decide) (by decide) q1945 q646 (Nat.le_of_ble_eq_true rfl) rfl (Or.inl dX0_feed_14) (fun _ => by first | rfl | (unfold akill; first | rfl | (split <;> first | rfl | (rename_i zz; simp at zz)))) (Nat.le_of_ble_eq_true rfl) ?_
      refine aw_iconst (v := 1) dX0_feed_16 (by decide) ?_
      cases hq
      exact aw_ireturn dX0_feed_17 rfl rfl ⟨rfl, rfl⟩
    rw [if_neg c8] at hq
    cases hq
  obtain ⟨v7, e9, rfl, rfl⟩ := tI_ret y9
  replace hq := tcase_r e9 hq
  refine aw_st (st' := [.int v7, .int (0 : Int32), va_rf r4]) rfl ?_
  refine aw_i2l dX0_feed_9 ?_
  replace hq := obind hq
  obtain ⟨a9, e10, hq⟩ := hq
  subst e10
  replace hq := obind hq
  obtain ⟨h11, e12, hq⟩ := hq
  refine xw_last e12 dX0_feed_10 ?_
  refine aw_goto (tgt := 18) dX0_feed_11 (by decide) ?_
  refine aw_iconst (v := 0) dX0_feed_18 (by decide) ?_
  cases hq
  exact aw_ireturn dX0_feed_19 rfl rfl ⟨rfl, rfl⟩
