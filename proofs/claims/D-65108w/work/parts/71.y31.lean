/-! THE COMPONENT AND THE JDK as functions of the heap, and their contracts: printed by wip gen/dec2.py -/
set_option maxRecDepth 100000
theorem fX2_152 : ∀ q ∈ ([(1, 6)] : List (Nat × Nat)), aFl RX2 152 q.1 q.2 := by
  intro q hq
  simp only [List.mem_cons, List.not_mem_nil, or_false] at hq
  subst hq
  exact aFl.of (RX2, TX2, 9) rfl (Nat.le_of_ble_eq_true rfl) q188
theorem tX2_6 : ∀ q ∈ ([(1, 6)] : List (Nat × Nat)), aFt q.1 q.2 false .int := by
  intro q hq
  simp only [List.mem_cons, List.not_mem_nil, or_false] at hq
  subst hq
  exact ⟨(RX2, TX2, 9), tyX2, Nat.le_of_ble_eq_true rfl, rfl, Nat.le_of_ble_eq_true rfl, okX2, rfl, rfl⟩
abbrev YX2_opens : YC := (yX2_opens, cX2_opens, 1, none, [])
theorem kX2_opens : aMk YX2_opens 0 := ⟨rfl, q845, q117, ⟨by decide +kernel, by decide +kernel, by decide +kernel⟩, Nat.le_of_ble_eq_true rfl⟩
def x_X2_opens_38 (g : AG) (N : Nat) (h : AH) (x0 : Nat) (s1 : Int32) : Option ((String ⊕ Unit) × AH) :=
  (rdI h x0 [(1, 2)]).bind fun i15 => bif clB h x0 [1] then ((x_X2_want g N h x0 s1 (3 : Int32) i15).bind fun q18 => tcase q18.1 (fun E20 => some (.inl E20, q18.2)) (fun v21 => (rdI q18.2 x0 [(1, 6)]).bind fun i22 => (wrV g q18.2 x0 [(1, 6)] (.int (i22 + (1 : Int32)))).bind fun h24 => (rdI h24 x0 [(1, 2)]).bind fun i26 => (wrV g h24 x0 [(1, 2)] (.int (i26 + (1 : Int32)))).bind fun h28 => some (.inr (), h28))) else none
theorem p_x_X2_opens_38 (g : AG) (hst : (gL g).stackTraces = false) (N : Nat) : ∀ (h : AH) (x0 : Nat) (s1 : Int32) (q : ((String ⊕ Unit) × AH)), x_X2_opens_38 g N h x0 s1 = some q → AW g YX2_opens 11 (tV q) h [some (.ref x0)] 38 [.int s1, .ref x0] := by
  intro h x0 s1 q hq
  unfold x_X2_opens_38 at hq
  refine aw_iconst (v := 3) dX2_opens_38 (by decide) ?_
  refine aw_aload_n (i := 0) dX2_opens_39 rfl rfl trivial ?_
  replace hq := obind hq
  obtain ⟨i15, e16, hq⟩ := hq
  refine xw_getI e16 fX2_38 dX2_opens_40 ?_
  replace hq := cond_t hq
  obtain ⟨z17, hq⟩ := hq
  obtain ⟨fs9, ha9⟩ := clB1 z17
  replace hq := obind hq
  obtain ⟨q18, e19, hq⟩ := hq
  refine aw_callVX (Y2 := YX2_want) (As := [.int s1, .int (3 : Int32), .int i15]) (rest := []) (r := (RX2, TX2, 9)) kX2_want ha9 rfl rfl q407 q408 q409 dX2_opens_43 rfl rfl (ct_X2_want g hst N h x0 s1 (3 : Int32) i15 _ e19) (Nat.le_of_ble_eq_true rfl) (Nat.le_of_ble_eq_true rfl) (fun v9 h9 z9 y9 => ?_) (fun E20 h9 z9 y9 => ?_)
  rotate_left
  · obtain ⟨e9, rfl⟩ := tV_exc y9
    replace hq := tcase_l e9 hq
    cases hq
    exact ax_out (by decide) ⟨rfl, rfl⟩
  obtain ⟨v21, e9, rfl, rfl⟩ := tV_ret y9
  replace hq := tcase_r e9 hq
  refine aw_st (st' := []) rfl ?_
  refine aw_aload_n (i := 0) dX2_opens_46 rfl rfl trivial ?_
  refine aw_dup dX2_opens_47 rfl ?_
  replace hq := obind hq
  obtain ⟨i22, e23, hq⟩ := hq
  refine xw_getI e23 fX2_152 dX2_opens_48 ?_
  refine aw_iconst (v := 1) dX2_opens_51 (by decide) ?_
  refine aw_iadd dX2_opens_52 ?_
  replace hq := obind hq
  obtain ⟨h24, e25, hq⟩ := hq
  refine xw_put e25 fX2_152 tX2_6 ⟨rfl, rfl⟩ dX2_opens_53 ?_
  refine aw_aload_n (i := 0) dX2_opens_56 rfl rfl trivial ?_
  refine aw_dup dX2_opens_57 rfl ?_
  replace hq := obind hq
  obtain ⟨i26, e27, hq⟩ := hq
  refine xw_getI e27 fX2_38 dX2_opens_58 ?_
  refine aw_iconst (v := 1) dX2_opens_61 (by decide) ?_
  refine aw_iadd dX2_opens_62 ?_
  replace hq := obind hq
  obtain ⟨h28, e29, hq⟩ := hq
  refine xw_put e29 fX2_38 tX2_2 ⟨rfl, rfl⟩ dX2_opens_63 ?_
  cases hq
  exact aw_vret dX2_opens_66 rfl ⟨rfl, rfl⟩
def x_X2_opens_15 (g : AG) (N : Nat) (h : AH) (x0 : Nat) (s1 : Int32) : Option ((String ⊕ Unit) × AH) :=
  (rdI h x0 [(1, 2)]).bind fun i5 => bif clB h x0 [1] then ((x_X2_want g N h x0 s1 (1 : Int32) i5).bind fun q8 => tcase q8.1 (fun E10 => some (.inl E10, q8.2)) (fun v11 => (rdI q8.2 x0 [(1, 6)]).bind fun i12 => if (12 : Int32) ≤ i12 then (x_X2_opens_38 g N  q8.2 x0 (0 : Int32)) else (x_X2_opens_38 g N  q8.2 x0 (1 : Int32)))) else none
theorem p_x_X2_opens_15 (g : AG) (hst : (gL g).stackTraces = false) (N : Nat) : ∀ (h : AH) (x0 : Nat) (s1 : Int32) (q : ((String ⊕ Unit) × AH)), x_X2_opens_15 g N h x0 s1 = some q → AW g YX2_opens 11 (tV q) h [some (.ref x0)] 15 [.int s1, .ref x0] := by
  intro h x0 s1 q hq
  unfold x_X2_opens_15 at hq
  refine aw_iconst (v := 1) dX2_opens_15 (by decide) ?_
  refine aw_aload_n (i := 0) dX2_opens_16 rfl rfl trivial ?_
  replace hq := obind hq
  obtain ⟨i5, e6, hq⟩ := hq
  refine xw_getI e6 fX2_38 dX2_opens_17 ?_
  replace hq := cond_t hq
  obtain ⟨z7, hq⟩ := hq
  obtain ⟨fs9, ha9⟩ := clB1 z7
  replace hq := obind hq
  obtain ⟨q8, e9, hq⟩ := hq
  refine aw_callVX (Y2 := YX2_want) (As := [.int s1, .int (1 : Int32), .int i5]) (rest := []) (r := (RX2, TX2, 9)) kX2_want ha9 rfl rfl q407 q408 q409 dX2_opens_20 rfl rfl (ct_X2_want g hst N h x0 s1 (1 : Int32) i5 _ e9) (Nat.le_of_ble_eq_true rfl) (Nat.le_of_ble_eq_true rfl) (fun v9 h9 z9 y9 => ?_) (fun E10 h9 z9 y9 => ?_)
  rotate_left
  · obtain ⟨e9, rfl⟩ := tV_exc y9
    replace hq := tcase_l e9 hq
    cases hq
    exact ax_out (by decide) ⟨rfl, rfl⟩
  obtain ⟨v11, e9, rfl, rfl⟩ := tV_ret y9
  replace hq := tcase_r e9 hq
  refine aw_st (st' := []) rfl ?_
  refine aw_aload_n (i := 0) dX2_opens_23 rfl rfl trivial ?_
  refine aw_aload_n (i := 0) dX2_opens_24 rfl rfl trivial ?_
  replace hq := obind hq
  obtain ⟨i12, e13, hq⟩ := hq
  refine xw_getI e13 fX2_152 dX2_opens_25 ?_
  refine aw_bipush (v := 12) dX2_opens_28 (by decide) ?_
  refine aw_icmp_ge (tgt := 37) dX2_opens_30 (by decide) (fun c14 => ?_) (fun c14 => ?_)
  · rw [if_pos c14] at hq
    refine aw_iconst (v := 0) dX2_opens_37 (by decide) ?_
    exact p_x_X2_opens_38 g hst N   q8.2 x0 (0 : Int32) _ hq
  · rw [if_neg c14] at hq
    refine aw_iconst (v := 1) dX2_opens_33 (by decide) ?_
    refine aw_goto (tgt := 38) dX2_opens_34 (by decide) ?_
    exact p_x_X2_opens_38 g hst N   q8.2 x0 (1 : Int32) _ hq
def x_X2_opens (g : AG) (N : Nat) (h : AH) (x0 : Nat) : Option ((String ⊕ Unit) × AH) :=
  bif clB h x0 [1] then ((x_X2_peek g N h x0).bind fun q2 => if q2.1 = (40 : Int32) then (x_X2_opens_15 g N  q2.2 x0 (1 : Int32)) else (x_X2_opens_15 g N  q2.2 x0 (0 : Int32))) else none
theorem ct_X2_opens (g : AG) (hst : (gL g).stackTraces = false) (N : Nat) : ∀ (h : AH) (x0 : Nat) (q : ((String ⊕ Unit) × AH)), x_X2_opens g N h x0 = some q → CT g YX2_opens 11 [.ref x0] h (tV q) := by
  intro h x0 q hq
  refine CT.of rfl (by decide +kernel) (loc := [some (.ref x0)]) (by first | exact Nat.le_of_ble_eq_true rfl | (simp only [lgl_rf, lgl_i, lgl_j, lgl_ref, lgl_nil]; exact Nat.le_of_ble_eq_true rfl)) (by first | rfl | (simp only [aent_rf, aent_i, aent_j, aent_ref, aent_nil]; rfl)) ?_
  unfold x_X2_opens at hq
  refine aw_aload_n (i := 0) dX2_opens_0 rfl rfl trivial ?_
  refine aw_aload_n (i := 0) dX2_opens_1 rfl rfl trivial ?_
  replace hq := cond_t hq
  obtain ⟨z1, hq⟩ := hq
  obtain ⟨fs9, ha9⟩ := clB1 z1
  replace hq := obind hq
  obtain ⟨q2, e3, hq⟩ := hq
  refine aw_callV (Y2 := YX2_peek) (As := []) (rest := [.ref x0]) (r := (RX2, TX2, 9)) kX2_peek ha9 rfl rfl q400 q401 q402 dX2_opens_2 rfl rfl (ct_X2_peek g hst N h x0 _ e3) (Nat.le_of_ble_eq_true rfl) (Nat.le_of_ble_eq_true rfl) (fun v9 h9 z9 y9 => ?_)
  obtain ⟨rfl, rfl⟩ := y9
  refine aw_st (st' := [.int q2.1, .ref x0]) rfl ?_
  refine aw_bipush (v := 40) dX2_opens_5 (by decide) ?_
  refine aw_icmp_ne (tgt := 14) dX2_opens_7 (by decide) (fun c4 => ?_) (fun c4 => ?_)
  · rw [if_neg c4] at hq
    refine aw_iconst (v := 0) dX2_opens_14 (by decide) ?_
    exact p_x_X2_opens_15 g hst N   q2.2 x0 (0 : Int32) _ hq
  · rw [if_pos c4] at hq
    refine aw_iconst (v := 1) dX2_opens_10 (by decide) ?_
    refine aw_goto (tgt := 15) dX2_opens_11 (by decide) ?_
    exact p_x_X2_opens_15 g hst N   q2.2 x0 (1 : Int32) _ hq
abbrev YX6_with : YC := (yX6_with, cX6_with, 2, (some (.object "ProbeConsole$Node")), [])
theorem kX6_with : aMk YX6_with 1 := ⟨rfl, q969, q144, ⟨by decide +kernel, by decide +kernel, by decide +kernel⟩, Nat.le_of_ble_eq_true rfl⟩
def x_X6_with (g : AG) (N : Nat) (h : AH) (x0 : Nat) (r1 : Option Nat) : Option (Option Nat × AH) :=
  (rdR h x0 [(5, 3)]).bind fun o1 => (o1).bind fun a3 => bif clB h a3 [13] then ((x_J4_add g N h a3 r1).bind fun q6 => some ((some x0), q6.2)) else none
theorem ct_X6_with (g : AG) (hst : (gL g).stackTraces = false) (N : Nat) : ∀ (h : AH) (x0 : Nat) (r1 : Option Nat) (q : (Option Nat × AH)), x_X6_with g N h x0 r1 = some q → CT g YX6_with 9 [.ref x0, va_rf r1] h (xR q) := by
  intro h x0 r1 q hq
  refine CT.of rfl (by decide +kernel) (loc := [some (.ref x0), some (va_rf r1)]) (by first | exact Nat.le_of_ble_eq_true rfl | (simp only [lgl_rf, lgl_i, lgl_j, lgl_ref, lgl_nil]; exact Nat.le_of_ble_eq_true rfl)) (by first | rfl | (simp only [aent_rf, aent_i, aent_j, aent_ref, aent_nil]; rfl)) ?_
  unfold x_X6_with at hq
  refine aw_aload_n (i := 0) dX6_with_0 rfl rfl trivial ?_
  replace hq := obind hq
  obtain ⟨o1, e2, hq⟩ := hq
  refine xw_getR e2 fX6_12 dX6_with_1 ?_
  refine aw_aload_n (i := 1) dX6_with_4 rfl rfl (aIsR_rf _) ?_
  replace hq := obind hq
  obtain ⟨a3, e4, hq⟩ := hq
  subst e4
  replace hq := cond_t hq
  obtain ⟨z5, hq⟩ := hq
  obtain ⟨fs9, ha9⟩ := clB1 z5
  replace hq := obind hq
  obtain ⟨q6, e7, hq⟩ := hq
  refine aw_callF (Y2 := YJ4_add) (As := [va_rf r1]) (rest := []) (r := (RJ4, TJ4, 3)) (x := ⟨"java/util/List", "add", "(Ljava/lang/Object;)Z"⟩) kJ4_add ha9 rfl (by decide) (by decide) ⟨by decide +kernel, by decide +kernel, by decide +kernel⟩ q971 q976 q974 dX6_with_5 rfl rfl (ct_J4_add g hst N h a3 r1 _ e7) (Nat.le_of_ble_eq_true rfl) (Nat.le_of_ble_eq_true rfl) (fun v9 h9 z9 y9 => ?_)
  obtain ⟨rfl, rfl⟩ := y9
  refine aw_st (st' := [.int q6.1]) rfl ?_
  refine aw_pop dX6_with_10 rfl ?_
  refine aw_aload_n (i := 0) dX6_with_11 rfl rfl trivial ?_
  cases hq
  exact aw_areturn dX6_with_12 rfl (Or.inl ⟨_, rfl⟩) trivial ⟨rfl, rfl⟩
abbrev YX2_goesOver : YC := (yX2_goesOver, cX2_goesOver, 3, (some .boolean), [])
theorem kX2_goesOver : aMk YX2_goesOver 1 := ⟨rfl, q1034, q117, ⟨by decide +kernel, by decide +kernel, by decide +kernel⟩, Nat.le_of_ble_eq_true rfl⟩
def x_X2_goesOver_28 (g : AG) (N : Nat) (h : AH) (x0 : Nat) (x1 : Int32) (x2 : Int32) (s1 : Int32) (s2 : Int32) : Option (Int32 × AH) :=
  (wrV g h x0 [(1, 2)] (.int (s1 + s2))).bind fun h8 => bif isb x2 then (some (x2, h8)) else none
theorem p_x_X2_goesOver_28 (g : AG) (hst : (gL g).stackTraces = false) (N : Nat) : ∀ (h : AH) (x0 : Nat) (x1 : Int32) (x2 : Int32) (s1 : Int32) (s2 : Int32) (q : (Int32 × AH)), x_X2_goesOver_28 g N h x0 x1 x2 s1 s2 = some q → AW g YX2_goesOver 2 (xI q) h [some (.ref x0), some (.int x1), some (.int x2)] 28 [.int s2, .int s1, .ref x0] := by
  intro h x0 x1 x2 s1 s2 q hq
  unfold x_X2_goesOver_28 at hq
  refine aw_iadd dX2_goesOver_28 ?_
  replace hq := obind hq
  obtain ⟨h8, e9, hq⟩ := hq
  refine xw_put e9 fX2_38 tX2_2 ⟨rfl, rfl⟩ dX2_goesOver_29 ?_
  refine aw_iload_n (i := 2) dX2_goesOver_32 rfl rfl ?_
  replace hq := cond_t hq
  obtain ⟨z10, hq⟩ := hq
  cases hq
  exact aw_ireturn dX2_goesOver_33 rfl (isb_ok z10).1 ⟨rfl, rfl⟩
def x_X2_goesOver_13 (g : AG) (N : Nat) (h : AH) (x0 : Nat) (x1 : Int32) (s0 : Int32) : Option (Int32 × AH) :=
  (rdI h x0 [(1, 2)]).bind fun i5 => if s0 = 0 then (x_X2_goesOver_28 g N  h x0 x1 s0 i5 (0 : Int32)) else (x_X2_goesOver_28 g N  h x0 x1 s0 i5 (1 : Int32))
theorem p_x_X2_goesOver_13 (g : AG) (hst : (gL g).stackTraces = false) (N : Nat) : ∀ (h : AH) (x0 : Nat) (x1 : Int32) (s0 : Int32) (q : (Int32 × AH)), x_X2_goesOver_13 g N h x0 x1 s0 = some q → AW g YX2_goesOver 2 (xI q) h [some (.ref x0), some (.int x1), none] 13 [.int s0] := by
  intro h x0 x1 s0 q hq
  unfold x_X2_goesOver_13 at hq
  refine aw_istore_n (i := 2) (loc' := [some (.ref x0), some (.int x1), some (.int s0)]) dX2_goesOver_13 rfl (Nat.le_of_ble_eq_true rfl) rfl ?_
  refine aw_aload_n (i := 0) dX2_goesOver_14 rfl rfl trivial ?_
  refine aw_dup dX2_goesOver_15 rfl ?_
  replace hq := obind hq
  obtain ⟨i5, e6, hq⟩ := hq
  refine xw_getI e6 fX2_38 dX2_goesOver_16 ?_
  refine aw_iload_n (i := 2) dX2_goesOver_19 rfl rfl ?_
  refine aw_if_eq (tgt := 27) dX2_goesOver_20 (by decide) (fun c7 => ?_) (fun c7 => ?_)
  · rw [if_pos c7] at hq
    refine aw_iconst (v := 0) dX2_goesOver_27 (by decide) ?_
    exact p_x_X2_goesOver_28 g hst N   h x0 x1 s0 i5 (0 : Int32) _ hq
  · rw [if_neg c7] at hq
    refine aw_iconst (v := 1) dX2_goesOver_23 (by decide) ?_
    refine aw_goto (tgt := 28) dX2_goesOver_24 (by decide) ?_
    exact p_x_X2_goesOver_28 g hst N   h x0 x1 s0 i5 (1 : Int32) _ hq
def x_X2_goesOver (g : AG) (N : Nat) (h : AH) (x0 : Nat) (x1 : Int32) : Option (Int32 × AH) :=
  bif clB h x0 [1] then ((x_X2_peek g N h x0).bind fun q2 => if q2.1 = x1 then (x_X2_goesOver_13 g N  q2.2 x0 x1 (1 : Int32)) else (x_X2_goesOver_13 g N  q2.2 x0 x1 (0 : Int32))) else none
theorem ct_X2_goesOver (g : AG) (hst : (gL g).stackTraces = false) (N : Nat) : ∀ (h : AH) (x0 : Nat) (x1 : Int32) (q : (Int32 × AH)), x_X2_goesOver g N h x0 x1 = some q → CT g YX2_goesOver 2 [.ref x0, .int x1] h (xI q) := by
  intro h x0 x1 q hq
  refine CT.of rfl (by decide +kernel) (loc := [some (.ref x0), some (.int x1), none]) (by first | exact Nat.le_of_ble_eq_true rfl | (simp only [lgl_rf, lgl_i, lgl_j, lgl_ref, lgl_nil]; exact Nat.le_of_ble_eq_true rfl)) (by first | rfl | (simp only [aent_rf, aent_i, aent_j, aent_ref, aent_nil]; rfl)) ?_
  unfold x_X2_goesOver at hq
  refine aw_aload_n (i := 0) dX2_goesOver_0 rfl rfl trivial ?_
  replace hq := cond_t hq
  obtain ⟨z1, hq⟩ := hq
  obtain ⟨fs9, ha9⟩ := clB1 z1
  replace hq := obind hq
  obtain ⟨q2, e3, hq⟩ := hq
  refine aw_callV (Y2 := YX2_peek) (As := []) (rest := []) (r := (RX2, TX2, 9)) kX2_peek ha9 rfl rfl q400 q401 q402 dX2_goesOver_1 rfl rfl (ct_X2_peek g hst N h x0 _ e3) (Nat.le_of_ble_eq_true rfl) (Nat.le_of_ble_eq_true rfl) (fun v9 h9 z9 y9 => ?_)
  obtain ⟨rfl, rfl⟩ := y9
  refine aw_st (st' := [.int q2.1]) rfl ?_
  refine aw_iload_n (i := 1) dX2_goesOver_4 rfl rfl ?_
  refine aw_icmp_ne (tgt := 12) dX2_goesOver_5 (by decide) (fun c4 => ?_) (fun c4 => ?_)
  · rw [if_neg c4] at hq
    refine aw_iconst (v := 0) dX2_goesOver_12 (by decide) ?_
    exact p_x_X2_goesOver_13 g hst N   q2.2 x0 x1 (0 : Int32) _ hq
  · rw [if_pos c4] at hq
    refine aw_iconst (v := 1) dX2_goesOver_8 (by decide) ?_
    refine aw_goto (tgt := 13) dX2_goesOver_9 (by decide) ?_
    exact p_x_X2_goesOver_13 g hst N   q2.2 x0 x1 (1 : Int32) _ hq
abbrev YX2_take : YC := (yX2_take, cX2_take, 2, none, [])
theorem kX2_take : aMk YX2_take 1 := ⟨rfl, q784, q117, ⟨by decide +kernel, by decide +kernel, by decide +kernel⟩, Nat.le_of_ble_eq_true rfl⟩
def x_X2_take_14 (g : AG) (N : Nat) (h : AH) (x0 : Nat) (x1 : Int32) (s1 : Int32) : Option ((String ⊕ Unit) × AH) :=
  (rdI h x0 [(1, 2)]).bind fun i5 => bif clB h x0 [1] then ((x_X2_want g N h x0 s1 (1 : Int32) i5).bind fun q8 => tcase q8.1 (fun E10 => some (.inl E10, q8.2)) (fun v11 => (rdI q8.2 x0 [(1, 2)]).bind fun i12 => (wrV g q8.2 x0 [(1, 2)] (.int (i12 + (1 : Int32)))).bind fun h14 => some (.inr (), h14))) else none
theorem p_x_X2_take_14 (g : AG) (hst : (gL g).stackTraces = false) (N : Nat) : ∀ (h : AH) (x0 : Nat) (x1 : Int32) (s1 : Int32) (q : ((String ⊕ Unit) × AH)), x_X2_take_14 g N h x0 x1 s1 = some q → AW g YX2_take 11 (tV q) h [some (.ref x0), some (.int x1)] 14 [.int s1, .ref x0] := by
  intro h x0 x1 s1 q hq
  unfold x_X2_take_14 at hq
  refine aw_iconst (v := 1) dX2_take_14 (by decide) ?_
  refine aw_aload_n (i := 0) dX2_take_15 rfl rfl trivial ?_
  replace hq := obind hq
  obtain ⟨i5, e6, hq⟩ := hq
  refine xw_getI e6 fX2_38 dX2_take_16 ?_
  replace hq := cond_t hq
  obtain ⟨z7, hq⟩ := hq
  obtain ⟨fs9, ha9⟩ := clB1 z7
  replace hq := obind hq
  obtain ⟨q8, e9, hq⟩ := hq
  refine aw_callVX (Y2 := YX2_want) (As := [.int s1, .int (1 : Int32), .int i5]) (rest := []) (r := (RX2, TX2, 9)) kX2_want ha9 rfl rfl q407 q408 q409 dX2_take_19 rfl rfl (ct_X2_want g hst N h x0 s1 (1 : Int32) i5 _ e9) (Nat.le_of_ble_eq_true rfl) (Nat.le_of_ble_eq_true rfl) (fun v9 h9 z9 y9 => ?_) (fun E10 h9 z9 y9 => ?_)
  rotate_left
  · obtain ⟨e9, rfl⟩ := tV_exc y9
    replace hq := tcase_l e9 hq
    cases hq
    exact ax_out (by decide) ⟨rfl, rfl⟩
  obtain ⟨v11, e9, rfl, rfl⟩ := tV_ret y9
  replace hq := tcase_r e9 hq
  refine aw_st (st' := []) rfl ?_
  refine aw_aload_n (i := 0) dX2_take_22 rfl rfl trivial ?_
  refine aw_dup dX2_take_23 rfl ?_
  replace hq := obind hq
  obtain ⟨i12, e13, hq⟩ := hq
  refine xw_getI e13 fX2_38 dX2_take_24 ?_
  refine aw_iconst (v := 1) dX2_take_27 (by decide) ?_
  refine aw_iadd dX2_take_28 ?_
  replace hq := obind hq
  obtain ⟨h14, e15, hq⟩ := hq
  refine xw_put e15 fX2_38 tX2_2 ⟨rfl, rfl⟩ dX2_take_29 ?_
  cases hq
  exact aw_vret dX2_take_32 rfl ⟨rfl, rfl⟩
def x_X2_take (g : AG) (N : Nat) (h : AH) (x0 : Nat) (x1 : Int32) : Option ((String ⊕ Unit) × AH) :=
  bif clB h x0 [1] then ((x_X2_peek g N h x0).bind fun q2 => if q2.1 = x1 then (x_X2_take_14 g N  q2.2 x0 x1 (1 : Int32)) else (x_X2_take_14 g N  q2.2 x0 x1 (0 : Int32))) else none
theorem ct_X2_take (g : AG) (hst : (gL g).stackTraces = false) (N : Nat) : ∀ (h : AH) (x0 : Nat) (x1 : Int32) (q : ((String ⊕ Unit) × AH)), x_X2_take g N h x0 x1 = some q → CT g YX2_take 11 [.ref x0, .int x1] h (tV q) := by
  intro h x0 x1 q hq
  refine CT.of rfl (by decide +kernel) (loc := [some (.ref x0), some (.int x1)]) (by first | exact Nat.le_of_ble_eq_true rfl | (simp only [lgl_rf, lgl_i, lgl_j, lgl_ref, lgl_nil]; exact Nat.le_of_ble_eq_true rfl)) (by first | rfl | (simp only [aent_rf, aent_i, aent_j, aent_ref, aent_nil]; rfl)) ?_
  unfold x_X2_take at hq
  refine aw_aload_n (i := 0) dX2_take_0 rfl rfl trivial ?_
  refine aw_aload_n (i := 0) dX2_take_1 rfl rfl trivial ?_
  replace hq := cond_t hq
  obtain ⟨z1, hq⟩ := hq
  obtain ⟨fs9, ha9⟩ := clB1 z1
  replace hq := obind hq
  obtain ⟨q2, e3, hq⟩ := hq
  refine aw_callV (Y2 := YX2_peek) (As := []) (rest := [.ref x0]) (r := (RX2, TX2, 9)) kX2_peek ha9 rfl rfl q400 q401 q402 dX2_take_2 rfl rfl (ct_X2_peek g hst N h x0 _ e3) (Nat.le_of_ble_eq_true rfl) (Nat.le_of_ble_eq_true rfl) (fun v9 h9 z9 y9 => ?_)
  obtain ⟨rfl, rfl⟩ := y9
  refine aw_st (st' := [.int q2.1, .ref x0]) rfl ?_
  refine aw_iload_n (i := 1) dX2_take_5 rfl rfl ?_
  refine aw_icmp_ne (tgt := 13) dX2_take_6 (by decide) (fun c4 => ?_) (fun c4 => ?_)
  · rw [if_neg c4] at hq
    refine aw_iconst (v := 0) dX2_take_13 (by decide) ?_
    exact p_x_X2_take_14 g hst N   q2.2 x0 x1 (0 : Int32) _ hq
  · rw [if_pos c4] at hq
    refine aw_iconst (v := 1) dX2_take_9 (by decide) ?_
    refine aw_goto (tgt := 14) dX2_take_10 (by decide) ?_
    exact p_x_X2_take_14 g hst N   q2.2 x0 x1 (1 : Int32) _ hq
abbrev YX2_closes : YC := (yX2_closes, cX2_closes, 1, none, [])
theorem kX2_closes : aMk YX2_closes 0 := ⟨rfl, q849, q117, ⟨by decide +kernel, by decide +kernel, by decide +kernel⟩, Nat.le_of_ble_eq_true rfl⟩
def x_X2_closes (g : AG) (N : Nat) (h : AH) (x0 : Nat) : Option ((String ⊕ Unit) × AH) :=
  bif clB h x0 [1] then ((x_X2_take g N h x0 (41 : Int32)).bind fun q2 => tcase q2.1 (fun E4 => some (.inl E4, q2.2)) (fun v5 => (rdI q2.2 x0 [(1, 6)]).bind fun i6 => (wrV g q2.2 x0 [(1, 6)] (.int (i6 - (1 : Int32)))).bind fun h8 => some (.inr (), h8))) else none
theorem ct_X2_closes (g : AG) (hst : (gL g).stackTraces = false) (N : Nat) : ∀ (h : AH) (x0 : Nat) (q : ((String ⊕ Unit) × AH)), x_X2_closes g N h x0 = some q → CT g YX2_closes 12 [.ref x0] h (tV q) := by
  intro h x0 q hq
  refine CT.of rfl (by decide +kernel) (loc := [some (.ref x0)]) (by first | exact Nat.le_of_ble_eq_true rfl | (simp only [lgl_rf, lgl_i, lgl_j, lgl_ref, lgl_nil]; exact Nat.le_of_ble_eq_true rfl)) (by first | rfl | (simp only [aent_rf, aent_i, aent_j, aent_ref, aent_nil]; rfl)) ?_
  unfold x_X2_closes at hq
  refine aw_aload_n (i := 0) dX2_closes_0 rfl rfl trivial ?_
  refine aw_bipush (v := 41) dX2_closes_1 (by decide) ?_
  replace hq := cond_t hq
  obtain ⟨z1, hq⟩ := hq
  obtain ⟨fs9, ha9⟩ := clB1 z1
  replace hq := obind hq
  obtain ⟨q2, e3, hq⟩ := hq
  refine aw_callVX (Y2 := YX2_take) (As := [.int (41 : Int32)]) (rest := []) (r := (RX2, TX2, 9)) kX2_take ha9 rfl rfl q781 q783 qs4 dX2_closes_3 rfl rfl (ct_X2_take g hst N h x0 (41 : Int32) _ e3) (Nat.le_of_ble_eq_true rfl) (Nat.le_of_ble_eq_true rfl) (fun v9 h9 z9 y9 => ?_) (fun E4 h9 z9 y9 => ?_)
  rotate_left
  · obtain ⟨e9, rfl⟩ := tV_exc y9
    replace hq := tcase_l e9 hq
    cases hq
    exact ax_out (by decide) ⟨rfl, rfl⟩
  obtain ⟨v5, e9, rfl, rfl⟩ := tV_ret y9
  replace hq := tcase_r e9 hq
  refine aw_st (st' := []) rfl ?_
  refine aw_aload_n (i := 0) dX2_closes_6 rfl rfl trivial ?_
  refine aw_dup dX2_closes_7 rfl ?_
  replace hq := obind hq
  obtain ⟨i6, e7, hq⟩ := hq
  refine xw_getI e7 fX2_152 dX2_closes_8 ?_
  refine aw_iconst (v := 1) dX2_closes_11 (by decide) ?_
  refine aw_isub dX2_closes_12 ?_
  replace hq := obind hq
  obtain ⟨h8, e9, hq⟩ := hq
  refine xw_put e9 fX2_152 tX2_6 ⟨rfl, rfl⟩ dX2_closes_13 ?_
  cases hq
  exact aw_vret dX2_closes_16 rfl ⟨rfl, rfl⟩
theorem fX2_69 : ∀ q ∈ ([(1, 5)] : List (Nat × Nat)), aFl RX2 69 q.1 q.2 := by
  intro q hq
  simp only [List.mem_cons, List.not_mem_nil, or_false] at hq
  subst hq
  exact aFl.of (RX2, TX2, 9) rfl (Nat.le_of_ble_eq_true rfl) q187
theorem tX2_5 : ∀ q ∈ ([(1, 5)] : List (Nat × Nat)), aFt q.1 q.2 false .int := by
  intro q hq
  simp only [List.mem_cons, List.not_mem_nil, or_false] at hq
  subst hq
  exact ⟨(RX2, TX2, 9), tyX2, Nat.le_of_ble_eq_true rfl, rfl, Nat.le_of_ble_eq_true rfl, okX2, rfl, rfl⟩
abbrev YX2_node : YC := (yX2_node, cX2_node, 2, none, [])
theorem kX2_node : aMk YX2_node 1 := ⟨rfl, q857, q117, ⟨by decide +kernel, by decide +kernel, by decide +kernel⟩, Nat.le_of_ble_eq_true rfl⟩
def x_X2_node_25 (g : AG) (N : Nat) (h : AH) (x0 : Nat) (x1 : Int32) (s1 : Int32) : Option ((String ⊕ Unit) × AH) :=
  bif clB h x0 [1] then ((x_X2_want g N h x0 s1 (3 : Int32) x1).bind fun q9 => tcase q9.1 (fun E11 => some (.inl E11, q9.2)) (fun v12 => some (.inr (), q9.2))) else none
theorem p_x_X2_node_25 (g : AG) (hst : (gL g).stackTraces = false) (N : Nat) : ∀ (h : AH) (x0 : Nat) (x1 : Int32) (s1 : Int32) (q : ((String ⊕ Unit) × AH)), x_X2_node_25 g N h x0 x1 s1 = some q → AW g YX2_node 11 (tV q) h [some (.ref x0), some (.int x1)] 25 [.int s1, .ref x0] := by
  intro h x0 x1 s1 q hq
  unfold x_X2_node_25 at hq
  refine aw_iconst (v := 3) dX2_node_25 (by decide) ?_
  refine aw_iload_n (i := 1) dX2_node_26 rfl rfl ?_
  replace hq := cond_t hq
  obtain ⟨z8, hq⟩ := hq
  obtain ⟨fs9, ha9⟩ := clB1 z8
  replace hq := obind hq
  obtain ⟨q9, e10, hq⟩ := hq
  refine aw_callVX (Y2 := YX2_want) (As := [.int s1, .int (3 : Int32), .int x1]) (rest := []) (r := (RX2, TX2, 9)) kX2_want ha9 rfl rfl q407 q408 q409 dX2_node_27 rfl rfl (ct_X2_want g hst N h x0 s1 (3 : Int32) x1 _ e10) (Nat.le_of_ble_eq_true rfl) (Nat.le_of_ble_eq_true rfl) (fun v9 h9 z9 y9 => ?_) (fun E11 h9 z9 y9 => ?_)
  rotate_left
  · obtain ⟨e9, rfl⟩ := tV_exc y9
    replace hq := tcase_l e9 hq
    cases hq
    exact ax_out (by decide) ⟨rfl, rfl⟩
  obtain ⟨v12, e9, rfl, rfl⟩ := tV_ret y9
  replace hq := tcase_r e9 hq
  refine aw_st (st' := []) rfl ?_
  cases hq
  exact aw_vret dX2_node_30 rfl ⟨rfl, rfl⟩
def x_X2_node (g : AG) (N : Nat) (h : AH) (x0 : Nat) (x1 : Int32) : Option ((String ⊕ Unit) × AH) :=
  (rdI h x0 [(1, 5)]).bind fun i1 => (wrV g h x0 [(1, 5)] (.int (i1 + (1 : Int32)))).bind fun h3 => (rdI h3 x0 [(1, 5)]).bind fun i5 => if (20 : Int32) < i5 then (x_X2_node_25 g N  h3 x0 x1 (0 : Int32)) else (x_X2_node_25 g N  h3 x0 x1 (1 : Int32))
theorem ct_X2_node (g : AG) (hst : (gL g).stackTraces = false) (N : Nat) : ∀ (h : AH) (x0 : Nat) (x1 : Int32) (q : ((String ⊕ Unit) × AH)), x_X2_node g N h x0 x1 = some q → CT g YX2_node 11 [.ref x0, .int x1] h (tV q) := by
  intro h x0 x1 q hq
  refine CT.of rfl (by decide +kernel) (loc := [some (.ref x0), some (.int x1)]) (by first | exact Nat.le_of_ble_eq_true rfl | (simp only [lgl_rf, lgl_i, lgl_j, lgl_ref, lgl_nil]; exact Nat.le_of_ble_eq_true rfl)) (by first | rfl | (simp only [aent_rf, aent_i, aent_j, aent_ref, aent_nil]; rfl)) ?_
  unfold x_X2_node at hq
  refine aw_aload_n (i := 0) dX2_node_0 rfl rfl trivial ?_
  refine aw_dup dX2_node_1 rfl ?_
  replace hq := obind hq
  obtain ⟨i1, e2, hq⟩ := hq
  refine xw_getI e2 fX2_69 dX2_node_2 ?_
  refine aw_iconst (v := 1) dX2_node_5 (by decide) ?_
  refine aw_iadd dX2_node_6 ?_
  replace hq := obind hq
  obtain ⟨h3, e4, hq⟩ := hq
  refine xw_put e4 fX2_69 tX2_5 ⟨rfl, rfl⟩ dX2_node_7 ?_
  refine aw_aload_n (i := 0) dX2_node_10 rfl rfl trivial ?_
  refine aw_aload_n (i := 0) dX2_node_11 rfl rfl trivial ?_
  replace hq := obind hq
  obtain ⟨i5, e6, hq⟩ := hq
  refine xw_getI e6 fX2_69 dX2_node_12 ?_
  refine aw_bipush (v := 20) dX2_node_15 (by decide) ?_
  refine aw_icmp_gt (tgt := 24) dX2_node_17 (by decide) (fun c7 => ?_) (fun c7 => ?_)
  · rw [if_pos c7] at hq
    refine aw_iconst (v := 0) dX2_node_24 (by decide) ?_
    exact p_x_X2_node_25 g hst N   h3 x0 x1 (0 : Int32) _ hq
  · rw [if_neg c7] at hq
    refine aw_iconst (v := 1) dX2_node_20 (by decide) ?_
    refine aw_goto (tgt := 25) dX2_node_21 (by decide) ?_
    exact p_x_X2_node_25 g hst N   h3 x0 x1 (1 : Int32) _ hq
abbrev YX7_values : YC := (yX7_values, cX7_values, 0, (some (.array (.object "ProbeConsole$Kind"))), [])
theorem kX7_values : aMk YX7_values 0 := ⟨rfl, q1048, q146, ⟨by decide +kernel, by decide +kernel, by decide +kernel⟩, Nat.le_of_ble_eq_true rfl⟩
def x_X7_values (g : AG) (N : Nat) (h : AH) : Option (Option Nat × AH) :=
  (vR (gV g 15)).bind fun o1 => (o1).bind fun a3 => (clA g h a3 8).bind fun h5 => bif arB h5 h.2.1 8 then (some ((some h.2.1), h5)) else none
theorem ct_X7_values (g : AG) (hst : (gL g).stackTraces = false) (N : Nat) : ∀ (h : AH) (q : (Option Nat × AH)), x_X7_values g N h = some q → CT g YX7_values 3 [] h (xR q) := by
  intro h q hq
  refine CT.of rfl (by decide +kernel) (loc := []) (by first | exact Nat.le_of_ble_eq_true rfl | (simp only [lgl_rf, lgl_i, lgl_j, lgl_ref, lgl_nil]; exact Nat.le_of_ble_eq_true rfl)) (by first | rfl | (simp only [aent_rf, aent_i, aent_j, aent_ref, aent_nil]; rfl)) ?_
  unfold x_X7_values at hq
  replace hq := obind hq
  obtain ⟨o1, e2, hq⟩ := hq
  refine xw_gets (i := 15) (vR_eq e2) rfl q1049 dX7_values_0 rfl ?_
  replace hq := obind hq
  obtain ⟨a3, e4, hq⟩ := hq
  subst e4
  replace hq := obind hq
  obtain ⟨h5, e6, hq⟩ := hq
  refine xw_clone8 e6 q1051 (by omega) (Nat.le_of_ble_eq_true rfl) dX7_values_3 ?_
  replace hq := cond_t hq
  obtain ⟨z7, hq⟩ := hq
  refine xw_castA (t := 8) (C := "ProbeConsole$Kind") z7 (by decide) rfl (by decide +kernel) q1056 dX7_values_6 ?_
  cases hq
  exact aw_areturn dX7_values_9 rfl (Or.inr ⟨_, rfl⟩) trivial ⟨rfl, rfl⟩
abbrev YX2_signOf : YC := (yX2_signOf, cX2_signOf, 4, (some (.object "ProbeConsole$Kind")), [])
theorem kX2_signOf : aMk YX2_signOf 2 := ⟨rfl, q1045, q117, ⟨by decide +kernel, by decide +kernel, by decide +kernel⟩, Nat.le_of_ble_eq_true rfl⟩
def x_X2_signOf_2 (g : AG) (N : Nat) (K22 : AH → Nat → Option Nat → Option Nat → Int32 → Option (Option Nat × AH)) : Nat → AH → Nat → Option Nat → Option Nat → Int32 → Option (Option Nat × AH)
  | 0, _, _, _, _, _ => none
  | n9 + 1, h, x0, r1, r2, x3 =>
  (r1).bind fun a1 => bif clB h a1 [17] then ((x_J13_length g N h a1).bind fun q4 => if q4.1 ≤ x3 then (some ((none), q4.2)) else (bif clB q4.2 x0 [1] then ((x_X2_peek g N q4.2 x0).bind fun q8 => bif clB q8.2 a1 [17] then ((x_J13_charAt g N q8.2 a1 x3).bind fun q11 => if q8.1 = q11.1 then (K22 q11.2 x0 (some a1) r2 x3) else (x_X2_signOf_2 g N K22 n9 q11.2 x0 (some a1) r2 (x3 + 1))) else none) else none)) else none
theorem p_x_X2_signOf_2 (g : AG) (hst : (gL g).stackTraces = false) (N : Nat) (K22 : AH → Nat → Option Nat → Option Nat → Int32 → Option (Option Nat × AH)) (hK22 : ∀ (h : AH) (x0 : Nat) (r1 : Option Nat) (r2 : Option Nat) (x3 : Int32) (q : (Option Nat × AH)), K22 h x0 r1 r2 x3 = some q → AW g YX2_signOf 6 (xR q) h [some (.ref x0), some (va_rf r1), some (va_rf r2), some (.int x3)] 22 []) : ∀ (n9 : Nat) (h : AH) (x0 : Nat) (r1 : Option Nat) (r2 : Option Nat) (x3 : Int32) (q : (Option Nat × AH)), x_X2_signOf_2 g N K22 n9 h x0 r1 r2 x3 = some q → AW g YX2_signOf 6 (xR q) h [some (.ref x0), some (va_rf r1), some (va_rf r2), some (.int x3)] 2 [] := by
  intro n9
  induction n9 with
  | zero =>
    intro h x0 r1 r2 x3 q hq
    cases hq
  | succ n9 ih =>
    intro h x0 r1 r2 x3 q hq
    rw [x_X2_signOf_2] at hq
    refine aw_iload_n (i := 3) dX2_signOf_2 rfl rfl ?_
    refine aw_aload_n (i := 1) dX2_signOf_3 rfl rfl (aIsR_rf _) ?_
    replace hq := obind hq
    obtain ⟨a1, e2, hq⟩ := hq
    subst e2
    replace hq := cond_t hq
    obtain ⟨z3, hq⟩ := hq
    obtain ⟨fs9, ha9⟩ := clB1 z3
    replace hq := obind hq
    obtain ⟨q4, e5, hq⟩ := hq
    refine aw_callV (Y2 := YJ13_length) (As := []) (rest := [.int x3]) (r := (RJ13, TJ13, 4)) kJ13_length ha9 rfl rfl q765 q705 q706 dX2_signOf_4 rfl rfl (ct_J13_length g hst N h a1 _ e5) (Nat.le_of_ble_eq_true rfl) (Nat.le_of_ble_eq_true rfl) (fun v9 h9 z9 y9 => ?_)
    obtain ⟨rfl, rfl⟩ := y9
    refine aw_st (st' := [.int q4.1, .int x3]) rfl ?_
    refine aw_icmp_ge (tgt := 39) dX2_signOf_7 (by decide) (fun c6 => ?_) (fun c6 => ?_)
    · rw [if_pos c6] at hq
      refine aw_null dX2_signOf_39 ?_
      cases hq
      exact aw_areturn dX2_signOf_40 rfl (Or.inl ⟨_, rfl⟩) trivial ⟨rfl, rfl⟩
    · rw [if_neg c6] at hq
      refine aw_aload_n (i := 0) dX2_signOf_10 rfl rfl trivial ?_
      replace hq := cond_t hq
      obtain ⟨z7, hq⟩ := hq
      obtain ⟨fs9, ha9⟩ := clB1 z7
      replace hq := obind hq
      obtain ⟨q8, e9, hq⟩ := hq
      refine aw_callV (Y2 := YX2_peek) (As := []) (rest := []) (r := (RX2, TX2, 9)) kX2_peek ha9 rfl rfl q400 q401 q402 dX2_signOf_11 rfl rfl (ct_X2_peek g hst N q4.2 x0 _ e9) (Nat.le_of_ble_eq_true rfl) (Nat.le_of_ble_eq_true rfl) (fun v9 h9 z9 y9 => ?_)
      obtain ⟨rfl, rfl⟩ := y9
      refine aw_st (st' := [.int q8.1]) rfl ?_
      refine aw_aload_n (i := 1) dX2_signOf_14 rfl rfl trivial ?_
      refine aw_iload_n (i := 3) dX2_signOf_15 rfl rfl ?_
      replace hq := cond_t hq
      obtain ⟨z10, hq⟩ := hq
      obtain ⟨fs9, ha9⟩ := clB1 z10
      replace hq := obind hq
      obtain ⟨q11, e12, hq⟩ := hq
      refine aw_callV (Y2 := YJ13_charAt) (As := [.int x3]) (rest := [.int q8.1]) (r := (RJ13, TJ13, 4)) kJ13_charAt ha9 rfl rfl q766 q767 q768 dX2_signOf_16 rfl rfl (ct_J13_charAt g hst N q8.2 a1 x3 _ e12) (Nat.le_of_ble_eq_true rfl) (Nat.le_of_ble_eq_true rfl) (fun v9 h9 z9 y9 => ?_)
      obtain ⟨rfl, rfl⟩ := y9
      refine aw_st (st' := [.int q11.1, .int q8.1]) rfl ?_
      refine aw_icmp_ne (tgt := 33) dX2_signOf_19 (by decide) (fun c13 => ?_) (fun c13 => ?_)
      · rw [if_neg c13] at hq
        refine aw_iinc (v := x3 + 1) (loc' := [some (.ref x0), some (.ref a1), some (va_rf r2), some (.int (x3 + 1))]) dX2_signOf_33 rfl rfl (Nat.le_of_ble_eq_true rfl) (aset1_rf rfl) ?_
        refine aw_goto (tgt := 2) dX2_signOf_36 (by decide) ?_
        exact ih q11.2 x0 (some a1) r2 (x3 + 1) _ hq
      · rw [if_pos c13] at hq
        exact hK22 q11.2 x0 (some a1) r2 x3 _ hq
def x_X2_signOf (g : AG) (N : Nat) (h : AH) (x0 : Nat) (r1 : Option Nat) (r2 : Option Nat) : Option (Option Nat × AH) :=
  x_X2_signOf_2 g N (fun h x0 r1 r2 x3 => (x_X7_values g N h).bind fun q14 => (r2).bind fun a16 => bif clB q14.2 a16 [19] then ((x_J22_ordinal g N q14.2 a16).bind fun q19 => (q14.1).bind fun a21 => (rdQ q19.2 a21 (q19.1 + x3)).bind fun o23 => some (o23, q19.2)) else none) N h x0 r1 r2 (0 : Int32)
theorem ct_X2_signOf (g : AG) (hst : (gL g).stackTraces = false) (N : Nat) : ∀ (h : AH) (x0 : Nat) (r1 : Option Nat) (r2 : Option Nat) (q : (Option Nat × AH)), x_X2_signOf g N h x0 r1 r2 = some q → CT g YX2_signOf 6 [.ref x0, va_rf r1, va_rf r2] h (xR q) := by
  intro h x0 r1 r2 q hq
  refine CT.of rfl (by decide +kernel) (loc := [some (.ref x0), some (va_rf r1), some (va_rf r2), none]) (by first | exact Nat.le_of_ble_eq_true rfl | (simp only [lgl_rf, lgl_i, lgl_j, lgl_ref, lgl_nil]; exact Nat.le_of_ble_eq_true rfl)) (by first | rfl | (simp only [aent_rf, aent_i, aent_j, aent_ref, aent_nil]; rfl)) ?_
  unfold x_X2_signOf at hq
  refine aw_iconst (v := 0) dX2_signOf_0 (by decide) ?_
  refine aw_istore_n (i := 3) (loc' := [some (.ref x0), some (va_rf r1), some (va_rf r2), some (.int (0 : Int32))]) dX2_signOf_1 rfl (Nat.le_of_ble_eq_true rfl) (aset1_rf rfl) ?_
  refine p_x_X2_signOf_2 g hst N _ ?_ N h x0 r1 r2 (0 : Int32) _ hq
  · intro h x0 r1 r2 x3 q hq
    replace hq := obind hq
    obtain ⟨q14, e15, hq⟩ := hq
    refine aw_callS (Y2 := YX7_values) (As := []) (rest := []) kX7_values q1046 q1047 dX2_signOf_22 rfl rfl (ct_X7_values g hst N h _ e15) (Nat.le_of_ble_eq_true rfl) (Nat.le_of_ble_eq_true rfl) (fun v9 h9 z9 y9 => ?_)
    obtain ⟨rfl, rfl⟩ := y9
    refine aw_st (st' := [va_rf q14.1]) rfl ?_
    refine aw_aload_n (i := 2) dX2_signOf_25 rfl rfl (aIsR_rf _) ?_
    replace hq := obind hq
    obtain ⟨a16, e17, hq⟩ := hq
    subst e17
    replace hq := cond_t hq
    obtain ⟨z18, hq⟩ := hq
    obtain ⟨fs9, ha9⟩ := clB1 z18
    replace hq := obind hq
    obtain ⟨q19, e20, hq⟩ := hq
    refine aw_callU (Y2 := YJ22_ordinal) (As := []) (rest := [va_rf q14.1]) (r := (RX7, TX7, 1)) (x := ⟨"ProbeConsole$Kind", "ordinal", "()I"⟩) kJ22_ordinal ha9 rfl rfl q1057 q1058 q1061 q1060 dX2_signOf_26 rfl rfl (ct_J22_ordinal g hst N q14.2 a16 _ e20) (Nat.le_of_ble_eq_true rfl) (by simp only [List.map_cons, List.map_nil, List.sum_cons, List.sum_nil, cat_rf]; exact Nat.le_of_ble_eq_true rfl) (fun v9 h9 z9 y9 => ?_)
    obtain ⟨rfl, rfl⟩ := y9
    refine aw_st (st' := [.int q19.1, va_rf q14.1]) rfl ?_
    refine aw_iload_n (i := 3) dX2_signOf_29 rfl rfl ?_
    refine aw_iadd dX2_signOf_30 ?_
    replace hq := obind hq
    obtain ⟨a21, e22, hq⟩ := hq
    rw [e22]
    replace hq := obind hq
    obtain ⟨o23, e24, hq⟩ := hq
    refine xw_aald e24 dX2_signOf_31 ?_
    cases hq
    exact aw_areturn dX2_signOf_32 rfl (Or.inl ⟨_, rfl⟩) (aIsR_rf _) ⟨rfl, rfl⟩
