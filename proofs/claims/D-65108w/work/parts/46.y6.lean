/-! THE COMPONENT AND THE JDK as functions of the heap, and their contracts: printed by wip gen/dec2.py -/
set_option maxRecDepth 100000
theorem fJ13_19 : ∀ q ∈ ([(17, 2)] : List (Nat × Nat)), aFl RJ13 19 q.1 q.2 := by
  intro q hq
  simp only [List.mem_cons, List.not_mem_nil, or_false] at hq
  subst hq
  exact aFl.of (RJ13, TJ13, 4) rfl (Nat.le_of_ble_eq_true rfl) q750
theorem fJ13_23 : ∀ q ∈ ([(17, 3)] : List (Nat × Nat)), aFl RJ13 23 q.1 q.2 := by
  intro q hq
  simp only [List.mem_cons, List.not_mem_nil, or_false] at hq
  subst hq
  exact aFl.of (RJ13, TJ13, 4) rfl (Nat.le_of_ble_eq_true rfl) q751
theorem tJ13_2 : ∀ q ∈ ([(17, 2)] : List (Nat × Nat)), aFt q.1 q.2 false .int := by
  intro q hq
  simp only [List.mem_cons, List.not_mem_nil, or_false] at hq
  subst hq
  exact ⟨(RJ13, TJ13, 4), tyJ13, Nat.le_of_ble_eq_true rfl, rfl, Nat.le_of_ble_eq_true rfl, okJ13, rfl, rfl⟩
theorem tJ13_3 : ∀ q ∈ ([(17, 3)] : List (Nat × Nat)), aFt q.1 q.2 false .boolean := by
  intro q hq
  simp only [List.mem_cons, List.not_mem_nil, or_false] at hq
  subst hq
  exact ⟨(RJ13, TJ13, 4), tyJ13, Nat.le_of_ble_eq_true rfl, rfl, Nat.le_of_ble_eq_true rfl, okJ13, rfl, rfl⟩
abbrev YJ13_hashCode : YC := (yJ13_hashCode, cJ13_hashCode, 2, (some .int), [])
theorem kJ13_hashCode : aMk YJ13_hashCode 0 := ⟨rfl, q1159, q134, ⟨by decide +kernel, by decide +kernel, by decide +kernel⟩, Nat.le_of_ble_eq_true rfl⟩
def x_J13_hashCode_40 (g : AG) (N : Nat) (h : AH) (x0 : Nat) (x1 : Int32) (s0 : Int32) : Option (Int32 × AH) :=
  if s0 = 0 then ((wrV g h x0 [(17, 3)] (.int (1 : Int32))).bind fun h18 => some (s0, h18)) else ((wrV g h x0 [(17, 2)] (.int s0)).bind fun h16 => some (s0, h16))
theorem p_x_J13_hashCode_40 (g : AG) (hst : (gL g).stackTraces = false) (N : Nat) : ∀ (h : AH) (x0 : Nat) (x1 : Int32) (s0 : Int32) (q : (Int32 × AH)), x_J13_hashCode_40 g N h x0 x1 s0 = some q → AW g YJ13_hashCode 4 (xI q) h [some (.ref x0), some (.int x1)] 40 [.int s0] := by
  intro h x0 x1 s0 q hq
  unfold x_J13_hashCode_40 at hq
  refine aw_istore_n (i := 1) (loc' := [some (.ref x0), some (.int s0)]) dJ13_hashCode_40 rfl (Nat.le_of_ble_eq_true rfl) rfl ?_
  refine aw_iload_n (i := 1) dJ13_hashCode_41 rfl rfl ?_
  refine aw_if_ne (tgt := 53) dJ13_hashCode_42 (by decide) (fun c15 => ?_) (fun c15 => ?_)
  · rw [if_neg c15] at hq
    refine aw_aload_n (i := 0) dJ13_hashCode_53 rfl rfl trivial ?_
    refine aw_iload_n (i := 1) dJ13_hashCode_54 rfl rfl ?_
    replace hq := obind hq
    obtain ⟨h16, e17, hq⟩ := hq
    refine xw_put e17 fJ13_19 tJ13_2 ⟨rfl, rfl⟩ dJ13_hashCode_55 ?_
    refine aw_iload_n (i := 1) dJ13_hashCode_58 rfl rfl ?_
    cases hq
    exact aw_ireturn dJ13_hashCode_59 rfl rfl ⟨rfl, rfl⟩
  · rw [if_pos c15] at hq
    refine aw_aload_n (i := 0) dJ13_hashCode_45 rfl rfl trivial ?_
    refine aw_iconst (v := 1) dJ13_hashCode_46 (by decide) ?_
    replace hq := obind hq
    obtain ⟨h18, e19, hq⟩ := hq
    refine xw_put e19 fJ13_23 tJ13_3 (isb_ok (by decide)) dJ13_hashCode_47 ?_
    refine aw_goto (tgt := 58) dJ13_hashCode_50 (by decide) ?_
    refine aw_iload_n (i := 1) dJ13_hashCode_58 rfl rfl ?_
    cases hq
    exact aw_ireturn dJ13_hashCode_59 rfl rfl ⟨rfl, rfl⟩
def x_J13_hashCode (g : AG) (N : Nat) (h : AH) (x0 : Nat) : Option (Int32 × AH) :=
  (rdI h x0 [(17, 2)]).bind fun i1 => if i1 = 0 then ((rdI h x0 [(17, 3)]).bind fun i4 => if i4 = 0 then (bif clB h x0 [17] then ((x_J13_isLatin1 g N h x0).bind fun q8 => if q8.1 = 0 then ((rdR q8.2 x0 [(17, 0)]).bind fun o11 => (x_J14_hashCode g N q8.2 o11).bind fun q13 => x_J13_hashCode_40 g N  q13.2 x0 i1 q13.1) else ((rdR q8.2 x0 [(17, 0)]).bind fun o20 => (x_J18_hashCode g N q8.2 o20).bind fun q22 => x_J13_hashCode_40 g N  q22.2 x0 i1 q22.1)) else none) else (some (i1, h))) else (some (i1, h))
theorem ct_J13_hashCode (g : AG) (hst : (gL g).stackTraces = false) (N : Nat) : ∀ (h : AH) (x0 : Nat) (q : (Int32 × AH)), x_J13_hashCode g N h x0 = some q → CT g YJ13_hashCode 4 [.ref x0] h (xI q) := by
  intro h x0 q hq
  refine CT.of rfl (by decide +kernel) (loc := [some (.ref x0), none]) (by first | exact Nat.le_of_ble_eq_true rfl | (simp only [lgl_rf, lgl_i, lgl_j, lgl_ref, lgl_nil]; exact Nat.le_of_ble_eq_true rfl)) (by first | rfl | (simp only [aent_rf, aent_i, aent_j, aent_ref, aent_nil]; rfl)) ?_
  unfold x_J13_hashCode at hq
  refine aw_aload_n (i := 0) dJ13_hashCode_0 rfl rfl trivial ?_
  replace hq := obind hq
  obtain ⟨i1, e2, hq⟩ := hq
  refine xw_getI e2 fJ13_19 dJ13_hashCode_1 ?_
  refine aw_istore_n (i := 1) (loc' := [some (.ref x0), some (.int i1)]) dJ13_hashCode_4 rfl (Nat.le_of_ble_eq_true rfl) rfl ?_
  refine aw_iload_n (i := 1) dJ13_hashCode_5 rfl rfl ?_
  refine aw_if_ne (tgt := 58) dJ13_hashCode_6 (by decide) (fun c3 => ?_) (fun c3 => ?_)
  · rw [if_neg c3] at hq
    refine aw_iload_n (i := 1) dJ13_hashCode_58 rfl rfl ?_
    cases hq
    exact aw_ireturn dJ13_hashCode_59 rfl rfl ⟨rfl, rfl⟩
  · rw [if_pos c3] at hq
    refine aw_aload_n (i := 0) dJ13_hashCode_9 rfl rfl trivial ?_
    replace hq := obind hq
    obtain ⟨i4, e5, hq⟩ := hq
    refine xw_getI e5 fJ13_23 dJ13_hashCode_10 ?_
    refine aw_if_ne (tgt := 58) dJ13_hashCode_13 (by decide) (fun c6 => ?_) (fun c6 => ?_)
    · rw [if_neg c6] at hq
      refine aw_iload_n (i := 1) dJ13_hashCode_58 rfl rfl ?_
      cases hq
      exact aw_ireturn dJ13_hashCode_59 rfl rfl ⟨rfl, rfl⟩
    · rw [if_pos c6] at hq
      refine aw_aload_n (i := 0) dJ13_hashCode_16 rfl rfl trivial ?_
      replace hq := cond_t hq
      obtain ⟨z7, hq⟩ := hq
      obtain ⟨fs9, ha9⟩ := clB1 z7
      replace hq := obind hq
      obtain ⟨q8, e9, hq⟩ := hq
      refine aw_callV (Y2 := YJ13_isLatin1) (As := []) (rest := []) (r := (RJ13, TJ13, 4)) kJ13_isLatin1 ha9 rfl rfl q770 q771 q772 dJ13_hashCode_17 rfl rfl (ct_J13_isLatin1 g hst N h x0 _ e9) (Nat.le_of_ble_eq_true rfl) (Nat.le_of_ble_eq_true rfl) (fun v9 h9 z9 y9 => ?_)
      obtain ⟨rfl, rfl⟩ := y9
      refine aw_st (st' := [.int q8.1]) rfl ?_
      refine aw_if_eq (tgt := 33) dJ13_hashCode_20 (by decide) (fun c10 => ?_) (fun c10 => ?_)
      · rw [if_pos c10] at hq
        refine aw_aload_n (i := 0) dJ13_hashCode_33 rfl rfl trivial ?_
        replace hq := obind hq
        obtain ⟨o11, e12, hq⟩ := hq
        refine xw_getR e12 fJ13_9 dJ13_hashCode_34 ?_
        replace hq := obind hq
        obtain ⟨q13, e14, hq⟩ := hq
        refine aw_callS (Y2 := YJ14_hashCode) (As := [va_rf o11]) (rest := []) kJ14_hashCode q1209 q1210 dJ13_hashCode_37 rfl rfl (ct_J14_hashCode g hst N q8.2 o11 _ e14) (Nat.le_of_ble_eq_true rfl) (Nat.le_of_ble_eq_true rfl) (fun v9 h9 z9 y9 => ?_)
        obtain ⟨rfl, rfl⟩ := y9
        refine aw_st (st' := [.int q13.1]) rfl ?_
        exact p_x_J13_hashCode_40 g hst N   q13.2 x0 i1 q13.1 _ hq
      · rw [if_neg c10] at hq
        refine aw_aload_n (i := 0) dJ13_hashCode_23 rfl rfl trivial ?_
        replace hq := obind hq
        obtain ⟨o20, e21, hq⟩ := hq
        refine xw_getR e21 fJ13_9 dJ13_hashCode_24 ?_
        replace hq := obind hq
        obtain ⟨q22, e23, hq⟩ := hq
        refine aw_callS (Y2 := YJ18_hashCode) (As := [va_rf o20]) (rest := []) kJ18_hashCode q1160 q1161 dJ13_hashCode_27 rfl rfl (ct_J18_hashCode g hst N q8.2 o20 _ e23) (Nat.le_of_ble_eq_true rfl) (Nat.le_of_ble_eq_true rfl) (fun v9 h9 z9 y9 => ?_)
        obtain ⟨rfl, rfl⟩ := y9
        refine aw_st (st' := [.int q22.1]) rfl ?_
        refine aw_goto (tgt := 40) dJ13_hashCode_30 (by decide) ?_
        exact p_x_J13_hashCode_40 g hst N   q22.2 x0 i1 q22.1 _ hq
abbrev YJ18_canEncode_2 : YC := (yJ18_canEncode_2, cJ18_canEncode_2, 1, (some .boolean), [])
theorem kJ18_canEncode_2 : aMk YJ18_canEncode_2 1 := ⟨rfl, q928, q140, ⟨by decide +kernel, by decide +kernel, by decide +kernel⟩, Nat.le_of_ble_eq_true rfl⟩
def x_J18_canEncode_2 (g : AG) (N : Nat) (h : AH) (x0 : Int32) : Option (Int32 × AH) :=
  if x0 < 0 then (some ((0 : Int32), h)) else (if (255 : Int32) < x0 then (some ((0 : Int32), h)) else (some ((1 : Int32), h)))
theorem ct_J18_canEncode_2 (g : AG) (hst : (gL g).stackTraces = false) (N : Nat) : ∀ (h : AH) (x0 : Int32) (q : (Int32 × AH)), x_J18_canEncode_2 g N h x0 = some q → CT g YJ18_canEncode_2 1 [.int x0] h (xI q) := by
  intro h x0 q hq
  refine CT.of rfl (by decide +kernel) (loc := [some (.int x0)]) (by first | exact Nat.le_of_ble_eq_true rfl | (simp only [lgl_rf, lgl_i, lgl_j, lgl_ref, lgl_nil]; exact Nat.le_of_ble_eq_true rfl)) (by first | rfl | (simp only [aent_rf, aent_i, aent_j, aent_ref, aent_nil]; rfl)) ?_
  unfold x_J18_canEncode_2 at hq
  refine aw_iload_n (i := 0) dJ18_canEncode_2_0 rfl rfl ?_
  refine aw_if_lt (tgt := 15) dJ18_canEncode_2_1 (by decide) (fun c1 => ?_) (fun c1 => ?_)
  · rw [if_pos c1] at hq
    refine aw_iconst (v := 0) dJ18_canEncode_2_15 (by decide) ?_
    cases hq
    exact aw_ireturn dJ18_canEncode_2_16 rfl rfl ⟨rfl, rfl⟩
  · rw [if_neg c1] at hq
    refine aw_iload_n (i := 0) dJ18_canEncode_2_4 rfl rfl ?_
    refine aw_sipush (v := 255) dJ18_canEncode_2_5 (by decide) ?_
    refine aw_icmp_gt (tgt := 15) dJ18_canEncode_2_8 (by decide) (fun c2 => ?_) (fun c2 => ?_)
    · rw [if_pos c2] at hq
      refine aw_iconst (v := 0) dJ18_canEncode_2_15 (by decide) ?_
      cases hq
      exact aw_ireturn dJ18_canEncode_2_16 rfl rfl ⟨rfl, rfl⟩
    · rw [if_neg c2] at hq
      refine aw_iconst (v := 1) dJ18_canEncode_2_11 (by decide) ?_
      refine aw_goto (tgt := 16) dJ18_canEncode_2_12 (by decide) ?_
      cases hq
      exact aw_ireturn dJ18_canEncode_2_16 rfl rfl ⟨rfl, rfl⟩
abbrev YJ18_indexOfChar : YC := (yJ18_indexOfChar, cJ18_indexOfChar, 6, (some .int), [])
theorem kJ18_indexOfChar : aMk YJ18_indexOfChar 4 := ⟨rfl, q933, q140, ⟨by decide +kernel, by decide +kernel, by decide +kernel⟩, Nat.le_of_ble_eq_true rfl⟩
def x_J18_indexOfChar_7 (g : AG) (N : Nat) : Nat → AH → Option Nat → Int32 → Int32 → Int32 → Int32 → Int32 → Option (Int32 × AH)
  | 0, _, _, _, _, _, _, _ => none
  | n9 + 1, h, r0, x1, x2, x3, x4, x5 =>
  if x3 ≤ x5 then (some ((-1 : Int32), h)) else ((r0).bind fun a2 => ((rdA h a2 3 x5).bind vI).bind fun i4 => if i4 = x4 then (some (x5, h)) else (x_J18_indexOfChar_7 g N n9 h (some a2) x1 x2 x3 x4 (x5 + 1)))
theorem p_x_J18_indexOfChar_7 (g : AG) (hst : (gL g).stackTraces = false) (N : Nat) : ∀ (n9 : Nat) (h : AH) (r0 : Option Nat) (x1 : Int32) (x2 : Int32) (x3 : Int32) (x4 : Int32) (x5 : Int32) (q : (Int32 × AH)), x_J18_indexOfChar_7 g N n9 h r0 x1 x2 x3 x4 x5 = some q → AW g YJ18_indexOfChar 1 (xI q) h [some (va_rf r0), some (.int x1), some (.int x2), some (.int x3), some (.int x4), some (.int x5)] 7 [] := by
  intro n9
  induction n9 with
  | zero =>
    intro h r0 x1 x2 x3 x4 x5 q hq
    cases hq
  | succ n9 ih =>
    intro h r0 x1 x2 x3 x4 x5 q hq
    rw [x_J18_indexOfChar_7] at hq
    refine aw_iload dJ18_indexOfChar_7 rfl ?_
    refine aw_iload_n (i := 3) dJ18_indexOfChar_9 rfl rfl ?_
    refine aw_icmp_ge (tgt := 31) dJ18_indexOfChar_10 (by decide) (fun c1 => ?_) (fun c1 => ?_)
    · rw [if_pos c1] at hq
      refine aw_iconst (v := (-1)) dJ18_indexOfChar_31 (by decide) ?_
      cases hq
      exact aw_ireturn dJ18_indexOfChar_32 rfl rfl ⟨rfl, rfl⟩
    · rw [if_neg c1] at hq
      refine aw_aload_n (i := 0) dJ18_indexOfChar_13 rfl rfl (aIsR_rf _) ?_
      refine aw_iload dJ18_indexOfChar_14 rfl ?_
      replace hq := obind hq
      obtain ⟨a2, e3, hq⟩ := hq
      subst e3
      replace hq := obind hq
      obtain ⟨i4, e5, hq⟩ := hq
      refine xw_bald e5 dJ18_indexOfChar_16 ?_
      refine aw_iload dJ18_indexOfChar_17 rfl ?_
      refine aw_icmp_ne (tgt := 25) dJ18_indexOfChar_19 (by decide) (fun c6 => ?_) (fun c6 => ?_)
      · rw [if_neg c6] at hq
        refine aw_iinc (v := x5 + 1) (loc' := [some (.ref a2), some (.int x1), some (.int x2), some (.int x3), some (.int x4), some (.int (x5 + 1))]) dJ18_indexOfChar_25 rfl rfl (Nat.le_of_ble_eq_true rfl) rfl ?_
        refine aw_goto (tgt := 7) dJ18_indexOfChar_28 (by decide) ?_
        exact ih h (some a2) x1 x2 x3 x4 (x5 + 1) _ hq
      · rw [if_pos c6] at hq
        refine aw_iload dJ18_indexOfChar_22 rfl ?_
        cases hq
        exact aw_ireturn dJ18_indexOfChar_24 rfl rfl ⟨rfl, rfl⟩
def x_J18_indexOfChar (g : AG) (N : Nat) (h : AH) (r0 : Option Nat) (x1 : Int32) (x2 : Int32) (x3 : Int32) : Option (Int32 × AH) :=
  x_J18_indexOfChar_7 g N  N h r0 x1 x2 x3 x1.toInt8.toInt32 x2
theorem ct_J18_indexOfChar (g : AG) (hst : (gL g).stackTraces = false) (N : Nat) : ∀ (h : AH) (r0 : Option Nat) (x1 : Int32) (x2 : Int32) (x3 : Int32) (q : (Int32 × AH)), x_J18_indexOfChar g N h r0 x1 x2 x3 = some q → CT g YJ18_indexOfChar 1 [va_rf r0, .int x1, .int x2, .int x3] h (xI q) := by
  intro h r0 x1 x2 x3 q hq
  refine CT.of rfl (by decide +kernel) (loc := [some (va_rf r0), some (.int x1), some (.int x2), some (.int x3), none, none]) (by first | exact Nat.le_of_ble_eq_true rfl | (simp only [lgl_rf, lgl_i, lgl_j, lgl_ref, lgl_nil]; exact Nat.le_of_ble_eq_true rfl)) (by first | rfl | (simp only [aent_rf, aent_i, aent_j, aent_ref, aent_nil]; rfl)) ?_
  unfold x_J18_indexOfChar at hq
  refine aw_iload_n (i := 1) dJ18_indexOfChar_0 rfl rfl ?_
  refine aw_i2b dJ18_indexOfChar_1 ?_
  refine aw_istore (loc' := [some (va_rf r0), some (.int x1), some (.int x2), some (.int x3), some (.int x1.toInt8.toInt32), none]) dJ18_indexOfChar_2 (Nat.le_of_ble_eq_true rfl) rfl ?_
  refine aw_iload_n (i := 2) dJ18_indexOfChar_4 rfl rfl ?_
  refine aw_istore (loc' := [some (va_rf r0), some (.int x1), some (.int x2), some (.int x3), some (.int x1.toInt8.toInt32), some (.int x2)]) dJ18_indexOfChar_5 (Nat.le_of_ble_eq_true rfl) rfl ?_
  exact p_x_J18_indexOfChar_7 g hst N   N h r0 x1 x2 x3 x1.toInt8.toInt32 x2 _ hq
abbrev YJ18_indexOf : YC := (yJ18_indexOf, cJ18_indexOf, 4, (some .int), [])
theorem kJ18_indexOf : aMk YJ18_indexOf 4 := ⟨rfl, q925, q140, ⟨by decide +kernel, by decide +kernel, by decide +kernel⟩, Nat.le_of_ble_eq_true rfl⟩
def x_J18_indexOf (g : AG) (N : Nat) (h : AH) (r0 : Option Nat) (x1 : Int32) (x2 : Int32) (x3 : Int32) : Option (Int32 × AH) :=
  (x_J18_canEncode_2 g N h x1).bind fun q1 => if q1.1 = 0 then (some ((-1 : Int32), q1.2)) else ((r0).bind fun a4 => (rdN q1.2 a4).bind fun i6 => if (if x2 < (0 : Int32) then (0 : Int32) else x2) < (if i6 < x3 then i6 else x3) then ((x_J18_indexOfChar g N q1.2 (some a4) x1 (if x2 < (0 : Int32) then (0 : Int32) else x2) (if i6 < x3 then i6 else x3)).bind fun q9 => some (q9.1, q9.2)) else (some ((-1 : Int32), q1.2)))
theorem ct_J18_indexOf (g : AG) (hst : (gL g).stackTraces = false) (N : Nat) : ∀ (h : AH) (r0 : Option Nat) (x1 : Int32) (x2 : Int32) (x3 : Int32) (q : (Int32 × AH)), x_J18_indexOf g N h r0 x1 x2 x3 = some q → CT g YJ18_indexOf 3 [va_rf r0, .int x1, .int x2, .int x3] h (xI q) := by
  intro h r0 x1 x2 x3 q hq
  refine CT.of rfl (by decide +kernel) (loc := [some (va_rf r0), some (.int x1), some (.int x2), some (.int x3)]) (by first | exact Nat.le_of_ble_eq_true rfl | (simp only [lgl_rf, lgl_i, lgl_j, lgl_ref, lgl_nil]; exact Nat.le_of_ble_eq_true rfl)) (by first | rfl | (simp only [aent_rf, aent_i, aent_j, aent_ref, aent_nil]; rfl)) ?_
  unfold x_J18_indexOf at hq
  refine aw_iload_n (i := 1) dJ18_indexOf_0 rfl rfl ?_
  replace hq := obind hq
  obtain ⟨q1, e2, hq⟩ := hq
  refine aw_callS (Y2 := YJ18_canEncode_2) (As := [.int x1]) (rest := []) kJ18_canEncode_2 q926 q927 dJ18_indexOf_1 rfl rfl (ct_J18_canEncode_2 g hst N h x1 _ e2) (Nat.le_of_ble_eq_true rfl) (Nat.le_of_ble_eq_true rfl) (fun v9 h9 z9 y9 => ?_)
  obtain ⟨rfl, rfl⟩ := y9
  refine aw_st (st' := [.int q1.1]) rfl ?_
  refine aw_if_ne (tgt := 9) dJ18_indexOf_4 (by decide) (fun c3 => ?_) (fun c3 => ?_)
  · rw [if_neg c3] at hq
    refine aw_iload_n (i := 2) dJ18_indexOf_9 rfl rfl ?_
    refine aw_iconst (v := 0) dJ18_indexOf_10 (by decide) ?_
    refine aw_mmax q929 (by omega) (Nat.le_of_ble_eq_true rfl) dJ18_indexOf_11 ?_
    refine aw_istore_n (i := 2) (loc' := [some (va_rf r0), some (.int x1), some (.int (if x2 < (0 : Int32) then (0 : Int32) else x2)), some (.int x3)]) dJ18_indexOf_14 rfl (Nat.le_of_ble_eq_true rfl) rfl ?_
    refine aw_iload_n (i := 3) dJ18_indexOf_15 rfl rfl ?_
    refine aw_aload_n (i := 0) dJ18_indexOf_16 rfl rfl (aIsR_rf _) ?_
    replace hq := obind hq
    obtain ⟨a4, e5, hq⟩ := hq
    subst e5
    replace hq := obind hq
    obtain ⟨i6, e7, hq⟩ := hq
    refine xw_alen e7 dJ18_indexOf_17 ?_
    refine aw_mmin q930 (by omega) (Nat.le_of_ble_eq_true rfl) dJ18_indexOf_18 ?_
    refine aw_istore_n (i := 3) (loc' := [some (.ref a4), some (.int x1), some (.int (if x2 < (0 : Int32) then (0 : Int32) else x2)), some (.int (if i6 < x3 then i6 else x3))]) dJ18_indexOf_21 rfl (Nat.le_of_ble_eq_true rfl) rfl ?_
    refine aw_iload_n (i := 2) dJ18_indexOf_22 rfl rfl ?_
    refine aw_iload_n (i := 3) dJ18_indexOf_23 rfl rfl ?_
    refine aw_icmp_lt (tgt := 29) dJ18_indexOf_24 (by decide) (fun c8 => ?_) (fun c8 => ?_)
    · rw [if_pos c8] at hq
      refine aw_aload_n (i := 0) dJ18_indexOf_29 rfl rfl trivial ?_
      refine aw_iload_n (i := 1) dJ18_indexOf_30 rfl rfl ?_
      refine aw_iload_n (i := 2) dJ18_indexOf_31 rfl rfl ?_
      refine aw_iload_n (i := 3) dJ18_indexOf_32 rfl rfl ?_
      replace hq := obind hq
      obtain ⟨q9, e10, hq⟩ := hq
      refine aw_callS (Y2 := YJ18_indexOfChar) (As := [.ref a4, .int x1, .int (if x2 < (0 : Int32) then (0 : Int32) else x2), .int (if i6 < x3 then i6 else x3)]) (rest := []) kJ18_indexOfChar q931 q932 dJ18_indexOf_33 rfl rfl (ct_J18_indexOfChar g hst N q1.2 (some a4) x1 (if x2 < (0 : Int32) then (0 : Int32) else x2) (if i6 < x3 then i6 else x3) _ e10) (Nat.le_of_ble_eq_true rfl) (Nat.le_of_ble_eq_true rfl) (fun v9 h9 z9 y9 => ?_)
      obtain ⟨rfl, rfl⟩ := y9
      refine aw_st (st' := [.int q9.1]) rfl ?_
      cases hq
      exact aw_ireturn dJ18_indexOf_36 rfl rfl ⟨rfl, rfl⟩
    · rw [if_neg c8] at hq
      refine aw_iconst (v := (-1)) dJ18_indexOf_27 (by decide) ?_
      cases hq
      exact aw_ireturn dJ18_indexOf_28 rfl rfl ⟨rfl, rfl⟩
  · rw [if_pos c3] at hq
    refine aw_iconst (v := (-1)) dJ18_indexOf_7 (by decide) ?_
    cases hq
    exact aw_ireturn dJ18_indexOf_8 rfl rfl ⟨rfl, rfl⟩
abbrev YJ14_indexOfCharUnsafe : YC := (yJ14_indexOfCharUnsafe, cJ14_indexOfCharUnsafe, 5, (some .int), [])
theorem kJ14_indexOfCharUnsafe : aMk YJ14_indexOfCharUnsafe 4 := ⟨rfl, q945, q135, ⟨by decide +kernel, by decide +kernel, by decide +kernel⟩, Nat.le_of_ble_eq_true rfl⟩
def x_J14_indexOfCharUnsafe_3 (g : AG) (N : Nat) : Nat → AH → Option Nat → Int32 → Int32 → Int32 → Int32 → Option (Int32 × AH)
  | 0, _, _, _, _, _, _ => none
  | n9 + 1, h, r0, x1, x2, x3, x4 =>
  if x3 ≤ x4 then (some ((-1 : Int32), h)) else ((x_J14_getChar g N h r0 x4).bind fun q2 => if q2.1 = x1 then (some (x4, q2.2)) else (x_J14_indexOfCharUnsafe_3 g N n9 q2.2 r0 x1 x2 x3 (x4 + 1)))
theorem p_x_J14_indexOfCharUnsafe_3 (g : AG) (hst : (gL g).stackTraces = false) (N : Nat) : ∀ (n9 : Nat) (h : AH) (r0 : Option Nat) (x1 : Int32) (x2 : Int32) (x3 : Int32) (x4 : Int32) (q : (Int32 × AH)), x_J14_indexOfCharUnsafe_3 g N n9 h r0 x1 x2 x3 x4 = some q → AW g YJ14_indexOfCharUnsafe 2 (xI q) h [some (va_rf r0), some (.int x1), some (.int x2), some (.int x3), some (.int x4)] 3 [] := by
  intro n9
  induction n9 with
  | zero =>
    intro h r0 x1 x2 x3 x4 q hq
    cases hq
  | succ n9 ih =>
    intro h r0 x1 x2 x3 x4 q hq
    rw [x_J14_indexOfCharUnsafe_3] at hq
    refine aw_iload dJ14_indexOfCharUnsafe_3 rfl ?_
    refine aw_iload_n (i := 3) dJ14_indexOfCharUnsafe_5 rfl rfl ?_
    refine aw_icmp_ge (tgt := 28) dJ14_indexOfCharUnsafe_6 (by decide) (fun c1 => ?_) (fun c1 => ?_)
    · rw [if_pos c1] at hq
      refine aw_iconst (v := (-1)) dJ14_indexOfCharUnsafe_28 (by decide) ?_
      cases hq
      exact aw_ireturn dJ14_indexOfCharUnsafe_29 rfl rfl ⟨rfl, rfl⟩
    · rw [if_neg c1] at hq
      refine aw_aload_n (i := 0) dJ14_indexOfCharUnsafe_9 rfl rfl (aIsR_rf _) ?_
      refine aw_iload dJ14_indexOfCharUnsafe_10 rfl ?_
      replace hq := obind hq
      obtain ⟨q2, e3, hq⟩ := hq
      refine aw_callS (Y2 := YJ14_getChar) (As := [va_rf r0, .int x4]) (rest := []) kJ14_getChar q741 q742 dJ14_indexOfCharUnsafe_12 rfl rfl (ct_J14_getChar g hst N h r0 x4 _ e3) (Nat.le_of_ble_eq_true rfl) (Nat.le_of_ble_eq_true rfl) (fun v9 h9 z9 y9 => ?_)
      obtain ⟨rfl, rfl⟩ := y9
      refine aw_st (st' := [.int q2.1]) rfl ?_
      refine aw_iload_n (i := 1) dJ14_indexOfCharUnsafe_15 rfl rfl ?_
      refine aw_icmp_ne (tgt := 22) dJ14_indexOfCharUnsafe_16 (by decide) (fun c4 => ?_) (fun c4 => ?_)
      · rw [if_neg c4] at hq
        refine aw_iinc (v := x4 + 1) (loc' := [some (va_rf r0), some (.int x1), some (.int x2), some (.int x3), some (.int (x4 + 1))]) dJ14_indexOfCharUnsafe_22 rfl rfl (Nat.le_of_ble_eq_true rfl) rfl ?_
        refine aw_goto (tgt := 3) dJ14_indexOfCharUnsafe_25 (by decide) ?_
        exact ih q2.2 r0 x1 x2 x3 (x4 + 1) _ hq
      · rw [if_pos c4] at hq
        refine aw_iload dJ14_indexOfCharUnsafe_19 rfl ?_
        cases hq
        exact aw_ireturn dJ14_indexOfCharUnsafe_21 rfl rfl ⟨rfl, rfl⟩
def x_J14_indexOfCharUnsafe (g : AG) (N : Nat) (h : AH) (r0 : Option Nat) (x1 : Int32) (x2 : Int32) (x3 : Int32) : Option (Int32 × AH) :=
  x_J14_indexOfCharUnsafe_3 g N  N h r0 x1 x2 x3 x2
theorem ct_J14_indexOfCharUnsafe (g : AG) (hst : (gL g).stackTraces = false) (N : Nat) : ∀ (h : AH) (r0 : Option Nat) (x1 : Int32) (x2 : Int32) (x3 : Int32) (q : (Int32 × AH)), x_J14_indexOfCharUnsafe g N h r0 x1 x2 x3 = some q → CT g YJ14_indexOfCharUnsafe 2 [va_rf r0, .int x1, .int x2, .int x3] h (xI q) := by
  intro h r0 x1 x2 x3 q hq
  refine CT.of rfl (by decide +kernel) (loc := [some (va_rf r0), some (.int x1), some (.int x2), some (.int x3), none]) (by first | exact Nat.le_of_ble_eq_true rfl | (simp only [lgl_rf, lgl_i, lgl_j, lgl_ref, lgl_nil]; exact Nat.le_of_ble_eq_true rfl)) (by first | rfl | (simp only [aent_rf, aent_i, aent_j, aent_ref, aent_nil]; rfl)) ?_
  unfold x_J14_indexOfCharUnsafe at hq
  refine aw_iload_n (i := 2) dJ14_indexOfCharUnsafe_0 rfl rfl ?_
  refine aw_istore (loc' := [some (va_rf r0), some (.int x1), some (.int x2), some (.int x3), some (.int x2)]) dJ14_indexOfCharUnsafe_1 (Nat.le_of_ble_eq_true rfl) rfl ?_
  exact p_x_J14_indexOfCharUnsafe_3 g hst N   N h r0 x1 x2 x3 x2 _ hq
abbrev YJ14_indexOfChar : YC := (yJ14_indexOfChar, cJ14_indexOfChar, 4, (some .int), [])
theorem kJ14_indexOfChar : aMk YJ14_indexOfChar 4 := ⟨rfl, q942, q135, ⟨by decide +kernel, by decide +kernel, by decide +kernel⟩, Nat.le_of_ble_eq_true rfl⟩
def x_J14_indexOfChar (g : AG) (N : Nat) (h : AH) (r0 : Option Nat) (x1 : Int32) (x2 : Int32) (x3 : Int32) : Option (Int32 × AH) :=
  (x_J14_checkBoundsBeginEnd g N h x2 x3 r0).bind fun q1 => (x_J14_indexOfCharUnsafe g N q1 r0 x1 x2 x3).bind fun q3 => some (q3.1, q3.2)
theorem ct_J14_indexOfChar (g : AG) (hst : (gL g).stackTraces = false) (N : Nat) : ∀ (h : AH) (r0 : Option Nat) (x1 : Int32) (x2 : Int32) (x3 : Int32) (q : (Int32 × AH)), x_J14_indexOfChar g N h r0 x1 x2 x3 = some q → CT g YJ14_indexOfChar 4 [va_rf r0, .int x1, .int x2, .int x3] h (xI q) := by
  intro h r0 x1 x2 x3 q hq
  refine CT.of rfl (by decide +kernel) (loc := [some (va_rf r0), some (.int x1), some (.int x2), some (.int x3)]) (by first | exact Nat.le_of_ble_eq_true rfl | (simp only [lgl_rf, lgl_i, lgl_j, lgl_ref, lgl_nil]; exact Nat.le_of_ble_eq_true rfl)) (by first | rfl | (simp only [aent_rf, aent_i, aent_j, aent_ref, aent_nil]; rfl)) ?_
  unfold x_J14_indexOfChar at hq
  refine aw_iload_n (i := 2) dJ14_indexOfChar_0 rfl rfl ?_
  refine aw_iload_n (i := 3) dJ14_indexOfChar_1 rfl rfl ?_
  refine aw_aload_n (i := 0) dJ14_indexOfChar_2 rfl rfl (aIsR_rf _) ?_
  replace hq := obind hq
  obtain ⟨q1, e2, hq⟩ := hq
  refine aw_callS (Y2 := YJ14_checkBoundsBeginEnd) (As := [.int x2, .int x3, va_rf r0]) (rest := []) kJ14_checkBoundsBeginEnd q675 q676 dJ14_indexOfChar_3 rfl rfl (ct_J14_checkBoundsBeginEnd g hst N h x2 x3 r0 _ e2) (Nat.le_of_ble_eq_true rfl) (Nat.le_of_ble_eq_true rfl) (fun v9 h9 z9 y9 => ?_)
  obtain ⟨rfl, y9⟩ := y9
  rw [y9]
  refine aw_st (st' := []) rfl ?_
  refine aw_aload_n (i := 0) dJ14_indexOfChar_6 rfl rfl (aIsR_rf _) ?_
  refine aw_iload_n (i := 1) dJ14_indexOfChar_7 rfl rfl ?_
  refine aw_iload_n (i := 2) dJ14_indexOfChar_8 rfl rfl ?_
  refine aw_iload_n (i := 3) dJ14_indexOfChar_9 rfl rfl ?_
  replace hq := obind hq
  obtain ⟨q3, e4, hq⟩ := hq
  refine aw_callS (Y2 := YJ14_indexOfCharUnsafe) (As := [va_rf r0, .int x1, .int x2, .int x3]) (rest := []) kJ14_indexOfCharUnsafe q943 q944 dJ14_indexOfChar_10 rfl rfl (ct_J14_indexOfCharUnsafe g hst N q1 r0 x1 x2 x3 _ e4) (Nat.le_of_ble_eq_true rfl) (Nat.le_of_ble_eq_true rfl) (fun v9 h9 z9 y9 => ?_)
  obtain ⟨rfl, rfl⟩ := y9
  refine aw_st (st' := [.int q3.1]) rfl ?_
  cases hq
  exact aw_ireturn dJ14_indexOfChar_13 rfl rfl ⟨rfl, rfl⟩
abbrev YJ23_isValidCodePoint : YC := (yJ23_isValidCodePoint, cJ23_isValidCodePoint, 2, (some .boolean), [])
theorem kJ23_isValidCodePoint : aMk YJ23_isValidCodePoint 1 := ⟨rfl, q951, q147, ⟨by decide +kernel, by decide +kernel, by decide +kernel⟩, Nat.le_of_ble_eq_true rfl⟩
def x_J23_isValidCodePoint (g : AG) (N : Nat) (h : AH) (x0 : Int32) : Option (Int32 × AH) :=
  if (17 : Int32) ≤ ((x0.toUInt32 >>> ((16 : Int32).toUInt32 &&& Int32.toUInt32 31)).toInt32) then (some ((0 : Int32), h)) else (some ((1 : Int32), h))
theorem ct_J23_isValidCodePoint (g : AG) (hst : (gL g).stackTraces = false) (N : Nat) : ∀ (h : AH) (x0 : Int32) (q : (Int32 × AH)), x_J23_isValidCodePoint g N h x0 = some q → CT g YJ23_isValidCodePoint 1 [.int x0] h (xI q) := by
  intro h x0 q hq
  refine CT.of rfl (by decide +kernel) (loc := [some (.int x0), none]) (by first | exact Nat.le_of_ble_eq_true rfl | (simp only [lgl_rf, lgl_i, lgl_j, lgl_ref, lgl_nil]; exact Nat.le_of_ble_eq_true rfl)) (by first | rfl | (simp only [aent_rf, aent_i, aent_j, aent_ref, aent_nil]; rfl)) ?_
  unfold x_J23_isValidCodePoint at hq
  refine aw_iload_n (i := 0) dJ23_isValidCodePoint_0 rfl rfl ?_
  refine aw_bipush (v := 16) dJ23_isValidCodePoint_1 (by decide) ?_
  refine aw_iushr dJ23_isValidCodePoint_3 ?_
  refine aw_istore_n (i := 1) (loc' := [some (.int x0), some (.int ((x0.toUInt32 >>> ((16 : Int32).toUInt32 &&& Int32.toUInt32 31)).toInt32))]) dJ23_isValidCodePoint_4 rfl (Nat.le_of_ble_eq_true rfl) rfl ?_
  refine aw_iload_n (i := 1) dJ23_isValidCodePoint_5 rfl rfl ?_
  refine aw_bipush (v := 17) dJ23_isValidCodePoint_6 (by decide) ?_
  refine aw_icmp_ge (tgt := 15) dJ23_isValidCodePoint_8 (by decide) (fun c1 => ?_) (fun c1 => ?_)
  · rw [if_pos c1] at hq
    refine aw_iconst (v := 0) dJ23_isValidCodePoint_15 (by decide) ?_
    cases hq
    exact aw_ireturn dJ23_isValidCodePoint_16 rfl rfl ⟨rfl, rfl⟩
  · rw [if_neg c1] at hq
    refine aw_iconst (v := 1) dJ23_isValidCodePoint_11 (by decide) ?_
    refine aw_goto (tgt := 16) dJ23_isValidCodePoint_12 (by decide) ?_
    cases hq
    exact aw_ireturn dJ23_isValidCodePoint_16 rfl rfl ⟨rfl, rfl⟩
abbrev YJ23_highSurrogate : YC := (yJ23_highSurrogate, cJ23_highSurrogate, 1, (some .char), [])
theorem kJ23_highSurrogate : aMk YJ23_highSurrogate 1 := ⟨rfl, q954, q147, ⟨by decide +kernel, by decide +kernel, by decide +kernel⟩, Nat.le_of_ble_eq_true rfl⟩
def x_J23_highSurrogate (g : AG) (N : Nat) (h : AH) (x0 : Int32) : Option (Int32 × AH) :=
  bif isc (((((x0.toUInt32 >>> ((10 : Int32).toUInt32 &&& Int32.toUInt32 31)).toInt32) + (55232 : Int32)).toUInt32 % 65536).toInt32) then (some ((((((x0.toUInt32 >>> ((10 : Int32).toUInt32 &&& Int32.toUInt32 31)).toInt32) + (55232 : Int32)).toUInt32 % 65536).toInt32), h)) else none
theorem ct_J23_highSurrogate (g : AG) (hst : (gL g).stackTraces = false) (N : Nat) : ∀ (h : AH) (x0 : Int32) (q : (Int32 × AH)), x_J23_highSurrogate g N h x0 = some q → CT g YJ23_highSurrogate 1 [.int x0] h (xI q) := by
  intro h x0 q hq
  refine CT.of rfl (by decide +kernel) (loc := [some (.int x0)]) (by first | exact Nat.le_of_ble_eq_true rfl | (simp only [lgl_rf, lgl_i, lgl_j, lgl_ref, lgl_nil]; exact Nat.le_of_ble_eq_true rfl)) (by first | rfl | (simp only [aent_rf, aent_i, aent_j, aent_ref, aent_nil]; rfl)) ?_
  unfold x_J23_highSurrogate at hq
  refine aw_iload_n (i := 0) dJ23_highSurrogate_0 rfl rfl ?_
  refine aw_bipush (v := 10) dJ23_highSurrogate_1 (by decide) ?_
  refine aw_iushr dJ23_highSurrogate_3 ?_
  refine aw_ldc (v := (55232)) dJ23_highSurrogate_4 q955 ?_
  refine aw_iadd dJ23_highSurrogate_6 ?_
  refine aw_i2c dJ23_highSurrogate_7 ?_
  replace hq := cond_t hq
  obtain ⟨z1, hq⟩ := hq
  cases hq
  exact aw_ireturn dJ23_highSurrogate_8 rfl (isc_ok z1).1 ⟨rfl, rfl⟩
abbrev YJ23_lowSurrogate : YC := (yJ23_lowSurrogate, cJ23_lowSurrogate, 1, (some .char), [])
theorem kJ23_lowSurrogate : aMk YJ23_lowSurrogate 1 := ⟨rfl, q958, q147, ⟨by decide +kernel, by decide +kernel, by decide +kernel⟩, Nat.le_of_ble_eq_true rfl⟩
def x_J23_lowSurrogate (g : AG) (N : Nat) (h : AH) (x0 : Int32) : Option (Int32 × AH) :=
  bif isc ((((x0 &&& (1023 : Int32)) + (56320 : Int32)).toUInt32 % 65536).toInt32) then (some (((((x0 &&& (1023 : Int32)) + (56320 : Int32)).toUInt32 % 65536).toInt32), h)) else none
theorem ct_J23_lowSurrogate (g : AG) (hst : (gL g).stackTraces = false) (N : Nat) : ∀ (h : AH) (x0 : Int32) (q : (Int32 × AH)), x_J23_lowSurrogate g N h x0 = some q → CT g YJ23_lowSurrogate 1 [.int x0] h (xI q) := by
  intro h x0 q hq
  refine CT.of rfl (by decide +kernel) (loc := [some (.int x0)]) (by first | exact Nat.le_of_ble_eq_true rfl | (simp only [lgl_rf, lgl_i, lgl_j, lgl_ref, lgl_nil]; exact Nat.le_of_ble_eq_true rfl)) (by first | rfl | (simp only [aent_rf, aent_i, aent_j, aent_ref, aent_nil]; rfl)) ?_
  unfold x_J23_lowSurrogate at hq
  refine aw_iload_n (i := 0) dJ23_lowSurrogate_0 rfl rfl ?_
  refine aw_sipush (v := 1023) dJ23_lowSurrogate_1 (by decide) ?_
  refine aw_iand dJ23_lowSurrogate_4 ?_
  refine aw_ldc (v := (56320)) dJ23_lowSurrogate_5 q959 ?_
  refine aw_iadd dJ23_lowSurrogate_7 ?_
  refine aw_i2c dJ23_lowSurrogate_8 ?_
  replace hq := cond_t hq
  obtain ⟨z1, hq⟩ := hq
  cases hq
  exact aw_ireturn dJ23_lowSurrogate_9 rfl (isc_ok z1).1 ⟨rfl, rfl⟩
abbrev YJ14_indexOfSupplementary : YC := (yJ14_indexOfSupplementary, cJ14_indexOfSupplementary, 7, (some .int), [])
theorem kJ14_indexOfSupplementary : aMk YJ14_indexOfSupplementary 4 := ⟨rfl, q948, q135, ⟨by decide +kernel, by decide +kernel, by decide +kernel⟩, Nat.le_of_ble_eq_true rfl⟩
def x_J14_indexOfSupplementary_63 (g : AG) (N : Nat) (K28 : AH → Option Nat → Int32 → Int32 → Int32 → Int32 → Int32 → Int32 → Option (Int32 × AH)) (h : AH) (r0 : Option Nat) (x1 : Int32) (x2 : Int32) (x3 : Int32) (x4 : Int32) (x5 : Int32) (x6 : Int32) : Option (Int32 × AH) :=
  K28 h r0 x1 x2 x3 x4 x5 (x6 + 1)
theorem p_x_J14_indexOfSupplementary_63 (g : AG) (hst : (gL g).stackTraces = false) (N : Nat) (K28 : AH → Option Nat → Int32 → Int32 → Int32 → Int32 → Int32 → Int32 → Option (Int32 × AH)) (hK28 : ∀ (h : AH) (r0 : Option Nat) (x1 : Int32) (x2 : Int32) (x3 : Int32) (x4 : Int32) (x5 : Int32) (x6 : Int32) (q : (Int32 × AH)), K28 h r0 x1 x2 x3 x4 x5 x6 = some q → AW g YJ14_indexOfSupplementary 4 (xI q) h [some (va_rf r0), some (.int x1), some (.int x2), some (.int x3), some (.int x4), some (.int x5), some (.int x6)] 28 []) : ∀ (h : AH) (r0 : Option Nat) (x1 : Int32) (x2 : Int32) (x3 : Int32) (x4 : Int32) (x5 : Int32) (x6 : Int32) (q : (Int32 × AH)), x_J14_indexOfSupplementary_63 g N K28 h r0 x1 x2 x3 x4 x5 x6 = some q → AW g YJ14_indexOfSupplementary 4 (xI q) h [some (va_rf r0), some (.int x1), some (.int x2), some (.int x3), some (.int x4), some (.int x5), some (.int x6)] 63 [] := by
  intro h r0 x1 x2 x3 x4 x5 x6 q hq
  unfold x_J14_indexOfSupplementary_63 at hq
  refine aw_iinc (v := x6 + 1) (loc' := [some (va_rf r0), some (.int x1), some (.int x2), some (.int x3), some (.int x4), some (.int x5), some (.int (x6 + 1))]) dJ14_indexOfSupplementary_63 rfl rfl (Nat.le_of_ble_eq_true rfl) rfl ?_
  refine aw_goto (tgt := 28) dJ14_indexOfSupplementary_66 (by decide) ?_
  exact hK28 h r0 x1 x2 x3 x4 x5 (x6 + 1) _ hq
def x_J14_indexOfSupplementary_28 (g : AG) (N : Nat) : Nat → AH → Option Nat → Int32 → Int32 → Int32 → Int32 → Int32 → Int32 → Option (Int32 × AH)
  | 0, _, _, _, _, _, _, _, _ => none
  | n9 + 1, h, r0, x1, x2, x3, x4, x5, x6 =>
  if (x3 - (1 : Int32)) ≤ x6 then (some ((-1 : Int32), h)) else ((x_J14_getChar g N h r0 x6).bind fun q11 => if q11.1 = x4 then ((x_J14_getChar g N q11.2 r0 (x6 + (1 : Int32))).bind fun q14 => if q14.1 = x5 then (some (x6, q14.2)) else (x_J14_indexOfSupplementary_63 g N (fun h r0 x1 x2 x3 x4 x5 x6 => x_J14_indexOfSupplementary_28 g N n9 h r0 x1 x2 x3 x4 x5 x6) q14.2 r0 x1 x2 x3 x4 x5 x6)) else (x_J14_indexOfSupplementary_63 g N (fun h r0 x1 x2 x3 x4 x5 x6 => x_J14_indexOfSupplementary_28 g N n9 h r0 x1 x2 x3 x4 x5 x6) q11.2 r0 x1 x2 x3 x4 x5 x6))
theorem p_x_J14_indexOfSupplementary_28 (g : AG) (hst : (gL g).stackTraces = false) (N : Nat) : ∀ (n9 : Nat) (h : AH) (r0 : Option Nat) (x1 : Int32) (x2 : Int32) (x3 : Int32) (x4 : Int32) (x5 : Int32) (x6 : Int32) (q : (Int32 × AH)), x_J14_indexOfSupplementary_28 g N n9 h r0 x1 x2 x3 x4 x5 x6 = some q → AW g YJ14_indexOfSupplementary 4 (xI q) h [some (va_rf r0), some (.int x1), some (.int x2), some (.int x3), some (.int x4), some (.int x5), some (.int x6)] 28 [] := by
  intro n9
  induction n9 with
  | zero =>
    intro h r0 x1 x2 x3 x4 x5 x6 q hq
    cases hq
  | succ n9 ih =>
    intro h r0 x1 x2 x3 x4 x5 x6 q hq
    rw [x_J14_indexOfSupplementary_28] at hq
    refine aw_iload dJ14_indexOfSupplementary_28 rfl ?_
    refine aw_iload_n (i := 3) dJ14_indexOfSupplementary_30 rfl rfl ?_
    refine aw_iconst (v := 1) dJ14_indexOfSupplementary_31 (by decide) ?_
    refine aw_isub dJ14_indexOfSupplementary_32 ?_
    refine aw_icmp_ge (tgt := 69) dJ14_indexOfSupplementary_33 (by decide) (fun c10 => ?_) (fun c10 => ?_)
    · rw [if_pos c10] at hq
      refine aw_iconst (v := (-1)) dJ14_indexOfSupplementary_69 (by decide) ?_
      cases hq
      exact aw_ireturn dJ14_indexOfSupplementary_70 rfl rfl ⟨rfl, rfl⟩
    · rw [if_neg c10] at hq
      refine aw_aload_n (i := 0) dJ14_indexOfSupplementary_36 rfl rfl (aIsR_rf _) ?_
      refine aw_iload dJ14_indexOfSupplementary_37 rfl ?_
      replace hq := obind hq
      obtain ⟨q11, e12, hq⟩ := hq
      refine aw_callS (Y2 := YJ14_getChar) (As := [va_rf r0, .int x6]) (rest := []) kJ14_getChar q741 q742 dJ14_indexOfSupplementary_39 rfl rfl (ct_J14_getChar g hst N h r0 x6 _ e12) (Nat.le_of_ble_eq_true rfl) (Nat.le_of_ble_eq_true rfl) (fun v9 h9 z9 y9 => ?_)
      obtain ⟨rfl, rfl⟩ := y9
      refine aw_st (st' := [.int q11.1]) rfl ?_
      refine aw_iload dJ14_indexOfSupplementary_42 rfl ?_
      refine aw_icmp_ne (tgt := 63) dJ14_indexOfSupplementary_44 (by decide) (fun c13 => ?_) (fun c13 => ?_)
      · rw [if_neg c13] at hq
        exact p_x_J14_indexOfSupplementary_63 g hst N _ ih q11.2 r0 x1 x2 x3 x4 x5 x6 _ hq
      · rw [if_pos c13] at hq
        refine aw_aload_n (i := 0) dJ14_indexOfSupplementary_47 rfl rfl (aIsR_rf _) ?_
        refine aw_iload dJ14_indexOfSupplementary_48 rfl ?_
        refine aw_iconst (v := 1) dJ14_indexOfSupplementary_50 (by decide) ?_
        refine aw_iadd dJ14_indexOfSupplementary_51 ?_
        replace hq := obind hq
        obtain ⟨q14, e15, hq⟩ := hq
        refine aw_callS (Y2 := YJ14_getChar) (As := [va_rf r0, .int (x6 + (1 : Int32))]) (rest := []) kJ14_getChar q741 q742 dJ14_indexOfSupplementary_52 rfl rfl (ct_J14_getChar g hst N q11.2 r0 (x6 + (1 : Int32)) _ e15) (Nat.le_of_ble_eq_true rfl) (Nat.le_of_ble_eq_true rfl) (fun v9 h9 z9 y9 => ?_)
        obtain ⟨rfl, rfl⟩ := y9
        refine aw_st (st' := [.int q14.1]) rfl ?_
        refine aw_iload dJ14_indexOfSupplementary_55 rfl ?_
        refine aw_icmp_ne (tgt := 63) dJ14_indexOfSupplementary_57 (by decide) (fun c16 => ?_) (fun c16 => ?_)
        · rw [if_neg c16] at hq
          exact p_x_J14_indexOfSupplementary_63 g hst N _ ih q14.2 r0 x1 x2 x3 x4 x5 x6 _ hq
        · rw [if_pos c16] at hq
          refine aw_iload dJ14_indexOfSupplementary_60 rfl ?_
          cases hq
          exact aw_ireturn dJ14_indexOfSupplementary_62 rfl rfl ⟨rfl, rfl⟩
def x_J14_indexOfSupplementary (g : AG) (N : Nat) (h : AH) (r0 : Option Nat) (x1 : Int32) (x2 : Int32) (x3 : Int32) : Option (Int32 × AH) :=
  (x_J23_isValidCodePoint g N h x1).bind fun q1 => if q1.1 = 0 then (some ((-1 : Int32), q1.2)) else ((x_J23_highSurrogate g N q1.2 x1).bind fun q4 => (x_J23_lowSurrogate g N q4.2 x1).bind fun q6 => (x_J14_checkBoundsBeginEnd g N q6.2 x2 x3 r0).bind fun q8 => x_J14_indexOfSupplementary_28 g N  N q8 r0 x1 x2 x3 q4.1 q6.1 x2)
theorem ct_J14_indexOfSupplementary (g : AG) (hst : (gL g).stackTraces = false) (N : Nat) : ∀ (h : AH) (r0 : Option Nat) (x1 : Int32) (x2 : Int32) (x3 : Int32) (q : (Int32 × AH)), x_J14_indexOfSupplementary g N h r0 x1 x2 x3 = some q → CT g YJ14_indexOfSupplementary 4 [va_rf r0, .int x1, .int x2, .int x3] h (xI q) := by
  intro h r0 x1 x2 x3 q hq
  refine CT.of rfl (by decide +kernel) (loc := [some (va_rf r0), some (.int x1), some (.int x2), some (.int x3), none, none, none]) (by first | exact Nat.le_of_ble_eq_true rfl | (simp only [lgl_rf, lgl_i, lgl_j, lgl_ref, lgl_nil]; exact Nat.le_of_ble_eq_true rfl)) (by first | rfl | (simp only [aent_rf, aent_i, aent_j, aent_ref, aent_nil]; rfl)) ?_
  unfold x_J14_indexOfSupplementary at hq
  refine aw_iload_n (i := 1) dJ14_indexOfSupplementary_0 rfl rfl ?_
  replace hq := obind hq
  obtain ⟨q1, e2, hq⟩ := hq
  refine aw_callS (Y2 := YJ23_isValidCodePoint) (As := [.int x1]) (rest := []) kJ23_isValidCodePoint q949 q950 dJ14_indexOfSupplementary_1 rfl rfl (ct_J23_isValidCodePoint g hst N h x1 _ e2) (Nat.le_of_ble_eq_true rfl) (Nat.le_of_ble_eq_true rfl) (fun v9 h9 z9 y9 => ?_)
  obtain ⟨rfl, rfl⟩ := y9
  refine aw_st (st' := [.int q1.1]) rfl ?_
  refine aw_if_eq (tgt := 69) dJ14_indexOfSupplementary_4 (by decide) (fun c3 => ?_) (fun c3 => ?_)
  · rw [if_pos c3] at hq
    refine aw_iconst (v := (-1)) dJ14_indexOfSupplementary_69 (by decide) ?_
    cases hq
    exact aw_ireturn dJ14_indexOfSupplementary_70 rfl rfl ⟨rfl, rfl⟩
  · rw [if_neg c3] at hq
    refine aw_iload_n (i := 1) dJ14_indexOfSupplementary_7 rfl rfl ?_
    replace hq := obind hq
    obtain ⟨q4, e5, hq⟩ := hq
    refine aw_callS (Y2 := YJ23_highSurrogate) (As := [.int x1]) (rest := []) kJ23_highSurrogate q952 q953 dJ14_indexOfSupplementary_8 rfl rfl (ct_J23_highSurrogate g hst N q1.2 x1 _ e5) (Nat.le_of_ble_eq_true rfl) (Nat.le_of_ble_eq_true rfl) (fun v9 h9 z9 y9 => ?_)
    obtain ⟨rfl, rfl⟩ := y9
    refine aw_st (st' := [.int q4.1]) rfl ?_
    refine aw_istore (loc' := [some (va_rf r0), some (.int x1), some (.int x2), some (.int x3), some (.int q4.1), none, none]) dJ14_indexOfSupplementary_11 (Nat.le_of_ble_eq_true rfl) rfl ?_
    refine aw_iload_n (i := 1) dJ14_indexOfSupplementary_13 rfl rfl ?_
    replace hq := obind hq
    obtain ⟨q6, e7, hq⟩ := hq
    refine aw_callS (Y2 := YJ23_lowSurrogate) (As := [.int x1]) (rest := []) kJ23_lowSurrogate q956 q957 dJ14_indexOfSupplementary_14 rfl rfl (ct_J23_lowSurrogate g hst N q4.2 x1 _ e7) (Nat.le_of_ble_eq_true rfl) (Nat.le_of_ble_eq_true rfl) (fun v9 h9 z9 y9 => ?_)
    obtain ⟨rfl, rfl⟩ := y9
    refine aw_st (st' := [.int q6.1]) rfl ?_
    refine aw_istore (loc' := [some (va_rf r0), some (.int x1), some (.int x2), some (.int x3), some (.int q4.1), some (.int q6.1), none]) dJ14_indexOfSupplementary_17 (Nat.le_of_ble_eq_true rfl) rfl ?_
    refine aw_iload_n (i := 2) dJ14_indexOfSupplementary_19 rfl rfl ?_
    refine aw_iload_n (i := 3) dJ14_indexOfSupplementary_20 rfl rfl ?_
    refine aw_aload_n (i := 0) dJ14_indexOfSupplementary_21 rfl rfl (aIsR_rf _) ?_
    replace hq := obind hq
    obtain ⟨q8, e9, hq⟩ := hq
    refine aw_callS (Y2 := YJ14_checkBoundsBeginEnd) (As := [.int x2, .int x3, va_rf r0]) (rest := []) kJ14_checkBoundsBeginEnd q675 q676 dJ14_indexOfSupplementary_22 rfl rfl (ct_J14_checkBoundsBeginEnd g hst N q6.2 x2 x3 r0 _ e9) (Nat.le_of_ble_eq_true rfl) (Nat.le_of_ble_eq_true rfl) (fun v9 h9 z9 y9 => ?_)
    obtain ⟨rfl, y9⟩ := y9
    rw [y9]
    refine aw_st (st' := []) rfl ?_
    refine aw_iload_n (i := 2) dJ14_indexOfSupplementary_25 rfl rfl ?_
    refine aw_istore (loc' := [some (va_rf r0), some (.int x1), some (.int x2), some (.int x3), some (.int q4.1), some (.int q6.1), some (.int x2)]) dJ14_indexOfSupplementary_26 (Nat.le_of_ble_eq_true rfl) rfl ?_
    exact p_x_J14_indexOfSupplementary_28 g hst N   N q8 r0 x1 x2 x3 q4.1 q6.1 x2 _ hq
abbrev YJ14_indexOf : YC := (yJ14_indexOf, cJ14_indexOf, 4, (some .int), [])
theorem kJ14_indexOf : aMk YJ14_indexOf 4 := ⟨rfl, q936, q135, ⟨by decide +kernel, by decide +kernel, by decide +kernel⟩, Nat.le_of_ble_eq_true rfl⟩
def x_J14_indexOf (g : AG) (N : Nat) (h : AH) (r0 : Option Nat) (x1 : Int32) (x2 : Int32) (x3 : Int32) : Option (Int32 × AH) :=
  (r0).bind fun a1 => (rdN h a1).bind fun i3 => if (if x2 < (0 : Int32) then (0 : Int32) else x2) < (if (i3 >>> ((1 : Int32) &&& 31)) < x3 then (i3 >>> ((1 : Int32) &&& 31)) else x3) then (if (65536 : Int32) ≤ x1 then ((x_J14_indexOfSupplementary g N h (some a1) x1 (if x2 < (0 : Int32) then (0 : Int32) else x2) (if (i3 >>> ((1 : Int32) &&& 31)) < x3 then (i3 >>> ((1 : Int32) &&& 31)) else x3)).bind fun q7 => some (q7.1, q7.2)) else ((x_J14_indexOfChar g N h (some a1) x1 (if x2 < (0 : Int32) then (0 : Int32) else x2) (if (i3 >>> ((1 : Int32) &&& 31)) < x3 then (i3 >>> ((1 : Int32) &&& 31)) else x3)).bind fun q9 => some (q9.1, q9.2))) else (some ((-1 : Int32), h))
theorem ct_J14_indexOf (g : AG) (hst : (gL g).stackTraces = false) (N : Nat) : ∀ (h : AH) (r0 : Option Nat) (x1 : Int32) (x2 : Int32) (x3 : Int32) (q : (Int32 × AH)), x_J14_indexOf g N h r0 x1 x2 x3 = some q → CT g YJ14_indexOf 5 [va_rf r0, .int x1, .int x2, .int x3] h (xI q) := by
  intro h r0 x1 x2 x3 q hq
  refine CT.of rfl (by decide +kernel) (loc := [some (va_rf r0), some (.int x1), some (.int x2), some (.int x3)]) (by first | exact Nat.le_of_ble_eq_true rfl | (simp only [lgl_rf, lgl_i, lgl_j, lgl_ref, lgl_nil]; exact Nat.le_of_ble_eq_true rfl)) (by first | rfl | (simp only [aent_rf, aent_i, aent_j, aent_ref, aent_nil]; rfl)) ?_
  unfold x_J14_indexOf at hq
  refine aw_iload_n (i := 2) dJ14_indexOf_0 rfl rfl ?_
  refine aw_iconst (v := 0) dJ14_indexOf_1 (by decide) ?_
  refine aw_mmax q937 (by omega) (Nat.le_of_ble_eq_true rfl) dJ14_indexOf_2 ?_
  refine aw_istore_n (i := 2) (loc' := [some (va_rf r0), some (.int x1), some (.int (if x2 < (0 : Int32) then (0 : Int32) else x2)), some (.int x3)]) dJ14_indexOf_5 rfl (Nat.le_of_ble_eq_true rfl) rfl ?_
  refine aw_iload_n (i := 3) dJ14_indexOf_6 rfl rfl ?_
  refine aw_aload_n (i := 0) dJ14_indexOf_7 rfl rfl (aIsR_rf _) ?_
  replace hq := obind hq
  obtain ⟨a1, e2, hq⟩ := hq
  subst e2
  replace hq := obind hq
  obtain ⟨i3, e4, hq⟩ := hq
  refine xw_alen e4 dJ14_indexOf_8 ?_
  refine aw_iconst (v := 1) dJ14_indexOf_9 (by decide) ?_
  refine aw_ishr dJ14_indexOf_10 ?_
  refine aw_mmin q938 (by omega) (Nat.le_of_ble_eq_true rfl) dJ14_indexOf_11 ?_
  refine aw_istore_n (i := 3) (loc' := [some (.ref a1), some (.int x1), some (.int (if x2 < (0 : Int32) then (0 : Int32) else x2)), some (.int (if (i3 >>> ((1 : Int32) &&& 31)) < x3 then (i3 >>> ((1 : Int32) &&& 31)) else x3))]) dJ14_indexOf_14 rfl (Nat.le_of_ble_eq_true rfl) rfl ?_
  refine aw_iload_n (i := 2) dJ14_indexOf_15 rfl rfl ?_
  refine aw_iload_n (i := 3) dJ14_indexOf_16 rfl rfl ?_
  refine aw_icmp_lt (tgt := 22) dJ14_indexOf_17 (by decide) (fun c5 => ?_) (fun c5 => ?_)
  · rw [if_pos c5] at hq
    refine aw_iload_n (i := 1) dJ14_indexOf_22 rfl rfl ?_
    refine aw_ldc (v := (65536)) dJ14_indexOf_23 q939 ?_
    refine aw_icmp_ge (tgt := 36) dJ14_indexOf_25 (by decide) (fun c6 => ?_) (fun c6 => ?_)
    · rw [if_pos c6] at hq
      refine aw_aload_n (i := 0) dJ14_indexOf_36 rfl rfl trivial ?_
      refine aw_iload_n (i := 1) dJ14_indexOf_37 rfl rfl ?_
      refine aw_iload_n (i := 2) dJ14_indexOf_38 rfl rfl ?_
      refine aw_iload_n (i := 3) dJ14_indexOf_39 rfl rfl ?_
      replace hq := obind hq
      obtain ⟨q7, e8, hq⟩ := hq
      refine aw_callS (Y2 := YJ14_indexOfSupplementary) (As := [.ref a1, .int x1, .int (if x2 < (0 : Int32) then (0 : Int32) else x2), .int (if (i3 >>> ((1 : Int32) &&& 31)) < x3 then (i3 >>> ((1 : Int32) &&& 31)) else x3)]) (rest := []) kJ14_indexOfSupplementary q946 q947 dJ14_indexOf_40 rfl rfl (ct_J14_indexOfSupplementary g hst N h (some a1) x1 (if x2 < (0 : Int32) then (0 : Int32) else x2) (if (i3 >>> ((1 : Int32) &&& 31)) < x3 then (i3 >>> ((1 : Int32) &&& 31)) else x3) _ e8) (Nat.le_of_ble_eq_true rfl) (Nat.le_of_ble_eq_true rfl) (fun v9 h9 z9 y9 => ?_)
      obtain ⟨rfl, rfl⟩ := y9
      refine aw_st (st' := [.int q7.1]) rfl ?_
      cases hq
      exact aw_ireturn dJ14_indexOf_43 rfl rfl ⟨rfl, rfl⟩
    · rw [if_neg c6] at hq
      refine aw_aload_n (i := 0) dJ14_indexOf_28 rfl rfl trivial ?_
      refine aw_iload_n (i := 1) dJ14_indexOf_29 rfl rfl ?_
      refine aw_iload_n (i := 2) dJ14_indexOf_30 rfl rfl ?_
      refine aw_iload_n (i := 3) dJ14_indexOf_31 rfl rfl ?_
      replace hq := obind hq
      obtain ⟨q9, e10, hq⟩ := hq
      refine aw_callS (Y2 := YJ14_indexOfChar) (As := [.ref a1, .int x1, .int (if x2 < (0 : Int32) then (0 : Int32) else x2), .int (if (i3 >>> ((1 : Int32) &&& 31)) < x3 then (i3 >>> ((1 : Int32) &&& 31)) else x3)]) (rest := []) kJ14_indexOfChar q940 q941 dJ14_indexOf_32 rfl rfl (ct_J14_indexOfChar g hst N h (some a1) x1 (if x2 < (0 : Int32) then (0 : Int32) else x2) (if (i3 >>> ((1 : Int32) &&& 31)) < x3 then (i3 >>> ((1 : Int32) &&& 31)) else x3) _ e10) (Nat.le_of_ble_eq_true rfl) (Nat.le_of_ble_eq_true rfl) (fun v9 h9 z9 y9 => ?_)
      obtain ⟨rfl, rfl⟩ := y9
      refine aw_st (st' := [.int q9.1]) rfl ?_
      cases hq
      exact aw_ireturn dJ14_indexOf_35 rfl rfl ⟨rfl, rfl⟩
  · rw [if_neg c5] at hq
    refine aw_iconst (v := (-1)) dJ14_indexOf_20 (by decide) ?_
    cases hq
    exact aw_ireturn dJ14_indexOf_21 rfl rfl ⟨rfl, rfl⟩
abbrev YJ13_indexOf_2 : YC := (yJ13_indexOf_2, cJ13_indexOf_2, 3, (some .int), [])
theorem kJ13_indexOf_2 : aMk YJ13_indexOf_2 2 := ⟨rfl, q922, q134, ⟨by decide +kernel, by decide +kernel, by decide +kernel⟩, Nat.le_of_ble_eq_true rfl⟩
def x_J13_indexOf_2 (g : AG) (N : Nat) (h : AH) (x0 : Nat) (x1 : Int32) (x2 : Int32) : Option (Int32 × AH) :=
  bif clB h x0 [17] then ((x_J13_isLatin1 g N h x0).bind fun q2 => if q2.1 = 0 then ((rdR q2.2 x0 [(17, 0)]).bind fun o5 => bif clB q2.2 x0 [17] then ((x_J13_length g N q2.2 x0).bind fun q8 => (x_J14_indexOf g N q8.2 o5 x1 x2 q8.1).bind fun q10 => some (q10.1, q10.2)) else none) else ((rdR q2.2 x0 [(17, 0)]).bind fun o12 => bif clB q2.2 x0 [17] then ((x_J13_length g N q2.2 x0).bind fun q15 => (x_J18_indexOf g N q15.2 o12 x1 x2 q15.1).bind fun q17 => some (q17.1, q17.2)) else none)) else none
theorem ct_J13_indexOf_2 (g : AG) (hst : (gL g).stackTraces = false) (N : Nat) : ∀ (h : AH) (x0 : Nat) (x1 : Int32) (x2 : Int32) (q : (Int32 × AH)), x_J13_indexOf_2 g N h x0 x1 x2 = some q → CT g YJ13_indexOf_2 6 [.ref x0, .int x1, .int x2] h (xI q) := by
  intro h x0 x1 x2 q hq
  refine CT.of rfl (by decide +kernel) (loc := [some (.ref x0), some (.int x1), some (.int x2)]) (by first | exact Nat.le_of_ble_eq_true rfl | (simp only [lgl_rf, lgl_i, lgl_j, lgl_ref, lgl_nil]; exact Nat.le_of_ble_eq_true rfl)) (by first | rfl | (simp only [aent_rf, aent_i, aent_j, aent_ref, aent_nil]; rfl)) ?_
  unfold x_J13_indexOf_2 at hq
  refine aw_aload_n (i := 0) dJ13_indexOf_2_0 rfl rfl trivial ?_
  replace hq := cond_t hq
  obtain ⟨z1, hq⟩ := hq
  obtain ⟨fs9, ha9⟩ := clB1 z1
  replace hq := obind hq
  obtain ⟨q2, e3, hq⟩ := hq
  refine aw_callV (Y2 := YJ13_isLatin1) (As := []) (rest := []) (r := (RJ13, TJ13, 4)) kJ13_isLatin1 ha9 rfl rfl q770 q771 q772 dJ13_indexOf_2_1 rfl rfl (ct_J13_isLatin1 g hst N h x0 _ e3) (Nat.le_of_ble_eq_true rfl) (Nat.le_of_ble_eq_true rfl) (fun v9 h9 z9 y9 => ?_)
  obtain ⟨rfl, rfl⟩ := y9
  refine aw_st (st' := [.int q2.1]) rfl ?_
  refine aw_if_eq (tgt := 23) dJ13_indexOf_2_4 (by decide) (fun c4 => ?_) (fun c4 => ?_)
  · rw [if_pos c4] at hq
    refine aw_aload_n (i := 0) dJ13_indexOf_2_23 rfl rfl trivial ?_
    replace hq := obind hq
    obtain ⟨o5, e6, hq⟩ := hq
    refine xw_getR e6 fJ13_9 dJ13_indexOf_2_24 ?_
    refine aw_iload_n (i := 1) dJ13_indexOf_2_27 rfl rfl ?_
    refine aw_iload_n (i := 2) dJ13_indexOf_2_28 rfl rfl ?_
    refine aw_aload_n (i := 0) dJ13_indexOf_2_29 rfl rfl trivial ?_
    replace hq := cond_t hq
    obtain ⟨z7, hq⟩ := hq
    obtain ⟨fs9, ha9⟩ := clB1 z7
    replace hq := obind hq
    obtain ⟨q8, e9, hq⟩ := hq
    refine aw_callV (Y2 := YJ13_length) (As := []) (rest := [.int x2, .int x1, va_rf o5]) (r := (RJ13, TJ13, 4)) kJ13_length ha9 rfl rfl q790 q705 q706 dJ13_indexOf_2_30 rfl rfl (ct_J13_length g hst N q2.2 x0 _ e9) (Nat.le_of_ble_eq_true rfl) (by simp only [List.map_cons, List.map_nil, List.sum_cons, List.sum_nil, cat_rf]; exact Nat.le_of_ble_eq_true rfl) (fun v9 h9 z9 y9 => ?_)
    obtain ⟨rfl, rfl⟩ := y9
    refine aw_st (st' := [.int q8.1, .int x2, .int x1, va_rf o5]) rfl ?_
    replace hq := obind hq
    obtain ⟨q10, e11, hq⟩ := hq
    refine aw_callS (Y2 := YJ14_indexOf) (As := [va_rf o5, .int x1, .int x2, .int q8.1]) (rest := []) kJ14_indexOf q934 q935 dJ13_indexOf_2_33 rfl rfl (ct_J14_indexOf g hst N q8.2 o5 x1 x2 q8.1 _ e11) (Nat.le_of_ble_eq_true rfl) (Nat.le_of_ble_eq_true rfl) (fun v9 h9 z9 y9 => ?_)
    obtain ⟨rfl, rfl⟩ := y9
    refine aw_st (st' := [.int q10.1]) rfl ?_
    cases hq
    exact aw_ireturn dJ13_indexOf_2_36 rfl rfl ⟨rfl, rfl⟩
  · rw [if_neg c4] at hq
    refine aw_aload_n (i := 0) dJ13_indexOf_2_7 rfl rfl trivial ?_
    replace hq := obind hq
    obtain ⟨o12, e13, hq⟩ := hq
    refine xw_getR e13 fJ13_9 dJ13_indexOf_2_8 ?_
    refine aw_iload_n (i := 1) dJ13_indexOf_2_11 rfl rfl ?_
    refine aw_iload_n (i := 2) dJ13_indexOf_2_12 rfl rfl ?_
    refine aw_aload_n (i := 0) dJ13_indexOf_2_13 rfl rfl trivial ?_
    replace hq := cond_t hq
    obtain ⟨z14, hq⟩ := hq
    obtain ⟨fs9, ha9⟩ := clB1 z14
    replace hq := obind hq
    obtain ⟨q15, e16, hq⟩ := hq
    refine aw_callV (Y2 := YJ13_length) (As := []) (rest := [.int x2, .int x1, va_rf o12]) (r := (RJ13, TJ13, 4)) kJ13_length ha9 rfl rfl q790 q705 q706 dJ13_indexOf_2_14 rfl rfl (ct_J13_length g hst N q2.2 x0 _ e16) (Nat.le_of_ble_eq_true rfl) (by simp only [List.map_cons, List.map_nil, List.sum_cons, List.sum_nil, cat_rf]; exact Nat.le_of_ble_eq_true rfl) (fun v9 h9 z9 y9 => ?_)
    obtain ⟨rfl, rfl⟩ := y9
    refine aw_st (st' := [.int q15.1, .int x2, .int x1, va_rf o12]) rfl ?_
    replace hq := obind hq
    obtain ⟨q17, e18, hq⟩ := hq
    refine aw_callS (Y2 := YJ18_indexOf) (As := [va_rf o12, .int x1, .int x2, .int q15.1]) (rest := []) kJ18_indexOf q923 q924 dJ13_indexOf_2_17 rfl rfl (ct_J18_indexOf g hst N q15.2 o12 x1 x2 q15.1 _ e18) (Nat.le_of_ble_eq_true rfl) (Nat.le_of_ble_eq_true rfl) (fun v9 h9 z9 y9 => ?_)
    obtain ⟨rfl, rfl⟩ := y9
    refine aw_st (st' := [.int q17.1]) rfl ?_
    refine aw_goto (tgt := 36) dJ13_indexOf_2_20 (by decide) ?_
    cases hq
    exact aw_ireturn dJ13_indexOf_2_36 rfl rfl ⟨rfl, rfl⟩
abbrev YJ13_indexOf : YC := (yJ13_indexOf, cJ13_indexOf, 2, (some .int), [])
theorem kJ13_indexOf : aMk YJ13_indexOf 1 := ⟨rfl, q918, q134, ⟨by decide +kernel, by decide +kernel, by decide +kernel⟩, Nat.le_of_ble_eq_true rfl⟩
def x_J13_indexOf (g : AG) (N : Nat) (h : AH) (x0 : Nat) (x1 : Int32) : Option (Int32 × AH) :=
  bif clB h x0 [17] then ((x_J13_indexOf_2 g N h x0 x1 (0 : Int32)).bind fun q2 => some (q2.1, q2.2)) else none
theorem ct_J13_indexOf (g : AG) (hst : (gL g).stackTraces = false) (N : Nat) : ∀ (h : AH) (x0 : Nat) (x1 : Int32) (q : (Int32 × AH)), x_J13_indexOf g N h x0 x1 = some q → CT g YJ13_indexOf 7 [.ref x0, .int x1] h (xI q) := by
  intro h x0 x1 q hq
  refine CT.of rfl (by decide +kernel) (loc := [some (.ref x0), some (.int x1)]) (by first | exact Nat.le_of_ble_eq_true rfl | (simp only [lgl_rf, lgl_i, lgl_j, lgl_ref, lgl_nil]; exact Nat.le_of_ble_eq_true rfl)) (by first | rfl | (simp only [aent_rf, aent_i, aent_j, aent_ref, aent_nil]; rfl)) ?_
  unfold x_J13_indexOf at hq
  refine aw_aload_n (i := 0) dJ13_indexOf_0 rfl rfl trivial ?_
  refine aw_iload_n (i := 1) dJ13_indexOf_1 rfl rfl ?_
  refine aw_iconst (v := 0) dJ13_indexOf_2 (by decide) ?_
  replace hq := cond_t hq
  obtain ⟨z1, hq⟩ := hq
  obtain ⟨fs9, ha9⟩ := clB1 z1
  replace hq := obind hq
  obtain ⟨q2, e3, hq⟩ := hq
  refine aw_callV (Y2 := YJ13_indexOf_2) (As := [.int x1, .int (0 : Int32)]) (rest := []) (r := (RJ13, TJ13, 4)) kJ13_indexOf_2 ha9 rfl rfl q919 q920 q921 dJ13_indexOf_3 rfl rfl (ct_J13_indexOf_2 g hst N h x0 x1 (0 : Int32) _ e3) (Nat.le_of_ble_eq_true rfl) (Nat.le_of_ble_eq_true rfl) (fun v9 h9 z9 y9 => ?_)
  obtain ⟨rfl, rfl⟩ := y9
  refine aw_st (st' := [.int q2.1]) rfl ?_
  cases hq
  exact aw_ireturn dJ13_indexOf_6 rfl rfl ⟨rfl, rfl⟩
abbrev YJ13_init_3 : YC := (yJ13_init_3, cJ13_init_3, 3, none, [])
theorem kJ13_init_3 : aMk YJ13_init_3 2 := ⟨rfl, q800, q134, ⟨by decide +kernel, by decide +kernel, by decide +kernel⟩, Nat.le_of_ble_eq_true rfl⟩
def x_J13_init_3 (g : AG) (N : Nat) (h : AH) (x0 : Nat) (r1 : Option Nat) (x2 : Int32) : Option AH :=
  (wrV g h x0 [(17, 0)] (va_rf r1)).bind fun h1 => bif isy x2 then ((wrV g h1 x0 [(17, 1)] (.int x2)).bind fun h4 => some h4) else none
theorem ct_J13_init_3 (g : AG) (hst : (gL g).stackTraces = false) (N : Nat) : ∀ (h : AH) (x0 : Nat) (r1 : Option Nat) (x2 : Int32) (q : AH), x_J13_init_3 g N h x0 r1 x2 = some q → CT g YJ13_init_3 3 [.ref x0, va_rf r1, .int x2] h (xV q) := by
  intro h x0 r1 x2 q hq
  refine CT.of rfl (by decide +kernel) (loc := [some (.ref x0), some (va_rf r1), some (.int x2)]) (by first | exact Nat.le_of_ble_eq_true rfl | (simp only [lgl_rf, lgl_i, lgl_j, lgl_ref, lgl_nil]; exact Nat.le_of_ble_eq_true rfl)) (by first | rfl | (simp only [aent_rf, aent_i, aent_j, aent_ref, aent_nil]; rfl)) ?_
  unfold x_J13_init_3 at hq
  refine aw_aload_n (i := 0) dJ13_init_3_0 rfl rfl trivial ?_
  refine aw_objInit q627 qObjI qObjC (by omega) (Nat.le_of_ble_eq_true rfl) dJ13_init_3_1 ?_
  refine aw_aload_n (i := 0) dJ13_init_3_4 rfl rfl trivial ?_
  refine aw_aload_n (i := 1) dJ13_init_3_5 rfl rfl (aIsR_rf _) ?_
  replace hq := obind hq
  obtain ⟨h1, e2, hq⟩ := hq
  refine xw_putF e2 fJ13_9 tJ13_0f rfl gJ13_9 (fits_rfA _ r1) dJ13_init_3_6 ?_
  refine aw_aload_n (i := 0) dJ13_init_3_9 rfl rfl trivial ?_
  refine aw_iload_n (i := 2) dJ13_init_3_10 rfl rfl ?_
  replace hq := cond_t hq
  obtain ⟨z3, hq⟩ := hq
  replace hq := obind hq
  obtain ⟨h4, e5, hq⟩ := hq
  refine xw_putF e5 fJ13_15 tJ13_1f rfl gJ13_15 (isy_ok z3) dJ13_init_3_11 ?_
  cases hq
  exact aw_vret dJ13_init_3_14 rfl ⟨rfl, rfl⟩
abbrev YJ18_newString : YC := (yJ18_newString, cJ18_newString, 3, (some (.object "java/lang/String")), [])
theorem kJ18_newString : aMk YJ18_newString 3 := ⟨rfl, q794, q140, ⟨by decide +kernel, by decide +kernel, by decide +kernel⟩, Nat.le_of_ble_eq_true rfl⟩
def x_J18_newString (g : AG) (N : Nat) (h : AH) (r0 : Option Nat) (x1 : Int32) (x2 : Int32) : Option (Option Nat × AH) :=
  if x2 = 0 then (some ((some (gS g 3)), h)) else ((mkO g h 4 17 [.null, .int 0, .int 0, .int 0]).bind fun h2 => (x_J17_copyOfRange g N h2 r0 x1 (x1 + x2)).bind fun q4 => (x_J13_init_3 g N q4.2 h.2.1 q4.1 (0 : Int32)).bind fun q6 => some ((some h.2.1), q6))
theorem ct_J18_newString (g : AG) (hst : (gL g).stackTraces = false) (N : Nat) : ∀ (h : AH) (r0 : Option Nat) (x1 : Int32) (x2 : Int32) (q : (Option Nat × AH)), x_J18_newString g N h r0 x1 x2 = some q → CT g YJ18_newString 5 [va_rf r0, .int x1, .int x2] h (xR q) := by
  intro h r0 x1 x2 q hq
  refine CT.of rfl (by decide +kernel) (loc := [some (va_rf r0), some (.int x1), some (.int x2)]) (by first | exact Nat.le_of_ble_eq_true rfl | (simp only [lgl_rf, lgl_i, lgl_j, lgl_ref, lgl_nil]; exact Nat.le_of_ble_eq_true rfl)) (by first | rfl | (simp only [aent_rf, aent_i, aent_j, aent_ref, aent_nil]; rfl)) ?_
  unfold x_J18_newString at hq
  refine aw_iload_n (i := 2) dJ18_newString_0 rfl rfl ?_
  refine aw_if_ne (tgt := 7) dJ18_newString_1 (by decide) (fun c1 => ?_) (fun c1 => ?_)
  · rw [if_neg c1] at hq
    replace hq := obind hq
    obtain ⟨h2, e3, hq⟩ := hq
    refine xw_new (r := (RJ13, TJ13, 4)) e3 q796 q620 q134 (by decide) rfl okJ13 rfl dfJ13 dJ18_newString_7 ?_
    refine aw_dup dJ18_newString_10 rfl ?_
    refine aw_aload_n (i := 0) dJ18_newString_11 rfl rfl (aIsR_rf _) ?_
    refine aw_iload_n (i := 1) dJ18_newString_12 rfl rfl ?_
    refine aw_iload_n (i := 1) dJ18_newString_13 rfl rfl ?_
    refine aw_iload_n (i := 2) dJ18_newString_14 rfl rfl ?_
    refine aw_iadd dJ18_newString_15 ?_
    replace hq := obind hq
    obtain ⟨q4, e5, hq⟩ := hq
    refine aw_callS (Y2 := YJ17_copyOfRange) (As := [va_rf r0, .int x1, .int (x1 + x2)]) (rest := [.ref h.2.1, .ref h.2.1]) kJ17_copyOfRange q797 q636 dJ18_newString_16 rfl rfl (ct_J17_copyOfRange g hst N h2 r0 x1 (x1 + x2) _ e5) (Nat.le_of_ble_eq_true rfl) (Nat.le_of_ble_eq_true rfl) (fun v9 h9 z9 y9 => ?_)
    obtain ⟨rfl, rfl⟩ := y9
    refine aw_st (st' := [va_rf q4.1, .ref h.2.1, .ref h.2.1]) rfl ?_
    refine aw_iconst (v := 0) dJ18_newString_19 (by decide) ?_
    replace hq := obind hq
    obtain ⟨q6, e7, hq⟩ := hq
    refine aw_callI (Y2 := YJ13_init_3) (As := [va_rf q4.1, .int (0 : Int32)]) (rest := [.ref h.2.1]) (b := h.2.1) kJ13_init_3 rfl rfl q798 q799 dJ18_newString_20 rfl rfl (ct_J13_init_3 g hst N q4.2 h.2.1 q4.1 (0 : Int32) _ e7) (Nat.le_of_ble_eq_true rfl) (Nat.le_of_ble_eq_true rfl) (fun v9 h9 z9 y9 => ?_)
    obtain ⟨rfl, y9⟩ := y9
    rw [y9]
    refine aw_st (st' := [.ref h.2.1]) rfl ?_
    cases hq
    exact aw_areturn dJ18_newString_23 rfl (Or.inl ⟨_, rfl⟩) trivial ⟨rfl, rfl⟩
  · rw [if_pos c1] at hq
    refine aw_ldcS (i := 3) rfl dJ18_newString_4 ?_
    cases hq
    exact aw_areturn dJ18_newString_6 rfl (Or.inl ⟨_, rfl⟩) trivial ⟨rfl, rfl⟩
