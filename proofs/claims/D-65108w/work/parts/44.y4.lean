/-! THE COMPONENT AND THE JDK as functions of the heap, and their contracts: printed by wip gen/dec2.py -/
set_option maxRecDepth 100000
abbrev YJ25_numberOfTrailingZeros : YC := (yJ25_numberOfTrailingZeros, cJ25_numberOfTrailingZeros, 3, (some .int), [])
theorem kJ25_numberOfTrailingZeros : aMk YJ25_numberOfTrailingZeros 1 := ⟨rfl, q1414, q152, ⟨by decide +kernel, by decide +kernel, by decide +kernel⟩, Nat.le_of_ble_eq_true rfl⟩
def x_J25_numberOfTrailingZeros (g : AG) (N : Nat) (h : AH) (x0 : Int64) : Option (Int32 × AH) :=
  if x0.toInt32 = 0 then ((x_J21_numberOfTrailingZeros g N h (((x0.toUInt64 >>> ((32 : Int32).toInt64.toUInt64 &&& Int64.toUInt64 63)).toInt64).toInt32)).bind fun q4 => some (((32 : Int32) + q4.1), q4.2)) else ((x_J21_numberOfTrailingZeros g N h x0.toInt32).bind fun q2 => some (q2.1, q2.2))
theorem ct_J25_numberOfTrailingZeros (g : AG) (hst : (gL g).stackTraces = false) (N : Nat) : ∀ (h : AH) (x0 : Int64) (q : (Int32 × AH)), x_J25_numberOfTrailingZeros g N h x0 = some q → CT g YJ25_numberOfTrailingZeros 2 [.long x0] h (xI q) := by
  intro h x0 q hq
  refine CT.of rfl (by decide +kernel) (loc := [some (.long x0), none, none]) (by first | exact Nat.le_of_ble_eq_true rfl | (simp only [lgl_rf, lgl_i, lgl_j, lgl_ref, lgl_nil]; exact Nat.le_of_ble_eq_true rfl)) (by first | rfl | (simp only [aent_rf, aent_i, aent_j, aent_ref, aent_nil]; rfl)) ?_
  unfold x_J25_numberOfTrailingZeros at hq
  refine aw_lload_n (i := 0) dJ25_numberOfTrailingZeros_0 rfl rfl ?_
  refine aw_l2i dJ25_numberOfTrailingZeros_1 ?_
  refine aw_istore_n (i := 2) (loc' := [some (.long x0), none, some (.int x0.toInt32)]) dJ25_numberOfTrailingZeros_2 rfl (Nat.le_of_ble_eq_true rfl) rfl ?_
  refine aw_iload_n (i := 2) dJ25_numberOfTrailingZeros_3 rfl rfl ?_
  refine aw_if_ne (tgt := 21) dJ25_numberOfTrailingZeros_4 (by decide) (fun c1 => ?_) (fun c1 => ?_)
  · rw [if_neg c1] at hq
    refine aw_iload_n (i := 2) dJ25_numberOfTrailingZeros_21 rfl rfl ?_
    replace hq := obind hq
    obtain ⟨q2, e3, hq⟩ := hq
    refine aw_callS (Y2 := YJ21_numberOfTrailingZeros) (As := [.int x0.toInt32]) (rest := []) kJ21_numberOfTrailingZeros q1415 q1416 dJ25_numberOfTrailingZeros_22 rfl rfl (ct_J21_numberOfTrailingZeros g hst N h x0.toInt32 _ e3) (Nat.le_of_ble_eq_true rfl) (Nat.le_of_ble_eq_true rfl) (fun v9 h9 z9 y9 => ?_)
    obtain ⟨rfl, rfl⟩ := y9
    refine aw_st (st' := [.int q2.1]) rfl ?_
    cases hq
    exact aw_ireturn dJ25_numberOfTrailingZeros_25 rfl rfl ⟨rfl, rfl⟩
  · rw [if_pos c1] at hq
    refine aw_bipush (v := 32) dJ25_numberOfTrailingZeros_7 (by decide) ?_
    refine aw_lload_n (i := 0) dJ25_numberOfTrailingZeros_9 rfl rfl ?_
    refine aw_bipush (v := 32) dJ25_numberOfTrailingZeros_10 (by decide) ?_
    refine aw_lushr dJ25_numberOfTrailingZeros_12 ?_
    refine aw_l2i dJ25_numberOfTrailingZeros_13 ?_
    replace hq := obind hq
    obtain ⟨q4, e5, hq⟩ := hq
    refine aw_callS (Y2 := YJ21_numberOfTrailingZeros) (As := [.int (((x0.toUInt64 >>> ((32 : Int32).toInt64.toUInt64 &&& Int64.toUInt64 63)).toInt64).toInt32)]) (rest := [.int (32 : Int32)]) kJ21_numberOfTrailingZeros q1415 q1416 dJ25_numberOfTrailingZeros_14 rfl rfl (ct_J21_numberOfTrailingZeros g hst N h (((x0.toUInt64 >>> ((32 : Int32).toInt64.toUInt64 &&& Int64.toUInt64 63)).toInt64).toInt32) _ e5) (Nat.le_of_ble_eq_true rfl) (Nat.le_of_ble_eq_true rfl) (fun v9 h9 z9 y9 => ?_)
    obtain ⟨rfl, rfl⟩ := y9
    refine aw_st (st' := [.int q4.1, .int (32 : Int32)]) rfl ?_
    refine aw_iadd dJ25_numberOfTrailingZeros_17 ?_
    refine aw_goto (tgt := 25) dJ25_numberOfTrailingZeros_18 (by decide) ?_
    cases hq
    exact aw_ireturn dJ25_numberOfTrailingZeros_25 rfl rfl ⟨rfl, rfl⟩
abbrev YJ15_vectorizedMismatch : YC := (yJ15_vectorizedMismatch, cJ15_vectorizedMismatch, 19, (some .int), [])
theorem kJ15_vectorizedMismatch : aMk YJ15_vectorizedMismatch 6 := ⟨rfl, q1344, q136, ⟨by decide +kernel, by decide +kernel, by decide +kernel⟩, Nat.le_of_ble_eq_true rfl⟩
def x_J15_vectorizedMismatch_11 (g : AG) (N : Nat) (K122 : AH → Option Nat → Int64 → Option Nat → Int64 → Int32 → Int32 → Int32 → Int32 → Option (Int32 × AH)) (K65 : AH → Option Nat → Int64 → Option Nat → Int64 → Int32 → Int32 → Int32 → Int32 → Int64 → Int64 → Int64 → Option (Int32 × AH)) : Nat → AH → Option Nat → Int64 → Option Nat → Int64 → Int32 → Int32 → Int32 → Int32 → Option (Int32 × AH)
  | 0, _, _, _, _, _, _, _, _, _ => none
  | n9 + 1, h, r0, x1, r3, x4, x6, x7, x8, x9 =>
  if (x6 >>> (x8 &&& 31)) ≤ x9 then (K122 h r0 x1 r3 x4 x6 x7 x8 x9) else ((vI (gV g 24)).bind fun i4 => (vR (gV g 22)).bind fun o6 => (r0).bind fun a8 => (o6).bind fun a10 => (getLongU g h a8 (x1 + (x9.toInt64 <<< (i4.toInt64 &&& 63)))).bind fun i12 => (vR (gV g 22)).bind fun o14 => (r3).bind fun a16 => (o14).bind fun a18 => (getLongU g h a16 (x4 + (x9.toInt64 <<< (i4.toInt64 &&& 63)))).bind fun i20 => if (lg_cmp i12 i20) = 0 then (x_J15_vectorizedMismatch_11 g N K122 K65 n9 h (some a8) x1 (some a16) x4 x6 x7 x8 (x9 + 1)) else (K65 h (some a8) x1 (some a16) x4 x6 x7 x8 x9 (x9.toInt64 <<< (i4.toInt64 &&& 63)) i12 i20))
theorem p_x_J15_vectorizedMismatch_11 (g : AG) (hst : (gL g).stackTraces = false) (N : Nat) (K122 : AH → Option Nat → Int64 → Option Nat → Int64 → Int32 → Int32 → Int32 → Int32 → Option (Int32 × AH)) (K65 : AH → Option Nat → Int64 → Option Nat → Int64 → Int32 → Int32 → Int32 → Int32 → Int64 → Int64 → Int64 → Option (Int32 × AH)) (hK122 : ∀ (h : AH) (r0 : Option Nat) (x1 : Int64) (r3 : Option Nat) (x4 : Int64) (x6 : Int32) (x7 : Int32) (x8 : Int32) (x9 : Int32) (q : (Int32 × AH)), K122 h r0 x1 r3 x4 x6 x7 x8 x9 = some q → AW g YJ15_vectorizedMismatch 3 (xI q) h [some (va_rf r0), some (.long x1), none, some (va_rf r3), some (.long x4), none, some (.int x6), some (.int x7), some (.int x8), some (.int x9), none, none, none, none, none, none, none, none, none] 122 []) (hK65 : ∀ (h : AH) (r0 : Option Nat) (x1 : Int64) (r3 : Option Nat) (x4 : Int64) (x6 : Int32) (x7 : Int32) (x8 : Int32) (x9 : Int32) (x10 : Int64) (x12 : Int64) (x14 : Int64) (q : (Int32 × AH)), K65 h r0 x1 r3 x4 x6 x7 x8 x9 x10 x12 x14 = some q → AW g YJ15_vectorizedMismatch 3 (xI q) h [some (va_rf r0), some (.long x1), none, some (va_rf r3), some (.long x4), none, some (.int x6), some (.int x7), some (.int x8), some (.int x9), some (.long x10), none, some (.long x12), none, some (.long x14), none, none, none, none] 65 []) : ∀ (n9 : Nat) (h : AH) (r0 : Option Nat) (x1 : Int64) (r3 : Option Nat) (x4 : Int64) (x6 : Int32) (x7 : Int32) (x8 : Int32) (x9 : Int32) (q : (Int32 × AH)), x_J15_vectorizedMismatch_11 g N K122 K65 n9 h r0 x1 r3 x4 x6 x7 x8 x9 = some q → AW g YJ15_vectorizedMismatch 3 (xI q) h [some (va_rf r0), some (.long x1), none, some (va_rf r3), some (.long x4), none, some (.int x6), some (.int x7), some (.int x8), some (.int x9), none, none, none, none, none, none, none, none, none] 11 [] := by
  intro n9
  induction n9 with
  | zero =>
    intro h r0 x1 r3 x4 x6 x7 x8 x9 q hq
    cases hq
  | succ n9 ih =>
    intro h r0 x1 r3 x4 x6 x7 x8 x9 q hq
    rw [x_J15_vectorizedMismatch_11] at hq
    refine aw_iload dJ15_vectorizedMismatch_11 rfl ?_
    refine aw_iload dJ15_vectorizedMismatch_13 rfl ?_
    refine aw_iload dJ15_vectorizedMismatch_15 rfl ?_
    refine aw_ishr dJ15_vectorizedMismatch_17 ?_
    refine aw_icmp_ge (tgt := 122) dJ15_vectorizedMismatch_18 (by decide) (fun c3 => ?_) (fun c3 => ?_)
    · rw [if_pos c3] at hq
      exact hK122 h r0 x1 r3 x4 x6 x7 x8 x9 _ hq
    · rw [if_neg c3] at hq
      refine aw_iload dJ15_vectorizedMismatch_21 rfl ?_
      refine aw_i2l dJ15_vectorizedMismatch_23 ?_
      replace hq := obind hq
      obtain ⟨i4, e5, hq⟩ := hq
      refine xw_gets (i := 24) (vI_eq e5) rfl q1345 dJ15_vectorizedMismatch_24 rfl ?_
      refine aw_lshl dJ15_vectorizedMismatch_27 ?_
      refine aw_lstore (loc' := [some (va_rf r0), some (.long x1), none, some (va_rf r3), some (.long x4), none, some (.int x6), some (.int x7), some (.int x8), some (.int x9), some (.long (x9.toInt64 <<< (i4.toInt64 &&& 63))), none, none, none, none, none, none, none, none]) dJ15_vectorizedMismatch_28 (Nat.le_of_ble_eq_true rfl) rfl ?_
      replace hq := obind hq
      obtain ⟨o6, e7, hq⟩ := hq
      refine xw_gets (i := 22) (vR_eq e7) rfl q1347 dJ15_vectorizedMismatch_30 rfl ?_
      refine aw_aload_n (i := 0) dJ15_vectorizedMismatch_33 rfl rfl (aIsR_rf _) ?_
      refine aw_lload_n (i := 1) dJ15_vectorizedMismatch_34 rfl rfl ?_
      refine aw_lload dJ15_vectorizedMismatch_35 rfl ?_
      refine aw_ladd dJ15_vectorizedMismatch_37 ?_
      replace hq := obind hq
      obtain ⟨a8, e9, hq⟩ := hq
      subst e9
      replace hq := obind hq
      obtain ⟨a10, e11, hq⟩ := hq
      subst e11
      replace hq := obind hq
      obtain ⟨i12, e13, hq⟩ := hq
      refine xw_getLongU e13 dJ15_vectorizedMismatch_38 ?_
      refine aw_lstore (loc' := [some (.ref a8), some (.long x1), none, some (va_rf r3), some (.long x4), none, some (.int x6), some (.int x7), some (.int x8), some (.int x9), some (.long (x9.toInt64 <<< (i4.toInt64 &&& 63))), none, some (.long i12), none, none, none, none, none, none]) dJ15_vectorizedMismatch_41 (Nat.le_of_ble_eq_true rfl) rfl ?_
      replace hq := obind hq
      obtain ⟨o14, e15, hq⟩ := hq
      refine xw_gets (i := 22) (vR_eq e15) rfl q1347 dJ15_vectorizedMismatch_43 rfl ?_
      refine aw_aload_n (i := 3) dJ15_vectorizedMismatch_46 rfl rfl (aIsR_rf _) ?_
      refine aw_lload dJ15_vectorizedMismatch_47 rfl ?_
      refine aw_lload dJ15_vectorizedMismatch_49 rfl ?_
      refine aw_ladd dJ15_vectorizedMismatch_51 ?_
      replace hq := obind hq
      obtain ⟨a16, e17, hq⟩ := hq
      subst e17
      replace hq := obind hq
      obtain ⟨a18, e19, hq⟩ := hq
      subst e19
      replace hq := obind hq
      obtain ⟨i20, e21, hq⟩ := hq
      refine xw_getLongU e21 dJ15_vectorizedMismatch_52 ?_
      refine aw_lstore (loc' := [some (.ref a8), some (.long x1), none, some (.ref a16), some (.long x4), none, some (.int x6), some (.int x7), some (.int x8), some (.int x9), some (.long (x9.toInt64 <<< (i4.toInt64 &&& 63))), none, some (.long i12), none, some (.long i20), none, none, none, none]) dJ15_vectorizedMismatch_55 (Nat.le_of_ble_eq_true rfl) rfl ?_
      refine aw_lload dJ15_vectorizedMismatch_57 rfl ?_
      refine aw_lload dJ15_vectorizedMismatch_59 rfl ?_
      refine aw_lcmp dJ15_vectorizedMismatch_61 ?_
      refine aw_if_eq (tgt := 116) dJ15_vectorizedMismatch_62 (by decide) (fun c22 => ?_) (fun c22 => ?_)
      · rw [if_pos c22] at hq
        refine aw_iinc (v := x9 + 1) (loc' := [some (.ref a8), some (.long x1), none, some (.ref a16), some (.long x4), none, some (.int x6), some (.int x7), some (.int x8), some (.int (x9 + 1)), some (.long (x9.toInt64 <<< (i4.toInt64 &&& 63))), none, some (.long i12), none, some (.long i20), none, none, none, none]) dJ15_vectorizedMismatch_116 rfl rfl (Nat.le_of_ble_eq_true rfl) rfl ?_
        refine aw_goto (tgt := 11) dJ15_vectorizedMismatch_119 (by decide) ?_
        refine aw_subl (loc' := [some (.ref a8), some (.long x1), none, some (.ref a16), some (.long x4), none, some (.int x6), some (.int x7), some (.int x8), some (.int (x9 + 1)), none, none, none, none, none, none, none, none, none]) ⟨Or.inr rfl, Or.inr rfl, Or.inl rfl, Or.inr rfl, Or.inr rfl, Or.inl rfl, Or.inr rfl, Or.inr rfl, Or.inr rfl, Or.inr rfl, Or.inl rfl, Or.inl rfl, Or.inl rfl, Or.inl rfl, Or.inl rfl, Or.inl rfl, Or.inl rfl, Or.inl rfl, Or.inl rfl, trivial⟩ ?_
        exact ih h (some a8) x1 (some a16) x4 x6 x7 x8 (x9 + 1) _ hq
      · rw [if_neg c22] at hq
        exact hK65 h (some a8) x1 (some a16) x4 x6 x7 x8 x9 (x9.toInt64 <<< (i4.toInt64 &&& 63)) i12 i20 _ hq
def x_J15_vectorizedMismatch_258 (g : AG) (N : Nat) (h : AH) (r0 : Option Nat) (x1 : Int64) (r3 : Option Nat) (x4 : Int64) (x6 : Int32) (x7 : Int32) (x8 : Int32) (x9 : Int32) (x10 : Int32) (x11 : Int32) : Option (Int32 × AH) :=
  some ((x10 ^^^ (-1 : Int32)), h)
theorem p_x_J15_vectorizedMismatch_258 (g : AG) (hst : (gL g).stackTraces = false) (N : Nat) : ∀ (h : AH) (r0 : Option Nat) (x1 : Int64) (r3 : Option Nat) (x4 : Int64) (x6 : Int32) (x7 : Int32) (x8 : Int32) (x9 : Int32) (x10 : Int32) (x11 : Int32) (q : (Int32 × AH)), x_J15_vectorizedMismatch_258 g N h r0 x1 r3 x4 x6 x7 x8 x9 x10 x11 = some q → AW g YJ15_vectorizedMismatch 3 (xI q) h [some (va_rf r0), some (.long x1), none, some (va_rf r3), some (.long x4), none, some (.int x6), some (.int x7), some (.int x8), some (.int x9), some (.int x10), some (.int x11), none, none, none, none, none, none, none] 258 [] := by
  intro h r0 x1 r3 x4 x6 x7 x8 x9 x10 x11 q hq
  unfold x_J15_vectorizedMismatch_258 at hq
  refine aw_iload dJ15_vectorizedMismatch_258 rfl ?_
  refine aw_iconst (v := (-1)) dJ15_vectorizedMismatch_260 (by decide) ?_
  refine aw_ixor dJ15_vectorizedMismatch_261 ?_
  cases hq
  exact aw_ireturn dJ15_vectorizedMismatch_262 rfl rfl ⟨rfl, rfl⟩
def x_J15_vectorizedMismatch_240 (g : AG) (N : Nat) (h : AH) (r0 : Option Nat) (x1 : Int64) (r3 : Option Nat) (x4 : Int64) (x6 : Int32) (x7 : Int32) (x8 : Int32) (x9 : Int32) (x10 : Int32) (x11 : Int32) (x12 : Int64) (x14 : Int32) (x15 : Int32) (x16 : Int32) (s0 : Int32) : Option (Int32 × AH) :=
  some (((x9 <<< (x8 &&& 31)) + s0), h)
theorem p_x_J15_vectorizedMismatch_240 (g : AG) (hst : (gL g).stackTraces = false) (N : Nat) : ∀ (h : AH) (r0 : Option Nat) (x1 : Int64) (r3 : Option Nat) (x4 : Int64) (x6 : Int32) (x7 : Int32) (x8 : Int32) (x9 : Int32) (x10 : Int32) (x11 : Int32) (x12 : Int64) (x14 : Int32) (x15 : Int32) (x16 : Int32) (s0 : Int32) (q : (Int32 × AH)), x_J15_vectorizedMismatch_240 g N h r0 x1 r3 x4 x6 x7 x8 x9 x10 x11 x12 x14 x15 x16 s0 = some q → AW g YJ15_vectorizedMismatch 3 (xI q) h [some (va_rf r0), some (.long x1), none, some (va_rf r3), some (.long x4), none, some (.int x6), some (.int x7), some (.int x8), some (.int x9), some (.int x10), some (.int x11), some (.long x12), none, some (.int x14), some (.int x15), some (.int x16), none, none] 240 [.int s0] := by
  intro h r0 x1 r3 x4 x6 x7 x8 x9 x10 x11 x12 x14 x15 x16 s0 q hq
  unfold x_J15_vectorizedMismatch_240 at hq
  refine aw_istore (loc' := [some (va_rf r0), some (.long x1), none, some (va_rf r3), some (.long x4), none, some (.int x6), some (.int x7), some (.int x8), some (.int x9), some (.int x10), some (.int x11), some (.long x12), none, some (.int x14), some (.int x15), some (.int x16), some (.int s0), none]) dJ15_vectorizedMismatch_240 (Nat.le_of_ble_eq_true rfl) rfl ?_
  refine aw_iload dJ15_vectorizedMismatch_242 rfl ?_
  refine aw_iload dJ15_vectorizedMismatch_244 rfl ?_
  refine aw_ishl dJ15_vectorizedMismatch_246 ?_
  refine aw_iload dJ15_vectorizedMismatch_247 rfl ?_
  refine aw_iadd dJ15_vectorizedMismatch_249 ?_
  cases hq
  exact aw_ireturn dJ15_vectorizedMismatch_250 rfl rfl ⟨rfl, rfl⟩
def x_J15_vectorizedMismatch_105 (g : AG) (N : Nat) (h : AH) (r0 : Option Nat) (x1 : Int64) (r3 : Option Nat) (x4 : Int64) (x6 : Int32) (x7 : Int32) (x8 : Int32) (x9 : Int32) (x10 : Int64) (x12 : Int64) (x14 : Int64) (x16 : Int64) (s0 : Int32) : Option (Int32 × AH) :=
  some (((x9 <<< (x8 &&& 31)) + s0), h)
theorem p_x_J15_vectorizedMismatch_105 (g : AG) (hst : (gL g).stackTraces = false) (N : Nat) : ∀ (h : AH) (r0 : Option Nat) (x1 : Int64) (r3 : Option Nat) (x4 : Int64) (x6 : Int32) (x7 : Int32) (x8 : Int32) (x9 : Int32) (x10 : Int64) (x12 : Int64) (x14 : Int64) (x16 : Int64) (s0 : Int32) (q : (Int32 × AH)), x_J15_vectorizedMismatch_105 g N h r0 x1 r3 x4 x6 x7 x8 x9 x10 x12 x14 x16 s0 = some q → AW g YJ15_vectorizedMismatch 3 (xI q) h [some (va_rf r0), some (.long x1), none, some (va_rf r3), some (.long x4), none, some (.int x6), some (.int x7), some (.int x8), some (.int x9), some (.long x10), none, some (.long x12), none, some (.long x14), none, some (.long x16), none, none] 105 [.int s0] := by
  intro h r0 x1 r3 x4 x6 x7 x8 x9 x10 x12 x14 x16 s0 q hq
  unfold x_J15_vectorizedMismatch_105 at hq
  refine aw_istore (loc' := [some (va_rf r0), some (.long x1), none, some (va_rf r3), some (.long x4), none, some (.int x6), some (.int x7), some (.int x8), some (.int x9), some (.long x10), none, some (.long x12), none, some (.long x14), none, some (.long x16), none, some (.int s0)]) dJ15_vectorizedMismatch_105 (Nat.le_of_ble_eq_true rfl) rfl ?_
  refine aw_iload dJ15_vectorizedMismatch_107 rfl ?_
  refine aw_iload dJ15_vectorizedMismatch_109 rfl ?_
  refine aw_ishl dJ15_vectorizedMismatch_111 ?_
  refine aw_iload dJ15_vectorizedMismatch_112 rfl ?_
  refine aw_iadd dJ15_vectorizedMismatch_114 ?_
  cases hq
  exact aw_ireturn dJ15_vectorizedMismatch_115 rfl rfl ⟨rfl, rfl⟩
def x_J15_vectorizedMismatch (g : AG) (N : Nat) (h : AH) (r0 : Option Nat) (x1 : Int64) (r3 : Option Nat) (x4 : Int64) (x6 : Int32) (x7 : Int32) : Option (Int32 × AH) :=
  (vI (gV g 24)).bind fun i1 => x_J15_vectorizedMismatch_11 g N (fun h r0 x1 r3 x4 x6 x7 x8 x9 => (vI (gV g 26)).bind fun i23 => if i23 ≤ x7 then (some (((x6 - (x9 <<< (x8 &&& 31))) ^^^ (-1 : Int32)), h)) else ((vI (gV g 26)).bind fun i26 => if (x6 - (x9 <<< (x8 &&& 31))) < ((1 : Int32) <<< ((i26 - x7) &&& 31)) then (x_J15_vectorizedMismatch_258 g N  h r0 x1 r3 x4 x6 x7 x8 x9 (x6 - (x9 <<< (x8 &&& 31))) ((1 : Int32) <<< ((i26 - x7) &&& 31))) else ((vI (gV g 24)).bind fun i29 => (vR (gV g 22)).bind fun o31 => (r0).bind fun a33 => (o31).bind fun a35 => (getIntU g h a33 (x1 + (x9.toInt64 <<< (i29.toInt64 &&& 63)))).bind fun i37 => (vR (gV g 22)).bind fun o39 => (r3).bind fun a41 => (o39).bind fun a43 => (getIntU g h a41 (x4 + (x9.toInt64 <<< (i29.toInt64 &&& 63)))).bind fun i45 => if i37 = i45 then (x_J15_vectorizedMismatch_258 g N  h (some a33) x1 (some a41) x4 x6 x7 x8 x9 ((x6 - (x9 <<< (x8 &&& 31))) - ((1 : Int32) <<< ((i26 - x7) &&& 31))) ((1 : Int32) <<< ((i26 - x7) &&& 31))) else ((vI (gV g 23)).bind fun i48 => if i48 = 0 then ((x_J21_numberOfTrailingZeros g N h (i37 ^^^ i45)).bind fun q51 => (vI (gV g 25)).bind fun i53 => x_J15_vectorizedMismatch_240 g N  q51.2 (some a33) x1 (some a41) x4 x6 x7 x8 x9 (x6 - (x9 <<< (x8 &&& 31))) ((1 : Int32) <<< ((i26 - x7) &&& 31)) (x9.toInt64 <<< (i29.toInt64 &&& 63)) i37 i45 (i37 ^^^ i45) (q51.1 >>> ((i53 + x7) &&& 31))) else ((x_J21_numberOfLeadingZeros g N h (i37 ^^^ i45)).bind fun q55 => (vI (gV g 25)).bind fun i57 => x_J15_vectorizedMismatch_240 g N  q55.2 (some a33) x1 (some a41) x4 x6 x7 x8 x9 (x6 - (x9 <<< (x8 &&& 31))) ((1 : Int32) <<< ((i26 - x7) &&& 31)) (x9.toInt64 <<< (i29.toInt64 &&& 63)) i37 i45 (i37 ^^^ i45) (q55.1 >>> ((i57 + x7) &&& 31))))))) (fun h r0 x1 r3 x4 x6 x7 x8 x9 x10 x12 x14 => (vI (gV g 23)).bind fun i59 => if i59 = 0 then ((x_J25_numberOfTrailingZeros g N h (x12 ^^^ x14)).bind fun q62 => (vI (gV g 25)).bind fun i64 => x_J15_vectorizedMismatch_105 g N  q62.2 r0 x1 r3 x4 x6 x7 x8 x9 x10 x12 x14 (x12 ^^^ x14) (q62.1 >>> ((i64 + x7) &&& 31))) else ((x_J25_numberOfLeadingZeros g N h (x12 ^^^ x14)).bind fun q66 => (vI (gV g 25)).bind fun i68 => x_J15_vectorizedMismatch_105 g N  q66.2 r0 x1 r3 x4 x6 x7 x8 x9 x10 x12 x14 (x12 ^^^ x14) (q66.1 >>> ((i68 + x7) &&& 31)))) N h r0 x1 r3 x4 x6 x7 (i1 - x7) (0 : Int32)
theorem ct_J15_vectorizedMismatch (g : AG) (hst : (gL g).stackTraces = false) (N : Nat) : ∀ (h : AH) (r0 : Option Nat) (x1 : Int64) (r3 : Option Nat) (x4 : Int64) (x6 : Int32) (x7 : Int32) (q : (Int32 × AH)), x_J15_vectorizedMismatch g N h r0 x1 r3 x4 x6 x7 = some q → CT g YJ15_vectorizedMismatch 3 [va_rf r0, .long x1, va_rf r3, .long x4, .int x6, .int x7] h (xI q) := by
  intro h r0 x1 r3 x4 x6 x7 q hq
  refine CT.of rfl (by decide +kernel) (loc := [some (va_rf r0), some (.long x1), none, some (va_rf r3), some (.long x4), none, some (.int x6), some (.int x7), none, none, none, none, none, none, none, none, none, none, none]) (by first | exact Nat.le_of_ble_eq_true rfl | (simp only [lgl_rf, lgl_i, lgl_j, lgl_ref, lgl_nil]; exact Nat.le_of_ble_eq_true rfl)) (by first | rfl | (simp only [aent_rf, aent_i, aent_j, aent_ref, aent_nil]; rfl)) ?_
  unfold x_J15_vectorizedMismatch at hq
  replace hq := obind hq
  obtain ⟨i1, e2, hq⟩ := hq
  refine xw_gets (i := 24) (vI_eq e2) rfl q1345 dJ15_vectorizedMismatch_0 rfl ?_
  refine aw_iload dJ15_vectorizedMismatch_3 rfl ?_
  refine aw_isub dJ15_vectorizedMismatch_5 ?_
  refine aw_istore (loc' := [some (va_rf r0), some (.long x1), none, some (va_rf r3), some (.long x4), none, some (.int x6), some (.int x7), some (.int (i1 - x7)), none, none, none, none, none, none, none, none, none, none]) dJ15_vectorizedMismatch_6 (Nat.le_of_ble_eq_true rfl) rfl ?_
  refine aw_iconst (v := 0) dJ15_vectorizedMismatch_8 (by decide) ?_
  refine aw_istore (loc' := [some (va_rf r0), some (.long x1), none, some (va_rf r3), some (.long x4), none, some (.int x6), some (.int x7), some (.int (i1 - x7)), some (.int (0 : Int32)), none, none, none, none, none, none, none, none, none]) dJ15_vectorizedMismatch_9 (Nat.le_of_ble_eq_true rfl) rfl ?_
  refine p_x_J15_vectorizedMismatch_11 g hst N _ _ ?_ ?_ N h r0 x1 r3 x4 x6 x7 (i1 - x7) (0 : Int32) _ hq
  · intro h r0 x1 r3 x4 x6 x7 x8 x9 q hq
    refine aw_iload dJ15_vectorizedMismatch_122 rfl ?_
    refine aw_iload dJ15_vectorizedMismatch_124 rfl ?_
    refine aw_iload dJ15_vectorizedMismatch_126 rfl ?_
    refine aw_ishl dJ15_vectorizedMismatch_128 ?_
    refine aw_isub dJ15_vectorizedMismatch_129 ?_
    refine aw_istore (loc' := [some (va_rf r0), some (.long x1), none, some (va_rf r3), some (.long x4), none, some (.int x6), some (.int x7), some (.int x8), some (.int x9), some (.int (x6 - (x9 <<< (x8 &&& 31)))), none, none, none, none, none, none, none, none]) dJ15_vectorizedMismatch_130 (Nat.le_of_ble_eq_true rfl) rfl ?_
    refine aw_iload dJ15_vectorizedMismatch_132 rfl ?_
    replace hq := obind hq
    obtain ⟨i23, e24, hq⟩ := hq
    refine xw_gets (i := 26) (vI_eq e24) rfl q1418 dJ15_vectorizedMismatch_134 rfl ?_
    refine aw_icmp_ge (tgt := 263) dJ15_vectorizedMismatch_137 (by decide) (fun c25 => ?_) (fun c25 => ?_)
    · rw [if_pos c25] at hq
      refine aw_iload dJ15_vectorizedMismatch_263 rfl ?_
      refine aw_iconst (v := (-1)) dJ15_vectorizedMismatch_265 (by decide) ?_
      refine aw_ixor dJ15_vectorizedMismatch_266 ?_
      cases hq
      exact aw_ireturn dJ15_vectorizedMismatch_267 rfl rfl ⟨rfl, rfl⟩
    · rw [if_neg c25] at hq
      refine aw_iconst (v := 1) dJ15_vectorizedMismatch_140 (by decide) ?_
      replace hq := obind hq
      obtain ⟨i26, e27, hq⟩ := hq
      refine xw_gets (i := 26) (vI_eq e27) rfl q1418 dJ15_vectorizedMismatch_141 rfl ?_
      refine aw_iload dJ15_vectorizedMismatch_144 rfl ?_
      refine aw_isub dJ15_vectorizedMismatch_146 ?_
      refine aw_ishl dJ15_vectorizedMismatch_147 ?_
      refine aw_istore (loc' := [some (va_rf r0), some (.long x1), none, some (va_rf r3), some (.long x4), none, some (.int x6), some (.int x7), some (.int x8), some (.int x9), some (.int (x6 - (x9 <<< (x8 &&& 31)))), some (.int ((1 : Int32) <<< ((i26 - x7) &&& 31))), none, none, none, none, none, none, none]) dJ15_vectorizedMismatch_148 (Nat.le_of_ble_eq_true rfl) rfl ?_
      refine aw_iload dJ15_vectorizedMismatch_150 rfl ?_
      refine aw_iload dJ15_vectorizedMismatch_152 rfl ?_
      refine aw_icmp_lt (tgt := 258) dJ15_vectorizedMismatch_154 (by decide) (fun c28 => ?_) (fun c28 => ?_)
      · rw [if_pos c28] at hq
        exact p_x_J15_vectorizedMismatch_258 g hst N   h r0 x1 r3 x4 x6 x7 x8 x9 (x6 - (x9 <<< (x8 &&& 31))) ((1 : Int32) <<< ((i26 - x7) &&& 31)) _ hq
      · rw [if_neg c28] at hq
        refine aw_iload dJ15_vectorizedMismatch_157 rfl ?_
        refine aw_i2l dJ15_vectorizedMismatch_159 ?_
        replace hq := obind hq
        obtain ⟨i29, e30, hq⟩ := hq
        refine xw_gets (i := 24) (vI_eq e30) rfl q1345 dJ15_vectorizedMismatch_160 rfl ?_
        refine aw_lshl dJ15_vectorizedMismatch_163 ?_
        refine aw_lstore (loc' := [some (va_rf r0), some (.long x1), none, some (va_rf r3), some (.long x4), none, some (.int x6), some (.int x7), some (.int x8), some (.int x9), some (.int (x6 - (x9 <<< (x8 &&& 31)))), some (.int ((1 : Int32) <<< ((i26 - x7) &&& 31))), some (.long (x9.toInt64 <<< (i29.toInt64 &&& 63))), none, none, none, none, none, none]) dJ15_vectorizedMismatch_164 (Nat.le_of_ble_eq_true rfl) rfl ?_
        replace hq := obind hq
        obtain ⟨o31, e32, hq⟩ := hq
        refine xw_gets (i := 22) (vR_eq e32) rfl q1347 dJ15_vectorizedMismatch_166 rfl ?_
        refine aw_aload_n (i := 0) dJ15_vectorizedMismatch_169 rfl rfl (aIsR_rf _) ?_
        refine aw_lload_n (i := 1) dJ15_vectorizedMismatch_170 rfl rfl ?_
        refine aw_lload dJ15_vectorizedMismatch_171 rfl ?_
        refine aw_ladd dJ15_vectorizedMismatch_173 ?_
        replace hq := obind hq
        obtain ⟨a33, e34, hq⟩ := hq
        subst e34
        replace hq := obind hq
        obtain ⟨a35, e36, hq⟩ := hq
        subst e36
        replace hq := obind hq
        obtain ⟨i37, e38, hq⟩ := hq
        refine xw_getIntU e38 dJ15_vectorizedMismatch_174 ?_
        refine aw_istore (loc' := [some (.ref a33), some (.long x1), none, some (va_rf r3), some (.long x4), none, some (.int x6), some (.int x7), some (.int x8), some (.int x9), some (.int (x6 - (x9 <<< (x8 &&& 31)))), some (.int ((1 : Int32) <<< ((i26 - x7) &&& 31))), some (.long (x9.toInt64 <<< (i29.toInt64 &&& 63))), none, some (.int i37), none, none, none, none]) dJ15_vectorizedMismatch_177 (Nat.le_of_ble_eq_true rfl) rfl ?_
        replace hq := obind hq
        obtain ⟨o39, e40, hq⟩ := hq
        refine xw_gets (i := 22) (vR_eq e40) rfl q1347 dJ15_vectorizedMismatch_179 rfl ?_
        refine aw_aload_n (i := 3) dJ15_vectorizedMismatch_182 rfl rfl (aIsR_rf _) ?_
        refine aw_lload dJ15_vectorizedMismatch_183 rfl ?_
        refine aw_lload dJ15_vectorizedMismatch_185 rfl ?_
        refine aw_ladd dJ15_vectorizedMismatch_187 ?_
        replace hq := obind hq
        obtain ⟨a41, e42, hq⟩ := hq
        subst e42
        replace hq := obind hq
        obtain ⟨a43, e44, hq⟩ := hq
        subst e44
        replace hq := obind hq
        obtain ⟨i45, e46, hq⟩ := hq
        refine xw_getIntU e46 dJ15_vectorizedMismatch_188 ?_
        refine aw_istore (loc' := [some (.ref a33), some (.long x1), none, some (.ref a41), some (.long x4), none, some (.int x6), some (.int x7), some (.int x8), some (.int x9), some (.int (x6 - (x9 <<< (x8 &&& 31)))), some (.int ((1 : Int32) <<< ((i26 - x7) &&& 31))), some (.long (x9.toInt64 <<< (i29.toInt64 &&& 63))), none, some (.int i37), some (.int i45), none, none, none]) dJ15_vectorizedMismatch_191 (Nat.le_of_ble_eq_true rfl) rfl ?_
        refine aw_iload dJ15_vectorizedMismatch_193 rfl ?_
        refine aw_iload dJ15_vectorizedMismatch_195 rfl ?_
        refine aw_icmp_eq (tgt := 251) dJ15_vectorizedMismatch_197 (by decide) (fun c47 => ?_) (fun c47 => ?_)
        · rw [if_pos c47] at hq
          refine aw_iload dJ15_vectorizedMismatch_251 rfl ?_
          refine aw_iload dJ15_vectorizedMismatch_253 rfl ?_
          refine aw_isub dJ15_vectorizedMismatch_255 ?_
          refine aw_istore (loc' := [some (.ref a33), some (.long x1), none, some (.ref a41), some (.long x4), none, some (.int x6), some (.int x7), some (.int x8), some (.int x9), some (.int ((x6 - (x9 <<< (x8 &&& 31))) - ((1 : Int32) <<< ((i26 - x7) &&& 31)))), some (.int ((1 : Int32) <<< ((i26 - x7) &&& 31))), some (.long (x9.toInt64 <<< (i29.toInt64 &&& 63))), none, some (.int i37), some (.int i45), none, none, none]) dJ15_vectorizedMismatch_256 (Nat.le_of_ble_eq_true rfl) rfl ?_
          refine aw_subl (loc' := [some (.ref a33), some (.long x1), none, some (.ref a41), some (.long x4), none, some (.int x6), some (.int x7), some (.int x8), some (.int x9), some (.int ((x6 - (x9 <<< (x8 &&& 31))) - ((1 : Int32) <<< ((i26 - x7) &&& 31)))), some (.int ((1 : Int32) <<< ((i26 - x7) &&& 31))), none, none, none, none, none, none, none]) ⟨Or.inr rfl, Or.inr rfl, Or.inl rfl, Or.inr rfl, Or.inr rfl, Or.inl rfl, Or.inr rfl, Or.inr rfl, Or.inr rfl, Or.inr rfl, Or.inr rfl, Or.inr rfl, Or.inl rfl, Or.inl rfl, Or.inl rfl, Or.inl rfl, Or.inl rfl, Or.inl rfl, Or.inl rfl, trivial⟩ ?_
          exact p_x_J15_vectorizedMismatch_258 g hst N   h (some a33) x1 (some a41) x4 x6 x7 x8 x9 ((x6 - (x9 <<< (x8 &&& 31))) - ((1 : Int32) <<< ((i26 - x7) &&& 31))) ((1 : Int32) <<< ((i26 - x7) &&& 31)) _ hq
        · rw [if_neg c47] at hq
          refine aw_iload dJ15_vectorizedMismatch_200 rfl ?_
          refine aw_iload dJ15_vectorizedMismatch_202 rfl ?_
          refine aw_ixor dJ15_vectorizedMismatch_204 ?_
          refine aw_istore (loc' := [some (.ref a33), some (.long x1), none, some (.ref a41), some (.long x4), none, some (.int x6), some (.int x7), some (.int x8), some (.int x9), some (.int (x6 - (x9 <<< (x8 &&& 31)))), some (.int ((1 : Int32) <<< ((i26 - x7) &&& 31))), some (.long (x9.toInt64 <<< (i29.toInt64 &&& 63))), none, some (.int i37), some (.int i45), some (.int (i37 ^^^ i45)), none, none]) dJ15_vectorizedMismatch_205 (Nat.le_of_ble_eq_true rfl) rfl ?_
          replace hq := obind hq
          obtain ⟨i48, e49, hq⟩ := hq
          refine xw_gets (i := 23) (vI_eq e49) rfl q1401 dJ15_vectorizedMismatch_207 rfl ?_
          refine aw_if_eq (tgt := 228) dJ15_vectorizedMismatch_210 (by decide) (fun c50 => ?_) (fun c50 => ?_)
          · rw [if_pos c50] at hq
            refine aw_iload dJ15_vectorizedMismatch_228 rfl ?_
            replace hq := obind hq
            obtain ⟨q51, e52, hq⟩ := hq
            refine aw_callS (Y2 := YJ21_numberOfTrailingZeros) (As := [.int (i37 ^^^ i45)]) (rest := []) kJ21_numberOfTrailingZeros q1438 q1416 dJ15_vectorizedMismatch_230 rfl rfl (ct_J21_numberOfTrailingZeros g hst N h (i37 ^^^ i45) _ e52) (Nat.le_of_ble_eq_true rfl) (Nat.le_of_ble_eq_true rfl) (fun v9 h9 z9 y9 => ?_)
            obtain ⟨rfl, rfl⟩ := y9
            refine aw_st (st' := [.int q51.1]) rfl ?_
            replace hq := obind hq
            obtain ⟨i53, e54, hq⟩ := hq
            refine xw_gets (i := 25) (vI_eq e54) rfl q1410 dJ15_vectorizedMismatch_233 rfl ?_
            refine aw_iload dJ15_vectorizedMismatch_236 rfl ?_
            refine aw_iadd dJ15_vectorizedMismatch_238 ?_
            refine aw_ishr dJ15_vectorizedMismatch_239 ?_
            exact p_x_J15_vectorizedMismatch_240 g hst N   q51.2 (some a33) x1 (some a41) x4 x6 x7 x8 x9 (x6 - (x9 <<< (x8 &&& 31))) ((1 : Int32) <<< ((i26 - x7) &&& 31)) (x9.toInt64 <<< (i29.toInt64 &&& 63)) i37 i45 (i37 ^^^ i45) (q51.1 >>> ((i53 + x7) &&& 31)) _ hq
          · rw [if_neg c50] at hq
            refine aw_iload dJ15_vectorizedMismatch_213 rfl ?_
            replace hq := obind hq
            obtain ⟨q55, e56, hq⟩ := hq
            refine aw_callS (Y2 := YJ21_numberOfLeadingZeros) (As := [.int (i37 ^^^ i45)]) (rest := []) kJ21_numberOfLeadingZeros q1437 q1407 dJ15_vectorizedMismatch_215 rfl rfl (ct_J21_numberOfLeadingZeros g hst N h (i37 ^^^ i45) _ e56) (Nat.le_of_ble_eq_true rfl) (Nat.le_of_ble_eq_true rfl) (fun v9 h9 z9 y9 => ?_)
            obtain ⟨rfl, rfl⟩ := y9
            refine aw_st (st' := [.int q55.1]) rfl ?_
            replace hq := obind hq
            obtain ⟨i57, e58, hq⟩ := hq
            refine xw_gets (i := 25) (vI_eq e58) rfl q1410 dJ15_vectorizedMismatch_218 rfl ?_
            refine aw_iload dJ15_vectorizedMismatch_221 rfl ?_
            refine aw_iadd dJ15_vectorizedMismatch_223 ?_
            refine aw_ishr dJ15_vectorizedMismatch_224 ?_
            refine aw_goto (tgt := 240) dJ15_vectorizedMismatch_225 (by decide) ?_
            exact p_x_J15_vectorizedMismatch_240 g hst N   q55.2 (some a33) x1 (some a41) x4 x6 x7 x8 x9 (x6 - (x9 <<< (x8 &&& 31))) ((1 : Int32) <<< ((i26 - x7) &&& 31)) (x9.toInt64 <<< (i29.toInt64 &&& 63)) i37 i45 (i37 ^^^ i45) (q55.1 >>> ((i57 + x7) &&& 31)) _ hq
  · intro h r0 x1 r3 x4 x6 x7 x8 x9 x10 x12 x14 q hq
    refine aw_lload dJ15_vectorizedMismatch_65 rfl ?_
    refine aw_lload dJ15_vectorizedMismatch_67 rfl ?_
    refine aw_lxor dJ15_vectorizedMismatch_69 ?_
    refine aw_lstore (loc' := [some (va_rf r0), some (.long x1), none, some (va_rf r3), some (.long x4), none, some (.int x6), some (.int x7), some (.int x8), some (.int x9), some (.long x10), none, some (.long x12), none, some (.long x14), none, some (.long (x12 ^^^ x14)), none, none]) dJ15_vectorizedMismatch_70 (Nat.le_of_ble_eq_true rfl) rfl ?_
    replace hq := obind hq
    obtain ⟨i59, e60, hq⟩ := hq
    refine xw_gets (i := 23) (vI_eq e60) rfl q1401 dJ15_vectorizedMismatch_72 rfl ?_
    refine aw_if_eq (tgt := 93) dJ15_vectorizedMismatch_75 (by decide) (fun c61 => ?_) (fun c61 => ?_)
    · rw [if_pos c61] at hq
      refine aw_lload dJ15_vectorizedMismatch_93 rfl ?_
      replace hq := obind hq
      obtain ⟨q62, e63, hq⟩ := hq
      refine aw_callS (Y2 := YJ25_numberOfTrailingZeros) (As := [.long (x12 ^^^ x14)]) (rest := []) kJ25_numberOfTrailingZeros q1412 q1413 dJ15_vectorizedMismatch_95 rfl rfl (ct_J25_numberOfTrailingZeros g hst N h (x12 ^^^ x14) _ e63) (Nat.le_of_ble_eq_true rfl) (Nat.le_of_ble_eq_true rfl) (fun v9 h9 z9 y9 => ?_)
      obtain ⟨rfl, rfl⟩ := y9
      refine aw_st (st' := [.int q62.1]) rfl ?_
      replace hq := obind hq
      obtain ⟨i64, e65, hq⟩ := hq
      refine xw_gets (i := 25) (vI_eq e65) rfl q1410 dJ15_vectorizedMismatch_98 rfl ?_
      refine aw_iload dJ15_vectorizedMismatch_101 rfl ?_
      refine aw_iadd dJ15_vectorizedMismatch_103 ?_
      refine aw_ishr dJ15_vectorizedMismatch_104 ?_
      exact p_x_J15_vectorizedMismatch_105 g hst N   q62.2 r0 x1 r3 x4 x6 x7 x8 x9 x10 x12 x14 (x12 ^^^ x14) (q62.1 >>> ((i64 + x7) &&& 31)) _ hq
    · rw [if_neg c61] at hq
      refine aw_lload dJ15_vectorizedMismatch_78 rfl ?_
      replace hq := obind hq
      obtain ⟨q66, e67, hq⟩ := hq
      refine aw_callS (Y2 := YJ25_numberOfLeadingZeros) (As := [.long (x12 ^^^ x14)]) (rest := []) kJ25_numberOfLeadingZeros q1403 q1404 dJ15_vectorizedMismatch_80 rfl rfl (ct_J25_numberOfLeadingZeros g hst N h (x12 ^^^ x14) _ e67) (Nat.le_of_ble_eq_true rfl) (Nat.le_of_ble_eq_true rfl) (fun v9 h9 z9 y9 => ?_)
      obtain ⟨rfl, rfl⟩ := y9
      refine aw_st (st' := [.int q66.1]) rfl ?_
      replace hq := obind hq
      obtain ⟨i68, e69, hq⟩ := hq
      refine xw_gets (i := 25) (vI_eq e69) rfl q1410 dJ15_vectorizedMismatch_83 rfl ?_
      refine aw_iload dJ15_vectorizedMismatch_86 rfl ?_
      refine aw_iadd dJ15_vectorizedMismatch_88 ?_
      refine aw_ishr dJ15_vectorizedMismatch_89 ?_
      refine aw_goto (tgt := 105) dJ15_vectorizedMismatch_90 (by decide) ?_
      exact p_x_J15_vectorizedMismatch_105 g hst N   q66.2 r0 x1 r3 x4 x6 x7 x8 x9 x10 x12 x14 (x12 ^^^ x14) (q66.1 >>> ((i68 + x7) &&& 31)) _ hq
abbrev YJ15_mismatch : YC := (yJ15_mismatch, cJ15_mismatch, 4, (some .int), [])
theorem kJ15_mismatch : aMk YJ15_mismatch 3 := ⟨rfl, q1337, q136, ⟨by decide +kernel, by decide +kernel, by decide +kernel⟩, Nat.le_of_ble_eq_true rfl⟩
def x_J15_mismatch_49 (g : AG) (N : Nat) : Nat → AH → Option Nat → Option Nat → Int32 → Int32 → Option (Int32 × AH)
  | 0, _, _, _, _, _ => none
  | n9 + 1, h, r0, r1, x2, x3 =>
  if x2 ≤ x3 then (some ((-1 : Int32), h)) else ((r0).bind fun a3 => ((rdA h a3 3 x3).bind vI).bind fun i5 => (r1).bind fun a7 => ((rdA h a7 3 x3).bind vI).bind fun i9 => if i5 = i9 then (x_J15_mismatch_49 g N n9 h (some a3) (some a7) x2 (x3 + 1)) else (some (x3, h)))
theorem p_x_J15_mismatch_49 (g : AG) (hst : (gL g).stackTraces = false) (N : Nat) : ∀ (n9 : Nat) (h : AH) (r0 : Option Nat) (r1 : Option Nat) (x2 : Int32) (x3 : Int32) (q : (Int32 × AH)), x_J15_mismatch_49 g N n9 h r0 r1 x2 x3 = some q → AW g YJ15_mismatch 4 (xI q) h [some (va_rf r0), some (va_rf r1), some (.int x2), some (.int x3)] 49 [] := by
  intro n9
  induction n9 with
  | zero =>
    intro h r0 r1 x2 x3 q hq
    cases hq
  | succ n9 ih =>
    intro h r0 r1 x2 x3 q hq
    rw [x_J15_mismatch_49] at hq
    refine aw_iload_n (i := 3) dJ15_mismatch_49 rfl rfl ?_
    refine aw_iload_n (i := 2) dJ15_mismatch_50 rfl rfl ?_
    refine aw_icmp_ge (tgt := 71) dJ15_mismatch_51 (by decide) (fun c2 => ?_) (fun c2 => ?_)
    · rw [if_pos c2] at hq
      refine aw_iconst (v := (-1)) dJ15_mismatch_71 (by decide) ?_
      cases hq
      exact aw_ireturn dJ15_mismatch_72 rfl rfl ⟨rfl, rfl⟩
    · rw [if_neg c2] at hq
      refine aw_aload_n (i := 0) dJ15_mismatch_54 rfl rfl (aIsR_rf _) ?_
      refine aw_iload_n (i := 3) dJ15_mismatch_55 rfl rfl ?_
      replace hq := obind hq
      obtain ⟨a3, e4, hq⟩ := hq
      subst e4
      replace hq := obind hq
      obtain ⟨i5, e6, hq⟩ := hq
      refine xw_bald e6 dJ15_mismatch_56 ?_
      refine aw_aload_n (i := 1) dJ15_mismatch_57 rfl rfl (aIsR_rf _) ?_
      refine aw_iload_n (i := 3) dJ15_mismatch_58 rfl rfl ?_
      replace hq := obind hq
      obtain ⟨a7, e8, hq⟩ := hq
      subst e8
      replace hq := obind hq
      obtain ⟨i9, e10, hq⟩ := hq
      refine xw_bald e10 dJ15_mismatch_59 ?_
      refine aw_icmp_eq (tgt := 65) dJ15_mismatch_60 (by decide) (fun c11 => ?_) (fun c11 => ?_)
      · rw [if_pos c11] at hq
        refine aw_iinc (v := x3 + 1) (loc' := [some (.ref a3), some (.ref a7), some (.int x2), some (.int (x3 + 1))]) dJ15_mismatch_65 rfl rfl (Nat.le_of_ble_eq_true rfl) rfl ?_
        refine aw_goto (tgt := 49) dJ15_mismatch_68 (by decide) ?_
        exact ih h (some a3) (some a7) x2 (x3 + 1) _ hq
      · rw [if_neg c11] at hq
        refine aw_iload_n (i := 3) dJ15_mismatch_63 rfl rfl ?_
        cases hq
        exact aw_ireturn dJ15_mismatch_64 rfl rfl ⟨rfl, rfl⟩
def x_J15_mismatch (g : AG) (N : Nat) (h : AH) (r0 : Option Nat) (r1 : Option Nat) (x2 : Int32) : Option (Int32 × AH) :=
  if x2 ≤ (7 : Int32) then (x_J15_mismatch_49 g N  N h r0 r1 x2 (0 : Int32)) else ((r0).bind fun a12 => ((rdA h a12 3 (0 : Int32)).bind vI).bind fun i14 => (r1).bind fun a16 => ((rdA h a16 3 (0 : Int32)).bind vI).bind fun i18 => if i14 = i18 then ((vI (gV g 28)).bind fun i21 => (vI (gV g 28)).bind fun i23 => (vI (gV g 27)).bind fun i25 => (x_J15_vectorizedMismatch g N h (some a12) i21.toInt64 (some a16) i23.toInt64 x2 i25).bind fun q27 => if q27.1 < 0 then (x_J15_mismatch_49 g N  N q27.2 (some a12) (some a16) x2 (x2 - (q27.1 ^^^ (-1 : Int32)))) else (some (q27.1, q27.2))) else (some ((0 : Int32), h)))
theorem ct_J15_mismatch (g : AG) (hst : (gL g).stackTraces = false) (N : Nat) : ∀ (h : AH) (r0 : Option Nat) (r1 : Option Nat) (x2 : Int32) (q : (Int32 × AH)), x_J15_mismatch g N h r0 r1 x2 = some q → CT g YJ15_mismatch 4 [va_rf r0, va_rf r1, .int x2] h (xI q) := by
  intro h r0 r1 x2 q hq
  refine CT.of rfl (by decide +kernel) (loc := [some (va_rf r0), some (va_rf r1), some (.int x2), none]) (by first | exact Nat.le_of_ble_eq_true rfl | (simp only [lgl_rf, lgl_i, lgl_j, lgl_ref, lgl_nil]; exact Nat.le_of_ble_eq_true rfl)) (by first | rfl | (simp only [aent_rf, aent_i, aent_j, aent_ref, aent_nil]; rfl)) ?_
  unfold x_J15_mismatch at hq
  refine aw_iconst (v := 0) dJ15_mismatch_0 (by decide) ?_
  refine aw_istore_n (i := 3) (loc' := [some (va_rf r0), some (va_rf r1), some (.int x2), some (.int (0 : Int32))]) dJ15_mismatch_1 rfl (Nat.le_of_ble_eq_true rfl) rfl ?_
  refine aw_iload_n (i := 2) dJ15_mismatch_2 rfl rfl ?_
  refine aw_bipush (v := 7) dJ15_mismatch_3 (by decide) ?_
  refine aw_icmp_le (tgt := 49) dJ15_mismatch_5 (by decide) (fun c1 => ?_) (fun c1 => ?_)
  · rw [if_pos c1] at hq
    exact p_x_J15_mismatch_49 g hst N   N h r0 r1 x2 (0 : Int32) _ hq
  · rw [if_neg c1] at hq
    refine aw_aload_n (i := 0) dJ15_mismatch_8 rfl rfl (aIsR_rf _) ?_
    refine aw_iconst (v := 0) dJ15_mismatch_9 (by decide) ?_
    replace hq := obind hq
    obtain ⟨a12, e13, hq⟩ := hq
    subst e13
    replace hq := obind hq
    obtain ⟨i14, e15, hq⟩ := hq
    refine xw_bald e15 dJ15_mismatch_10 ?_
    refine aw_aload_n (i := 1) dJ15_mismatch_11 rfl rfl (aIsR_rf _) ?_
    refine aw_iconst (v := 0) dJ15_mismatch_12 (by decide) ?_
    replace hq := obind hq
    obtain ⟨a16, e17, hq⟩ := hq
    subst e17
    replace hq := obind hq
    obtain ⟨i18, e19, hq⟩ := hq
    refine xw_bald e19 dJ15_mismatch_13 ?_
    refine aw_icmp_eq (tgt := 19) dJ15_mismatch_14 (by decide) (fun c20 => ?_) (fun c20 => ?_)
    · rw [if_pos c20] at hq
      refine aw_aload_n (i := 0) dJ15_mismatch_19 rfl rfl trivial ?_
      replace hq := obind hq
      obtain ⟨i21, e22, hq⟩ := hq
      refine xw_gets (i := 28) (vI_eq e22) rfl q1338 dJ15_mismatch_20 rfl ?_
      refine aw_i2l dJ15_mismatch_23 ?_
      refine aw_aload_n (i := 1) dJ15_mismatch_24 rfl rfl trivial ?_
      replace hq := obind hq
      obtain ⟨i23, e24, hq⟩ := hq
      refine xw_gets (i := 28) (vI_eq e24) rfl q1338 dJ15_mismatch_25 rfl ?_
      refine aw_i2l dJ15_mismatch_28 ?_
      refine aw_iload_n (i := 2) dJ15_mismatch_29 rfl rfl ?_
      replace hq := obind hq
      obtain ⟨i25, e26, hq⟩ := hq
      refine xw_gets (i := 27) (vI_eq e26) rfl q1340 dJ15_mismatch_30 rfl ?_
      replace hq := obind hq
      obtain ⟨q27, e28, hq⟩ := hq
      refine aw_callS (Y2 := YJ15_vectorizedMismatch) (As := [.ref a12, .long i21.toInt64, .ref a16, .long i23.toInt64, .int x2, .int i25]) (rest := []) kJ15_vectorizedMismatch q1342 q1343 dJ15_mismatch_33 rfl rfl (ct_J15_vectorizedMismatch g hst N h (some a12) i21.toInt64 (some a16) i23.toInt64 x2 i25 _ e28) (Nat.le_of_ble_eq_true rfl) (Nat.le_of_ble_eq_true rfl) (fun v9 h9 z9 y9 => ?_)
      obtain ⟨rfl, rfl⟩ := y9
      refine aw_st (st' := [.int q27.1]) rfl ?_
      refine aw_istore_n (i := 3) (loc' := [some (.ref a12), some (.ref a16), some (.int x2), some (.int q27.1)]) dJ15_mismatch_36 rfl (Nat.le_of_ble_eq_true rfl) rfl ?_
      refine aw_iload_n (i := 3) dJ15_mismatch_37 rfl rfl ?_
      refine aw_if_lt (tgt := 43) dJ15_mismatch_38 (by decide) (fun c29 => ?_) (fun c29 => ?_)
      · rw [if_pos c29] at hq
        refine aw_iload_n (i := 2) dJ15_mismatch_43 rfl rfl ?_
        refine aw_iload_n (i := 3) dJ15_mismatch_44 rfl rfl ?_
        refine aw_iconst (v := (-1)) dJ15_mismatch_45 (by decide) ?_
        refine aw_ixor dJ15_mismatch_46 ?_
        refine aw_isub dJ15_mismatch_47 ?_
        refine aw_istore_n (i := 3) (loc' := [some (.ref a12), some (.ref a16), some (.int x2), some (.int (x2 - (q27.1 ^^^ (-1 : Int32))))]) dJ15_mismatch_48 rfl (Nat.le_of_ble_eq_true rfl) rfl ?_
        exact p_x_J15_mismatch_49 g hst N   N q27.2 (some a12) (some a16) x2 (x2 - (q27.1 ^^^ (-1 : Int32))) _ hq
      · rw [if_neg c29] at hq
        refine aw_iload_n (i := 3) dJ15_mismatch_41 rfl rfl ?_
        cases hq
        exact aw_ireturn dJ15_mismatch_42 rfl rfl ⟨rfl, rfl⟩
    · rw [if_neg c20] at hq
      refine aw_iconst (v := 0) dJ15_mismatch_17 (by decide) ?_
      cases hq
      exact aw_ireturn dJ15_mismatch_18 rfl rfl ⟨rfl, rfl⟩
abbrev YJ18_getChar : YC := (yJ18_getChar, cJ18_getChar, 2, (some .char), [])
theorem kJ18_getChar : aMk YJ18_getChar 2 := ⟨rfl, q1441, q140, ⟨by decide +kernel, by decide +kernel, by decide +kernel⟩, Nat.le_of_ble_eq_true rfl⟩
def x_J18_getChar (g : AG) (N : Nat) (h : AH) (r0 : Option Nat) (x1 : Int32) : Option (Int32 × AH) :=
  (r0).bind fun a1 => ((rdA h a1 3 x1).bind vI).bind fun i3 => bif isc (((i3 &&& (255 : Int32)).toUInt32 % 65536).toInt32) then (some ((((i3 &&& (255 : Int32)).toUInt32 % 65536).toInt32), h)) else none
theorem ct_J18_getChar (g : AG) (hst : (gL g).stackTraces = false) (N : Nat) : ∀ (h : AH) (r0 : Option Nat) (x1 : Int32) (q : (Int32 × AH)), x_J18_getChar g N h r0 x1 = some q → CT g YJ18_getChar 1 [va_rf r0, .int x1] h (xI q) := by
  intro h r0 x1 q hq
  refine CT.of rfl (by decide +kernel) (loc := [some (va_rf r0), some (.int x1)]) (by first | exact Nat.le_of_ble_eq_true rfl | (simp only [lgl_rf, lgl_i, lgl_j, lgl_ref, lgl_nil]; exact Nat.le_of_ble_eq_true rfl)) (by first | rfl | (simp only [aent_rf, aent_i, aent_j, aent_ref, aent_nil]; rfl)) ?_
  unfold x_J18_getChar at hq
  refine aw_aload_n (i := 0) dJ18_getChar_0 rfl rfl (aIsR_rf _) ?_
  refine aw_iload_n (i := 1) dJ18_getChar_1 rfl rfl ?_
  replace hq := obind hq
  obtain ⟨a1, e2, hq⟩ := hq
  subst e2
  replace hq := obind hq
  obtain ⟨i3, e4, hq⟩ := hq
  refine xw_bald e4 dJ18_getChar_2 ?_
  refine aw_sipush (v := 255) dJ18_getChar_3 (by decide) ?_
  refine aw_iand dJ18_getChar_6 ?_
  refine aw_i2c dJ18_getChar_7 ?_
  replace hq := cond_t hq
  obtain ⟨z5, hq⟩ := hq
  cases hq
  exact aw_ireturn dJ18_getChar_8 rfl (isc_ok z5).1 ⟨rfl, rfl⟩
abbrev YJ18_compareTo_2 : YC := (yJ18_compareTo_2, cJ18_compareTo_2, 6, (some .int), [])
theorem kJ18_compareTo_2 : aMk YJ18_compareTo_2 4 := ⟨rfl, q1334, q140, ⟨by decide +kernel, by decide +kernel, by decide +kernel⟩, Nat.le_of_ble_eq_true rfl⟩
def x_J18_compareTo_2 (g : AG) (N : Nat) (h : AH) (r0 : Option Nat) (r1 : Option Nat) (x2 : Int32) (x3 : Int32) : Option (Int32 × AH) :=
  (x_J15_mismatch g N h r0 r1 (if x3 < x2 then x3 else x2)).bind fun q1 => if 0 ≤ q1.1 then ((x_J18_getChar g N q1.2 r0 q1.1).bind fun q4 => (x_J18_getChar g N q4.2 r1 q1.1).bind fun q6 => some ((q4.1 - q6.1), q6.2)) else (some ((x2 - x3), q1.2))
theorem ct_J18_compareTo_2 (g : AG) (hst : (gL g).stackTraces = false) (N : Nat) : ∀ (h : AH) (r0 : Option Nat) (r1 : Option Nat) (x2 : Int32) (x3 : Int32) (q : (Int32 × AH)), x_J18_compareTo_2 g N h r0 r1 x2 x3 = some q → CT g YJ18_compareTo_2 5 [va_rf r0, va_rf r1, .int x2, .int x3] h (xI q) := by
  intro h r0 r1 x2 x3 q hq
  refine CT.of rfl (by decide +kernel) (loc := [some (va_rf r0), some (va_rf r1), some (.int x2), some (.int x3), none, none]) (by first | exact Nat.le_of_ble_eq_true rfl | (simp only [lgl_rf, lgl_i, lgl_j, lgl_ref, lgl_nil]; exact Nat.le_of_ble_eq_true rfl)) (by first | rfl | (simp only [aent_rf, aent_i, aent_j, aent_ref, aent_nil]; rfl)) ?_
  unfold x_J18_compareTo_2 at hq
  refine aw_iload_n (i := 2) dJ18_compareTo_2_0 rfl rfl ?_
  refine aw_iload_n (i := 3) dJ18_compareTo_2_1 rfl rfl ?_
  refine aw_mmin q930 (by omega) (Nat.le_of_ble_eq_true rfl) dJ18_compareTo_2_2 ?_
  refine aw_istore (loc' := [some (va_rf r0), some (va_rf r1), some (.int x2), some (.int x3), some (.int (if x3 < x2 then x3 else x2)), none]) dJ18_compareTo_2_5 (Nat.le_of_ble_eq_true rfl) rfl ?_
  refine aw_aload_n (i := 0) dJ18_compareTo_2_7 rfl rfl (aIsR_rf _) ?_
  refine aw_aload_n (i := 1) dJ18_compareTo_2_8 rfl rfl (aIsR_rf _) ?_
  refine aw_iload dJ18_compareTo_2_9 rfl ?_
  replace hq := obind hq
  obtain ⟨q1, e2, hq⟩ := hq
  refine aw_callS (Y2 := YJ15_mismatch) (As := [va_rf r0, va_rf r1, .int (if x3 < x2 then x3 else x2)]) (rest := []) kJ15_mismatch q1335 q1336 dJ18_compareTo_2_11 rfl rfl (ct_J15_mismatch g hst N h r0 r1 (if x3 < x2 then x3 else x2) _ e2) (Nat.le_of_ble_eq_true rfl) (Nat.le_of_ble_eq_true rfl) (fun v9 h9 z9 y9 => ?_)
  obtain ⟨rfl, rfl⟩ := y9
  refine aw_st (st' := [.int q1.1]) rfl ?_
  refine aw_istore (loc' := [some (va_rf r0), some (va_rf r1), some (.int x2), some (.int x3), some (.int (if x3 < x2 then x3 else x2)), some (.int q1.1)]) dJ18_compareTo_2_14 (Nat.le_of_ble_eq_true rfl) rfl ?_
  refine aw_iload dJ18_compareTo_2_16 rfl ?_
  refine aw_if_ge (tgt := 27) dJ18_compareTo_2_18 (by decide) (fun c3 => ?_) (fun c3 => ?_)
  · rw [if_pos c3] at hq
    refine aw_aload_n (i := 0) dJ18_compareTo_2_27 rfl rfl (aIsR_rf _) ?_
    refine aw_iload dJ18_compareTo_2_28 rfl ?_
    replace hq := obind hq
    obtain ⟨q4, e5, hq⟩ := hq
    refine aw_callS (Y2 := YJ18_getChar) (As := [va_rf r0, .int q1.1]) (rest := []) kJ18_getChar q1439 q1440 dJ18_compareTo_2_30 rfl rfl (ct_J18_getChar g hst N q1.2 r0 q1.1 _ e5) (Nat.le_of_ble_eq_true rfl) (Nat.le_of_ble_eq_true rfl) (fun v9 h9 z9 y9 => ?_)
    obtain ⟨rfl, rfl⟩ := y9
    refine aw_st (st' := [.int q4.1]) rfl ?_
    refine aw_aload_n (i := 1) dJ18_compareTo_2_33 rfl rfl (aIsR_rf _) ?_
    refine aw_iload dJ18_compareTo_2_34 rfl ?_
    replace hq := obind hq
    obtain ⟨q6, e7, hq⟩ := hq
    refine aw_callS (Y2 := YJ18_getChar) (As := [va_rf r1, .int q1.1]) (rest := [.int q4.1]) kJ18_getChar q1439 q1440 dJ18_compareTo_2_36 rfl rfl (ct_J18_getChar g hst N q4.2 r1 q1.1 _ e7) (Nat.le_of_ble_eq_true rfl) (Nat.le_of_ble_eq_true rfl) (fun v9 h9 z9 y9 => ?_)
    obtain ⟨rfl, rfl⟩ := y9
    refine aw_st (st' := [.int q6.1, .int q4.1]) rfl ?_
    refine aw_isub dJ18_compareTo_2_39 ?_
    cases hq
    exact aw_ireturn dJ18_compareTo_2_40 rfl rfl ⟨rfl, rfl⟩
  · rw [if_neg c3] at hq
    refine aw_iload_n (i := 2) dJ18_compareTo_2_21 rfl rfl ?_
    refine aw_iload_n (i := 3) dJ18_compareTo_2_22 rfl rfl ?_
    refine aw_isub dJ18_compareTo_2_23 ?_
    refine aw_goto (tgt := 40) dJ18_compareTo_2_24 (by decide) ?_
    cases hq
    exact aw_ireturn dJ18_compareTo_2_40 rfl rfl ⟨rfl, rfl⟩
abbrev YJ18_compareTo : YC := (yJ18_compareTo, cJ18_compareTo, 4, (some .int), [])
theorem kJ18_compareTo : aMk YJ18_compareTo 2 := ⟨rfl, q1331, q140, ⟨by decide +kernel, by decide +kernel, by decide +kernel⟩, Nat.le_of_ble_eq_true rfl⟩
def x_J18_compareTo (g : AG) (N : Nat) (h : AH) (r0 : Option Nat) (r1 : Option Nat) : Option (Int32 × AH) :=
  (r0).bind fun a1 => (rdN h a1).bind fun i3 => (r1).bind fun a5 => (rdN h a5).bind fun i7 => (x_J18_compareTo_2 g N h (some a1) (some a5) i3 i7).bind fun q9 => some (q9.1, q9.2)
theorem ct_J18_compareTo (g : AG) (hst : (gL g).stackTraces = false) (N : Nat) : ∀ (h : AH) (r0 : Option Nat) (r1 : Option Nat) (q : (Int32 × AH)), x_J18_compareTo g N h r0 r1 = some q → CT g YJ18_compareTo 6 [va_rf r0, va_rf r1] h (xI q) := by
  intro h r0 r1 q hq
  refine CT.of rfl (by decide +kernel) (loc := [some (va_rf r0), some (va_rf r1), none, none]) (by first | exact Nat.le_of_ble_eq_true rfl | (simp only [lgl_rf, lgl_i, lgl_j, lgl_ref, lgl_nil]; exact Nat.le_of_ble_eq_true rfl)) (by first | rfl | (simp only [aent_rf, aent_i, aent_j, aent_ref, aent_nil]; rfl)) ?_
  unfold x_J18_compareTo at hq
  refine aw_aload_n (i := 0) dJ18_compareTo_0 rfl rfl (aIsR_rf _) ?_
  replace hq := obind hq
  obtain ⟨a1, e2, hq⟩ := hq
  subst e2
  replace hq := obind hq
  obtain ⟨i3, e4, hq⟩ := hq
  refine xw_alen e4 dJ18_compareTo_1 ?_
  refine aw_istore_n (i := 2) (loc' := [some (.ref a1), some (va_rf r1), some (.int i3), none]) dJ18_compareTo_2 rfl (Nat.le_of_ble_eq_true rfl) (aset1_rf rfl) ?_
  refine aw_aload_n (i := 1) dJ18_compareTo_3 rfl rfl (aIsR_rf _) ?_
  replace hq := obind hq
  obtain ⟨a5, e6, hq⟩ := hq
  subst e6
  replace hq := obind hq
  obtain ⟨i7, e8, hq⟩ := hq
  refine xw_alen e8 dJ18_compareTo_4 ?_
  refine aw_istore_n (i := 3) (loc' := [some (.ref a1), some (.ref a5), some (.int i3), some (.int i7)]) dJ18_compareTo_5 rfl (Nat.le_of_ble_eq_true rfl) rfl ?_
  refine aw_aload_n (i := 0) dJ18_compareTo_6 rfl rfl trivial ?_
  refine aw_aload_n (i := 1) dJ18_compareTo_7 rfl rfl trivial ?_
  refine aw_iload_n (i := 2) dJ18_compareTo_8 rfl rfl ?_
  refine aw_iload_n (i := 3) dJ18_compareTo_9 rfl rfl ?_
  replace hq := obind hq
  obtain ⟨q9, e10, hq⟩ := hq
  refine aw_callS (Y2 := YJ18_compareTo_2) (As := [.ref a1, .ref a5, .int i3, .int i7]) (rest := []) kJ18_compareTo_2 q1332 q1333 dJ18_compareTo_10 rfl rfl (ct_J18_compareTo_2 g hst N h (some a1) (some a5) i3 i7 _ e10) (Nat.le_of_ble_eq_true rfl) (Nat.le_of_ble_eq_true rfl) (fun v9 h9 z9 y9 => ?_)
  obtain ⟨rfl, rfl⟩ := y9
  refine aw_st (st' := [.int q9.1]) rfl ?_
  cases hq
  exact aw_ireturn dJ18_compareTo_13 rfl rfl ⟨rfl, rfl⟩
abbrev YJ14_compareValues : YC := (yJ14_compareValues, cJ14_compareValues, 8, (some .int), [])
theorem kJ14_compareValues : aMk YJ14_compareValues 4 := ⟨rfl, q1447, q135, ⟨by decide +kernel, by decide +kernel, by decide +kernel⟩, Nat.le_of_ble_eq_true rfl⟩
def x_J14_compareValues_10 (g : AG) (N : Nat) (K52 : AH → Option Nat → Option Nat → Int32 → Int32 → Int32 → Int32 → Option (Int32 × AH)) (K40 : AH → Option Nat → Option Nat → Int32 → Int32 → Int32 → Int32 → Int32 → Int32 → Option (Int32 × AH)) : Nat → AH → Option Nat → Option Nat → Int32 → Int32 → Int32 → Int32 → Option (Int32 × AH)
  | 0, _, _, _, _, _, _, _ => none
  | n9 + 1, h, r0, r1, x2, x3, x4, x5 =>
  if x4 ≤ x5 then (K52 h r0 r1 x2 x3 x4 x5) else ((x_J14_getChar g N h r0 x5).bind fun q2 => (x_J14_getChar g N q2.2 r1 x5).bind fun q4 => if q2.1 = q4.1 then (x_J14_compareValues_10 g N K52 K40 n9 q4.2 r0 r1 x2 x3 x4 (x5 + 1)) else (K40 q4.2 r0 r1 x2 x3 x4 x5 q2.1 q4.1))
theorem p_x_J14_compareValues_10 (g : AG) (hst : (gL g).stackTraces = false) (N : Nat) (K52 : AH → Option Nat → Option Nat → Int32 → Int32 → Int32 → Int32 → Option (Int32 × AH)) (K40 : AH → Option Nat → Option Nat → Int32 → Int32 → Int32 → Int32 → Int32 → Int32 → Option (Int32 × AH)) (hK52 : ∀ (h : AH) (r0 : Option Nat) (r1 : Option Nat) (x2 : Int32) (x3 : Int32) (x4 : Int32) (x5 : Int32) (q : (Int32 × AH)), K52 h r0 r1 x2 x3 x4 x5 = some q → AW g YJ14_compareValues 3 (xI q) h [some (va_rf r0), some (va_rf r1), some (.int x2), some (.int x3), some (.int x4), some (.int x5), none, none] 52 []) (hK40 : ∀ (h : AH) (r0 : Option Nat) (r1 : Option Nat) (x2 : Int32) (x3 : Int32) (x4 : Int32) (x5 : Int32) (x6 : Int32) (x7 : Int32) (q : (Int32 × AH)), K40 h r0 r1 x2 x3 x4 x5 x6 x7 = some q → AW g YJ14_compareValues 3 (xI q) h [some (va_rf r0), some (va_rf r1), some (.int x2), some (.int x3), some (.int x4), some (.int x5), some (.int x6), some (.int x7)] 40 []) : ∀ (n9 : Nat) (h : AH) (r0 : Option Nat) (r1 : Option Nat) (x2 : Int32) (x3 : Int32) (x4 : Int32) (x5 : Int32) (q : (Int32 × AH)), x_J14_compareValues_10 g N K52 K40 n9 h r0 r1 x2 x3 x4 x5 = some q → AW g YJ14_compareValues 3 (xI q) h [some (va_rf r0), some (va_rf r1), some (.int x2), some (.int x3), some (.int x4), some (.int x5), none, none] 10 [] := by
  intro n9
  induction n9 with
  | zero =>
    intro h r0 r1 x2 x3 x4 x5 q hq
    cases hq
  | succ n9 ih =>
    intro h r0 r1 x2 x3 x4 x5 q hq
    rw [x_J14_compareValues_10] at hq
    refine aw_iload dJ14_compareValues_10 rfl ?_
    refine aw_iload dJ14_compareValues_12 rfl ?_
    refine aw_icmp_ge (tgt := 52) dJ14_compareValues_14 (by decide) (fun c1 => ?_) (fun c1 => ?_)
    · rw [if_pos c1] at hq
      exact hK52 h r0 r1 x2 x3 x4 x5 _ hq
    · rw [if_neg c1] at hq
      refine aw_aload_n (i := 0) dJ14_compareValues_17 rfl rfl (aIsR_rf _) ?_
      refine aw_iload dJ14_compareValues_18 rfl ?_
      replace hq := obind hq
      obtain ⟨q2, e3, hq⟩ := hq
      refine aw_callS (Y2 := YJ14_getChar) (As := [va_rf r0, .int x5]) (rest := []) kJ14_getChar q741 q742 dJ14_compareValues_20 rfl rfl (ct_J14_getChar g hst N h r0 x5 _ e3) (Nat.le_of_ble_eq_true rfl) (Nat.le_of_ble_eq_true rfl) (fun v9 h9 z9 y9 => ?_)
      obtain ⟨rfl, rfl⟩ := y9
      refine aw_st (st' := [.int q2.1]) rfl ?_
      refine aw_istore (loc' := [some (va_rf r0), some (va_rf r1), some (.int x2), some (.int x3), some (.int x4), some (.int x5), some (.int q2.1), none]) dJ14_compareValues_23 (Nat.le_of_ble_eq_true rfl) rfl ?_
      refine aw_aload_n (i := 1) dJ14_compareValues_25 rfl rfl (aIsR_rf _) ?_
      refine aw_iload dJ14_compareValues_26 rfl ?_
      replace hq := obind hq
      obtain ⟨q4, e5, hq⟩ := hq
      refine aw_callS (Y2 := YJ14_getChar) (As := [va_rf r1, .int x5]) (rest := []) kJ14_getChar q741 q742 dJ14_compareValues_28 rfl rfl (ct_J14_getChar g hst N q2.2 r1 x5 _ e5) (Nat.le_of_ble_eq_true rfl) (Nat.le_of_ble_eq_true rfl) (fun v9 h9 z9 y9 => ?_)
      obtain ⟨rfl, rfl⟩ := y9
      refine aw_st (st' := [.int q4.1]) rfl ?_
      refine aw_istore (loc' := [some (va_rf r0), some (va_rf r1), some (.int x2), some (.int x3), some (.int x4), some (.int x5), some (.int q2.1), some (.int q4.1)]) dJ14_compareValues_31 (Nat.le_of_ble_eq_true rfl) rfl ?_
      refine aw_iload dJ14_compareValues_33 rfl ?_
      refine aw_iload dJ14_compareValues_35 rfl ?_
      refine aw_icmp_eq (tgt := 46) dJ14_compareValues_37 (by decide) (fun c6 => ?_) (fun c6 => ?_)
      · rw [if_pos c6] at hq
        refine aw_iinc (v := x5 + 1) (loc' := [some (va_rf r0), some (va_rf r1), some (.int x2), some (.int x3), some (.int x4), some (.int (x5 + 1)), some (.int q2.1), some (.int q4.1)]) dJ14_compareValues_46 rfl rfl (Nat.le_of_ble_eq_true rfl) rfl ?_
        refine aw_goto (tgt := 10) dJ14_compareValues_49 (by decide) ?_
        refine aw_subl (loc' := [some (va_rf r0), some (va_rf r1), some (.int x2), some (.int x3), some (.int x4), some (.int (x5 + 1)), none, none]) ⟨Or.inr rfl, Or.inr rfl, Or.inr rfl, Or.inr rfl, Or.inr rfl, Or.inr rfl, Or.inl rfl, Or.inl rfl, trivial⟩ ?_
        exact ih q4.2 r0 r1 x2 x3 x4 (x5 + 1) _ hq
      · rw [if_neg c6] at hq
        exact hK40 q4.2 r0 r1 x2 x3 x4 x5 q2.1 q4.1 _ hq
def x_J14_compareValues (g : AG) (N : Nat) (h : AH) (r0 : Option Nat) (r1 : Option Nat) (x2 : Int32) (x3 : Int32) : Option (Int32 × AH) :=
  x_J14_compareValues_10 g N (fun h r0 r1 x2 x3 x4 x5 => some ((x2 - x3), h)) (fun h r0 r1 x2 x3 x4 x5 x6 x7 => some ((x6 - x7), h)) N h r0 r1 x2 x3 (if x3 < x2 then x3 else x2) (0 : Int32)
theorem ct_J14_compareValues (g : AG) (hst : (gL g).stackTraces = false) (N : Nat) : ∀ (h : AH) (r0 : Option Nat) (r1 : Option Nat) (x2 : Int32) (x3 : Int32) (q : (Int32 × AH)), x_J14_compareValues g N h r0 r1 x2 x3 = some q → CT g YJ14_compareValues 3 [va_rf r0, va_rf r1, .int x2, .int x3] h (xI q) := by
  intro h r0 r1 x2 x3 q hq
  refine CT.of rfl (by decide +kernel) (loc := [some (va_rf r0), some (va_rf r1), some (.int x2), some (.int x3), none, none, none, none]) (by first | exact Nat.le_of_ble_eq_true rfl | (simp only [lgl_rf, lgl_i, lgl_j, lgl_ref, lgl_nil]; exact Nat.le_of_ble_eq_true rfl)) (by first | rfl | (simp only [aent_rf, aent_i, aent_j, aent_ref, aent_nil]; rfl)) ?_
  unfold x_J14_compareValues at hq
  refine aw_iload_n (i := 2) dJ14_compareValues_0 rfl rfl ?_
  refine aw_iload_n (i := 3) dJ14_compareValues_1 rfl rfl ?_
  refine aw_mmin q938 (by omega) (Nat.le_of_ble_eq_true rfl) dJ14_compareValues_2 ?_
  refine aw_istore (loc' := [some (va_rf r0), some (va_rf r1), some (.int x2), some (.int x3), some (.int (if x3 < x2 then x3 else x2)), none, none, none]) dJ14_compareValues_5 (Nat.le_of_ble_eq_true rfl) rfl ?_
  refine aw_iconst (v := 0) dJ14_compareValues_7 (by decide) ?_
  refine aw_istore (loc' := [some (va_rf r0), some (va_rf r1), some (.int x2), some (.int x3), some (.int (if x3 < x2 then x3 else x2)), some (.int (0 : Int32)), none, none]) dJ14_compareValues_8 (Nat.le_of_ble_eq_true rfl) rfl ?_
  refine p_x_J14_compareValues_10 g hst N _ _ ?_ ?_ N h r0 r1 x2 x3 (if x3 < x2 then x3 else x2) (0 : Int32) _ hq
  · intro h r0 r1 x2 x3 x4 x5 q hq
    refine aw_iload_n (i := 2) dJ14_compareValues_52 rfl rfl ?_
    refine aw_iload_n (i := 3) dJ14_compareValues_53 rfl rfl ?_
    refine aw_isub dJ14_compareValues_54 ?_
    cases hq
    exact aw_ireturn dJ14_compareValues_55 rfl rfl ⟨rfl, rfl⟩
  · intro h r0 r1 x2 x3 x4 x5 x6 x7 q hq
    refine aw_iload dJ14_compareValues_40 rfl ?_
    refine aw_iload dJ14_compareValues_42 rfl ?_
    refine aw_isub dJ14_compareValues_44 ?_
    cases hq
    exact aw_ireturn dJ14_compareValues_45 rfl rfl ⟨rfl, rfl⟩
