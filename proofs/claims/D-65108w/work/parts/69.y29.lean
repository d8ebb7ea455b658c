/-! THE COMPONENT AND THE JDK as functions of the heap, and their contracts: printed by wip gen/dec2.py -/
set_option maxRecDepth 100000
theorem dfJ12 : ∀ j, j < 4 → defaultValue (tyJ12 j) = vp_V [.null, .int 0, .int 0, .int 0] j := by decide +kernel
abbrev YX2_word : YC := (yX2_word, cX2_word, 5, (some .int), [])
theorem kX2_word : aMk YX2_word 1 := ⟨rfl, q1767, q117, ⟨by decide +kernel, by decide +kernel, by decide +kernel⟩, Nat.le_of_ble_eq_true rfl⟩
def x_X2_word_17 (g : AG) (N : Nat) (K47 : AH → Nat → Option Nat → Int32 → Option Nat → Option ((String ⊕ Int32) × AH)) : Nat → AH → Nat → Option Nat → Int32 → Option Nat → Option ((String ⊕ Int32) × AH)
  | 0, _, _, _, _, _ => none
  | n9 + 1, h, x0, r1, x2, r3 =>
  bif clB h x0 [1] then ((x_X2_isBehindWord g N h x0).bind fun q11 => if q11.1 = 0 then (bif clB q11.2 x0 [1] then ((x_X2_peek g N q11.2 x0).bind fun q15 => (r3).bind fun a17 => bif clB q15.2 a17 [16] then ((x_J12_append g N q15.2 a17 ((q15.1.toUInt32 % 65536).toInt32)).bind fun q20 => (rdI q20.2 x0 [(1, 2)]).bind fun i22 => (wrV g q20.2 x0 [(1, 2)] (.int (i22 + (1 : Int32)))).bind fun h24 => x_X2_word_17 g N K47 n9 h24 x0 r1 x2 (some a17)) else none) else none) else (K47 q11.2 x0 r1 x2 r3)) else none
theorem p_x_X2_word_17 (g : AG) (hst : (gL g).stackTraces = false) (N : Nat) (K47 : AH → Nat → Option Nat → Int32 → Option Nat → Option ((String ⊕ Int32) × AH)) (hK47 : ∀ (h : AH) (x0 : Nat) (r1 : Option Nat) (x2 : Int32) (r3 : Option Nat) (q : ((String ⊕ Int32) × AH)), K47 h x0 r1 x2 r3 = some q → AW g YX2_word 11 (tI q) h [some (.ref x0), some (va_rf r1), some (.int x2), some (va_rf r3), none] 47 []) : ∀ (n9 : Nat) (h : AH) (x0 : Nat) (r1 : Option Nat) (x2 : Int32) (r3 : Option Nat) (q : ((String ⊕ Int32) × AH)), x_X2_word_17 g N K47 n9 h x0 r1 x2 r3 = some q → AW g YX2_word 11 (tI q) h [some (.ref x0), some (va_rf r1), some (.int x2), some (va_rf r3), none] 17 [] := by
  intro n9
  induction n9 with
  | zero =>
    intro h x0 r1 x2 r3 q hq
    cases hq
  | succ n9 ih =>
    intro h x0 r1 x2 r3 q hq
    rw [x_X2_word_17] at hq
    refine aw_aload_n (i := 0) dX2_word_17 rfl rfl trivial ?_
    replace hq := cond_t hq
    obtain ⟨z10, hq⟩ := hq
    obtain ⟨fs9, ha9⟩ := clB1 z10
    replace hq := obind hq
    obtain ⟨q11, e12, hq⟩ := hq
    refine aw_callV (Y2 := YX2_isBehindWord) (As := []) (rest := []) (r := (RX2, TX2, 9)) kX2_isBehindWord ha9 rfl rfl q1772 q1774 qs32 dX2_word_18 rfl rfl (ct_X2_isBehindWord g hst N h x0 _ e12) (Nat.le_of_ble_eq_true rfl) (Nat.le_of_ble_eq_true rfl) (fun v9 h9 z9 y9 => ?_)
    obtain ⟨rfl, rfl⟩ := y9
    refine aw_st (st' := [.int q11.1]) rfl ?_
    refine aw_if_ne (tgt := 47) dX2_word_21 (by decide) (fun c13 => ?_) (fun c13 => ?_)
    · rw [if_neg c13] at hq
      exact hK47 q11.2 x0 r1 x2 r3 _ hq
    · rw [if_pos c13] at hq
      refine aw_aload_n (i := 3) dX2_word_24 rfl rfl (aIsR_rf _) ?_
      refine aw_aload_n (i := 0) dX2_word_25 rfl rfl trivial ?_
      replace hq := cond_t hq
      obtain ⟨z14, hq⟩ := hq
      obtain ⟨fs9, ha9⟩ := clB1 z14
      replace hq := obind hq
      obtain ⟨q15, e16, hq⟩ := hq
      refine aw_callV (Y2 := YX2_peek) (As := []) (rest := [va_rf r3]) (r := (RX2, TX2, 9)) kX2_peek ha9 rfl rfl q400 q401 q402 dX2_word_26 rfl rfl (ct_X2_peek g hst N q11.2 x0 _ e16) (Nat.le_of_ble_eq_true rfl) (by simp only [List.map_cons, List.map_nil, List.sum_cons, List.sum_nil, cat_rf]; exact Nat.le_of_ble_eq_true rfl) (fun v9 h9 z9 y9 => ?_)
      obtain ⟨rfl, rfl⟩ := y9
      refine aw_st (st' := [.int q15.1, va_rf r3]) rfl ?_
      refine aw_i2c dX2_word_29 ?_
      replace hq := obind hq
      obtain ⟨a17, e18, hq⟩ := hq
      subst e18
      replace hq := cond_t hq
      obtain ⟨z19, hq⟩ := hq
      obtain ⟨fs9, ha9⟩ := clB1 z19
      replace hq := obind hq
      obtain ⟨q20, e21, hq⟩ := hq
      refine aw_callV (Y2 := YJ12_append) (As := [.int ((q15.1.toUInt32 % 65536).toInt32)]) (rest := []) (r := (RJ12, TJ12, 4)) kJ12_append ha9 rfl rfl q520 q521 q522 dX2_word_30 rfl rfl (ct_J12_append g hst N q15.2 a17 ((q15.1.toUInt32 % 65536).toInt32) _ e21) (Nat.le_of_ble_eq_true rfl) (Nat.le_of_ble_eq_true rfl) (fun v9 h9 z9 y9 => ?_)
      obtain ⟨rfl, rfl⟩ := y9
      refine aw_st (st' := [va_rf q20.1]) rfl ?_
      refine aw_pop dX2_word_33 (cat_rf _) ?_
      refine aw_aload_n (i := 0) dX2_word_34 rfl rfl trivial ?_
      refine aw_dup dX2_word_35 rfl ?_
      replace hq := obind hq
      obtain ⟨i22, e23, hq⟩ := hq
      refine xw_getI e23 fX2_38 dX2_word_36 ?_
      refine aw_iconst (v := 1) dX2_word_39 (by decide) ?_
      refine aw_iadd dX2_word_40 ?_
      replace hq := obind hq
      obtain ⟨h24, e25, hq⟩ := hq
      refine xw_put e25 fX2_38 tX2_2 ⟨rfl, rfl⟩ dX2_word_41 ?_
      refine aw_goto (tgt := 17) dX2_word_44 (by decide) ?_
      exact ih h24 x0 r1 x2 (some a17) _ hq
def x_X2_word_50 (g : AG) (N : Nat) (K80 : AH → Nat → Option Nat → Int32 → Option Nat → Int32 → Option ((String ⊕ Int32) × AH)) : Nat → AH → Nat → Option Nat → Int32 → Option Nat → Int32 → Option ((String ⊕ Int32) × AH)
  | 0, _, _, _, _, _, _ => none
  | n9 + 1, h, x0, r1, x2, r3, x4 =>
  (r1).bind fun a26 => (rdN h a26).bind fun i28 => if i28 ≤ x4 then (K80 h x0 (some a26) x2 r3 x4) else ((rdQ h a26 x4).bind fun o31 => (r3).bind fun a33 => bif clB h a33 [16] then ((x_J12_toString g N h a33).bind fun q36 => (o31).bind fun a38 => bif clB q36.2 a38 [17] then ((x_J13_equals g N q36.2 a38 q36.1).bind fun q41 => if q41.1 = 0 then (x_X2_word_50 g N K80 n9 q41.2 x0 (some a26) x2 (some a33) (x4 + 1)) else (some (.inr x4, q41.2))) else none) else none)
theorem p_x_X2_word_50 (g : AG) (hst : (gL g).stackTraces = false) (N : Nat) (K80 : AH → Nat → Option Nat → Int32 → Option Nat → Int32 → Option ((String ⊕ Int32) × AH)) (hK80 : ∀ (h : AH) (x0 : Nat) (r1 : Option Nat) (x2 : Int32) (r3 : Option Nat) (x4 : Int32) (q : ((String ⊕ Int32) × AH)), K80 h x0 r1 x2 r3 x4 = some q → AW g YX2_word 11 (tI q) h [some (.ref x0), some (va_rf r1), some (.int x2), some (va_rf r3), some (.int x4)] 80 []) : ∀ (n9 : Nat) (h : AH) (x0 : Nat) (r1 : Option Nat) (x2 : Int32) (r3 : Option Nat) (x4 : Int32) (q : ((String ⊕ Int32) × AH)), x_X2_word_50 g N K80 n9 h x0 r1 x2 r3 x4 = some q → AW g YX2_word 11 (tI q) h [some (.ref x0), some (va_rf r1), some (.int x2), some (va_rf r3), some (.int x4)] 50 [] := by
  intro n9
  induction n9 with
  | zero =>
    intro h x0 r1 x2 r3 x4 q hq
    cases hq
  | succ n9 ih =>
    intro h x0 r1 x2 r3 x4 q hq
    rw [x_X2_word_50] at hq
    refine aw_iload dX2_word_50 rfl ?_
    refine aw_aload_n (i := 1) dX2_word_52 rfl rfl (aIsR_rf _) ?_
    replace hq := obind hq
    obtain ⟨a26, e27, hq⟩ := hq
    subst e27
    replace hq := obind hq
    obtain ⟨i28, e29, hq⟩ := hq
    refine xw_alen e29 dX2_word_53 ?_
    refine aw_icmp_ge (tgt := 80) dX2_word_54 (by decide) (fun c30 => ?_) (fun c30 => ?_)
    · rw [if_pos c30] at hq
      exact hK80 h x0 (some a26) x2 r3 x4 _ hq
    · rw [if_neg c30] at hq
      refine aw_aload_n (i := 1) dX2_word_57 rfl rfl trivial ?_
      refine aw_iload dX2_word_58 rfl ?_
      replace hq := obind hq
      obtain ⟨o31, e32, hq⟩ := hq
      refine xw_aald e32 dX2_word_60 ?_
      refine aw_aload_n (i := 3) dX2_word_61 rfl rfl (aIsR_rf _) ?_
      replace hq := obind hq
      obtain ⟨a33, e34, hq⟩ := hq
      subst e34
      replace hq := cond_t hq
      obtain ⟨z35, hq⟩ := hq
      obtain ⟨fs9, ha9⟩ := clB1 z35
      replace hq := obind hq
      obtain ⟨q36, e37, hq⟩ := hq
      refine aw_callV (Y2 := YJ12_toString) (As := []) (rest := [va_rf o31]) (r := (RJ12, TJ12, 4)) kJ12_toString ha9 rfl rfl q615 q616 q617 dX2_word_62 rfl rfl (ct_J12_toString g hst N h a33 _ e37) (Nat.le_of_ble_eq_true rfl) (by simp only [List.map_cons, List.map_nil, List.sum_cons, List.sum_nil, cat_rf]; exact Nat.le_of_ble_eq_true rfl) (fun v9 h9 z9 y9 => ?_)
      obtain ⟨rfl, rfl⟩ := y9
      refine aw_st (st' := [va_rf q36.1, va_rf o31]) rfl ?_
      replace hq := obind hq
      obtain ⟨a38, e39, hq⟩ := hq
      subst e39
      replace hq := cond_t hq
      obtain ⟨z40, hq⟩ := hq
      obtain ⟨fs9, ha9⟩ := clB1 z40
      replace hq := obind hq
      obtain ⟨q41, e42, hq⟩ := hq
      refine aw_callV (Y2 := YJ13_equals) (As := [va_rf q36.1]) (rest := []) (r := (RJ13, TJ13, 4)) kJ13_equals ha9 rfl rfl q1776 q1251 q2782 dX2_word_65 rfl rfl (ct_J13_equals g hst N q36.2 a38 q36.1 _ e42) (Nat.le_of_ble_eq_true rfl) (Nat.le_of_ble_eq_true rfl) (fun v9 h9 z9 y9 => ?_)
      obtain ⟨rfl, rfl⟩ := y9
      refine aw_st (st' := [.int q41.1]) rfl ?_
      refine aw_if_eq (tgt := 74) dX2_word_68 (by decide) (fun c43 => ?_) (fun c43 => ?_)
      · rw [if_pos c43] at hq
        refine aw_iinc (v := x4 + 1) (loc' := [some (.ref x0), some (.ref a26), some (.int x2), some (.ref a33), some (.int (x4 + 1))]) dX2_word_74 rfl rfl (Nat.le_of_ble_eq_true rfl) rfl ?_
        refine aw_goto (tgt := 50) dX2_word_77 (by decide) ?_
        exact ih q41.2 x0 (some a26) x2 (some a33) (x4 + 1) _ hq
      · rw [if_neg c43] at hq
        refine aw_iload dX2_word_71 rfl ?_
        cases hq
        exact aw_ireturn dX2_word_73 rfl rfl ⟨rfl, rfl⟩
def x_X2_word (g : AG) (N : Nat) (h : AH) (x0 : Nat) (r1 : Option Nat) : Option ((String ⊕ Int32) × AH) :=
  bif clB h x0 [1] then ((x_X2_blanks g N h x0).bind fun q2 => (rdI q2 x0 [(1, 2)]).bind fun i4 => (mkO g q2 4 16 [.null, .int 0, .int 0, .int 0]).bind fun h6 => (x_J12_init g N h6 q2.2.1).bind fun q8 => x_X2_word_17 g N (fun h x0 r1 x2 r3 => x_X2_word_50 g N (fun h x0 r1 x2 r3 x4 => bif clB h x0 [1] then ((x_X2_want g N h x0 (0 : Int32) (1 : Int32) x2).bind fun q45 => tcase q45.1 (fun E47 => some (.inl E47, q45.2)) (fun v48 => some (.inr (-1 : Int32), q45.2))) else none) N h x0 r1 x2 r3 (0 : Int32)) N q8 x0 r1 i4 (some q2.2.1)) else none
theorem ct_X2_word (g : AG) (hst : (gL g).stackTraces = false) (N : Nat) : ∀ (h : AH) (x0 : Nat) (r1 : Option Nat) (q : ((String ⊕ Int32) × AH)), x_X2_word g N h x0 r1 = some q → CT g YX2_word 11 [.ref x0, va_rf r1] h (tI q) := by
  intro h x0 r1 q hq
  refine CT.of rfl (by decide +kernel) (loc := [some (.ref x0), some (va_rf r1), none, none, none]) (by first | exact Nat.le_of_ble_eq_true rfl | (simp only [lgl_rf, lgl_i, lgl_j, lgl_ref, lgl_nil]; exact Nat.le_of_ble_eq_true rfl)) (by first | rfl | (simp only [aent_rf, aent_i, aent_j, aent_ref, aent_nil]; rfl)) ?_
  unfold x_X2_word at hq
  refine aw_aload_n (i := 0) dX2_word_0 rfl rfl trivial ?_
  replace hq := cond_t hq
  obtain ⟨z1, hq⟩ := hq
  obtain ⟨fs9, ha9⟩ := clB1 z1
  replace hq := obind hq
  obtain ⟨q2, e3, hq⟩ := hq
  refine aw_callV (Y2 := YX2_blanks) (As := []) (rest := []) (r := (RX2, TX2, 9)) kX2_blanks ha9 rfl rfl q1768 q1769 q1770 dX2_word_1 rfl rfl (ct_X2_blanks g hst N h x0 _ e3) (Nat.le_of_ble_eq_true rfl) (Nat.le_of_ble_eq_true rfl) (fun v9 h9 z9 y9 => ?_)
  obtain ⟨rfl, y9⟩ := y9
  rw [y9]
  refine aw_st (st' := []) rfl ?_
  refine aw_aload_n (i := 0) dX2_word_4 rfl rfl trivial ?_
  replace hq := obind hq
  obtain ⟨i4, e5, hq⟩ := hq
  refine xw_getI e5 fX2_38 dX2_word_5 ?_
  refine aw_istore_n (i := 2) (loc' := [some (.ref x0), some (va_rf r1), some (.int i4), none, none]) dX2_word_8 rfl (Nat.le_of_ble_eq_true rfl) (aset1_rf rfl) ?_
  replace hq := obind hq
  obtain ⟨h6, e7, hq⟩ := hq
  refine xw_new (r := (RJ12, TJ12, 4)) e7 q482 q483 q133 (by decide) rfl okJ12 rfl dfJ12 dX2_word_9 ?_
  refine aw_dup dX2_word_12 rfl ?_
  replace hq := obind hq
  obtain ⟨q8, e9, hq⟩ := hq
  refine aw_callI (Y2 := YJ12_init) (As := []) (rest := [.ref q2.2.1]) (b := q2.2.1) kJ12_init rfl rfl q484 q485 dX2_word_13 rfl rfl (ct_J12_init g hst N h6 q2.2.1 _ e9) (Nat.le_of_ble_eq_true rfl) (Nat.le_of_ble_eq_true rfl) (fun v9 h9 z9 y9 => ?_)
  obtain ⟨rfl, y9⟩ := y9
  rw [y9]
  refine aw_st (st' := [.ref q2.2.1]) rfl ?_
  refine aw_astore_n (i := 3) (loc' := [some (.ref x0), some (va_rf r1), some (.int i4), some (.ref q2.2.1), none]) dX2_word_16 rfl (Nat.le_of_ble_eq_true rfl) trivial rfl ?_
  refine p_x_X2_word_17 g hst N _ ?_ N q8 x0 r1 i4 (some q2.2.1) _ hq
  · intro h x0 r1 x2 r3 q hq
    refine aw_iconst (v := 0) dX2_word_47 (by decide) ?_
    refine aw_istore (loc' := [some (.ref x0), some (va_rf r1), some (.int x2), some (va_rf r3), some (.int (0 : Int32))]) dX2_word_48 (Nat.le_of_ble_eq_true rfl) (aset1_rf rfl) ?_
    refine p_x_X2_word_50 g hst N _ ?_ N h x0 r1 x2 r3 (0 : Int32) _ hq
    · intro h x0 r1 x2 r3 x4 q hq
      refine aw_aload_n (i := 0) dX2_word_80 rfl rfl trivial ?_
      refine aw_iconst (v := 0) dX2_word_81 (by decide) ?_
      refine aw_iconst (v := 1) dX2_word_82 (by decide) ?_
      refine aw_iload_n (i := 2) dX2_word_83 rfl rfl ?_
      replace hq := cond_t hq
      obtain ⟨z44, hq⟩ := hq
      obtain ⟨fs9, ha9⟩ := clB1 z44
      replace hq := obind hq
      obtain ⟨q45, e46, hq⟩ := hq
      refine aw_callVX (Y2 := YX2_want) (As := [.int (0 : Int32), .int (1 : Int32), .int x2]) (rest := []) (r := (RX2, TX2, 9)) kX2_want ha9 rfl rfl q407 q408 q409 dX2_word_84 rfl rfl (ct_X2_want g hst N h x0 (0 : Int32) (1 : Int32) x2 _ e46) (Nat.le_of_ble_eq_true rfl) (Nat.le_of_ble_eq_true rfl) (fun v9 h9 z9 y9 => ?_) (fun E47 h9 z9 y9 => ?_)
      rotate_left
      · obtain ⟨e9, rfl⟩ := tV_exc y9
        replace hq := tcase_l e9 hq
        cases hq
        exact ax_out (by decide) ⟨rfl, rfl⟩
      obtain ⟨v48, e9, rfl, rfl⟩ := tV_ret y9
      replace hq := tcase_r e9 hq
      refine aw_st (st' := []) rfl ?_
      refine aw_iconst (v := (-1)) dX2_word_87 (by decide) ?_
      cases hq
      exact aw_ireturn dX2_word_88 rfl rfl ⟨rfl, rfl⟩
abbrev YX2_isFigure : YC := (yX2_isFigure, cX2_isFigure, 1, (some .boolean), [])
theorem kX2_isFigure : aMk YX2_isFigure 0 := ⟨rfl, q853, q117, ⟨by decide +kernel, by decide +kernel, by decide +kernel⟩, Nat.le_of_ble_eq_true rfl⟩
def x_X2_isFigure (g : AG) (N : Nat) (h : AH) (x0 : Nat) : Option (Int32 × AH) :=
  bif clB h x0 [1] then ((x_X2_peek g N h x0).bind fun q2 => if q2.1 < (48 : Int32) then (some ((0 : Int32), q2.2)) else (bif clB q2.2 x0 [1] then ((x_X2_peek g N q2.2 x0).bind fun q6 => if (57 : Int32) < q6.1 then (some ((0 : Int32), q6.2)) else (some ((1 : Int32), q6.2))) else none)) else none
theorem ct_X2_isFigure (g : AG) (hst : (gL g).stackTraces = false) (N : Nat) : ∀ (h : AH) (x0 : Nat) (q : (Int32 × AH)), x_X2_isFigure g N h x0 = some q → CT g YX2_isFigure 2 [.ref x0] h (xI q) := by
  intro h x0 q hq
  refine CT.of rfl (by decide +kernel) (loc := [some (.ref x0)]) (by first | exact Nat.le_of_ble_eq_true rfl | (simp only [lgl_rf, lgl_i, lgl_j, lgl_ref, lgl_nil]; exact Nat.le_of_ble_eq_true rfl)) (by first | rfl | (simp only [aent_rf, aent_i, aent_j, aent_ref, aent_nil]; rfl)) ?_
  unfold x_X2_isFigure at hq
  refine aw_aload_n (i := 0) dX2_isFigure_0 rfl rfl trivial ?_
  replace hq := cond_t hq
  obtain ⟨z1, hq⟩ := hq
  obtain ⟨fs9, ha9⟩ := clB1 z1
  replace hq := obind hq
  obtain ⟨q2, e3, hq⟩ := hq
  refine aw_callV (Y2 := YX2_peek) (As := []) (rest := []) (r := (RX2, TX2, 9)) kX2_peek ha9 rfl rfl q400 q401 q402 dX2_isFigure_1 rfl rfl (ct_X2_peek g hst N h x0 _ e3) (Nat.le_of_ble_eq_true rfl) (Nat.le_of_ble_eq_true rfl) (fun v9 h9 z9 y9 => ?_)
  obtain ⟨rfl, rfl⟩ := y9
  refine aw_st (st' := [.int q2.1]) rfl ?_
  refine aw_bipush (v := 48) dX2_isFigure_4 (by decide) ?_
  refine aw_icmp_lt (tgt := 22) dX2_isFigure_6 (by decide) (fun c4 => ?_) (fun c4 => ?_)
  · rw [if_pos c4] at hq
    refine aw_iconst (v := 0) dX2_isFigure_22 (by decide) ?_
    cases hq
    exact aw_ireturn dX2_isFigure_23 rfl rfl ⟨rfl, rfl⟩
  · rw [if_neg c4] at hq
    refine aw_aload_n (i := 0) dX2_isFigure_9 rfl rfl trivial ?_
    replace hq := cond_t hq
    obtain ⟨z5, hq⟩ := hq
    obtain ⟨fs9, ha9⟩ := clB1 z5
    replace hq := obind hq
    obtain ⟨q6, e7, hq⟩ := hq
    refine aw_callV (Y2 := YX2_peek) (As := []) (rest := []) (r := (RX2, TX2, 9)) kX2_peek ha9 rfl rfl q400 q401 q402 dX2_isFigure_10 rfl rfl (ct_X2_peek g hst N q2.2 x0 _ e7) (Nat.le_of_ble_eq_true rfl) (Nat.le_of_ble_eq_true rfl) (fun v9 h9 z9 y9 => ?_)
    obtain ⟨rfl, rfl⟩ := y9
    refine aw_st (st' := [.int q6.1]) rfl ?_
    refine aw_bipush (v := 57) dX2_isFigure_13 (by decide) ?_
    refine aw_icmp_gt (tgt := 22) dX2_isFigure_15 (by decide) (fun c8 => ?_) (fun c8 => ?_)
    · rw [if_pos c8] at hq
      refine aw_iconst (v := 0) dX2_isFigure_22 (by decide) ?_
      cases hq
      exact aw_ireturn dX2_isFigure_23 rfl rfl ⟨rfl, rfl⟩
    · rw [if_neg c8] at hq
      refine aw_iconst (v := 1) dX2_isFigure_18 (by decide) ?_
      refine aw_goto (tgt := 23) dX2_isFigure_19 (by decide) ?_
      cases hq
      exact aw_ireturn dX2_isFigure_23 rfl rfl ⟨rfl, rfl⟩
abbrev YX2_number : YC := (yX2_number, cX2_number, 5, (some .int), [])
theorem kX2_number : aMk YX2_number 1 := ⟨rfl, q866, q117, ⟨by decide +kernel, by decide +kernel, by decide +kernel⟩, Nat.le_of_ble_eq_true rfl⟩
def x_X2_number_20 (g : AG) (N : Nat) (K62 : AH → Nat → Int32 → Int32 → Int64 → Option ((String ⊕ Int32) × AH)) : Nat → AH → Nat → Int32 → Int32 → Int64 → Option ((String ⊕ Int32) × AH)
  | 0, _, _, _, _, _ => none
  | n9 + 1, h, x0, x1, x2, x3 =>
  bif clB h x0 [1] then ((x_X2_isFigure g N h x0).bind fun q14 => if q14.1 = 0 then (K62 q14.2 x0 x1 x2 x3) else (bif clB q14.2 x0 [1] then ((x_X2_peek g N q14.2 x0).bind fun q18 => (rdI q18.2 x0 [(1, 2)]).bind fun i20 => (wrV g q18.2 x0 [(1, 2)] (.int (i20 + (1 : Int32)))).bind fun h22 => x_X2_number_20 g N K62 n9 h22 x0 x1 x2 (if ((((10 : Int64) * x3) + q18.1.toInt64) - (48 : Int64)) < (2147483648 : Int64) then ((((10 : Int64) * x3) + q18.1.toInt64) - (48 : Int64)) else (2147483648 : Int64))) else none)) else none
theorem p_x_X2_number_20 (g : AG) (hst : (gL g).stackTraces = false) (N : Nat) (K62 : AH → Nat → Int32 → Int32 → Int64 → Option ((String ⊕ Int32) × AH)) (hK62 : ∀ (h : AH) (x0 : Nat) (x1 : Int32) (x2 : Int32) (x3 : Int64) (q : ((String ⊕ Int32) × AH)), K62 h x0 x1 x2 x3 = some q → AW g YX2_number 11 (tI q) h [some (.ref x0), some (.int x1), some (.int x2), some (.long x3), none] 62 []) : ∀ (n9 : Nat) (h : AH) (x0 : Nat) (x1 : Int32) (x2 : Int32) (x3 : Int64) (q : ((String ⊕ Int32) × AH)), x_X2_number_20 g N K62 n9 h x0 x1 x2 x3 = some q → AW g YX2_number 11 (tI q) h [some (.ref x0), some (.int x1), some (.int x2), some (.long x3), none] 20 [] := by
  intro n9
  induction n9 with
  | zero =>
    intro h x0 x1 x2 x3 q hq
    cases hq
  | succ n9 ih =>
    intro h x0 x1 x2 x3 q hq
    rw [x_X2_number_20] at hq
    refine aw_aload_n (i := 0) dX2_number_20 rfl rfl trivial ?_
    replace hq := cond_t hq
    obtain ⟨z13, hq⟩ := hq
    obtain ⟨fs9, ha9⟩ := clB1 z13
    replace hq := obind hq
    obtain ⟨q14, e15, hq⟩ := hq
    refine aw_callV (Y2 := YX2_isFigure) (As := []) (rest := []) (r := (RX2, TX2, 9)) kX2_isFigure ha9 rfl rfl q850 q852 qs15 dX2_number_21 rfl rfl (ct_X2_isFigure g hst N h x0 _ e15) (Nat.le_of_ble_eq_true rfl) (Nat.le_of_ble_eq_true rfl) (fun v9 h9 z9 y9 => ?_)
    obtain ⟨rfl, rfl⟩ := y9
    refine aw_st (st' := [.int q14.1]) rfl ?_
    refine aw_if_eq (tgt := 62) dX2_number_24 (by decide) (fun c16 => ?_) (fun c16 => ?_)
    · rw [if_pos c16] at hq
      exact hK62 q14.2 x0 x1 x2 x3 _ hq
    · rw [if_neg c16] at hq
      refine aw_ldc2 (v := (2147483648)) dX2_number_27 q867 ?_
      refine aw_ldc2 (v := (10)) dX2_number_30 q868 ?_
      refine aw_lload_n (i := 3) dX2_number_33 rfl rfl ?_
      refine aw_lmul dX2_number_34 ?_
      refine aw_aload_n (i := 0) dX2_number_35 rfl rfl trivial ?_
      replace hq := cond_t hq
      obtain ⟨z17, hq⟩ := hq
      obtain ⟨fs9, ha9⟩ := clB1 z17
      replace hq := obind hq
      obtain ⟨q18, e19, hq⟩ := hq
      refine aw_callV (Y2 := YX2_peek) (As := []) (rest := [.long ((10 : Int64) * x3), .long (2147483648 : Int64)]) (r := (RX2, TX2, 9)) kX2_peek ha9 rfl rfl q400 q401 q402 dX2_number_36 rfl rfl (ct_X2_peek g hst N q14.2 x0 _ e19) (Nat.le_of_ble_eq_true rfl) (Nat.le_of_ble_eq_true rfl) (fun v9 h9 z9 y9 => ?_)
      obtain ⟨rfl, rfl⟩ := y9
      refine aw_st (st' := [.int q18.1, .long ((10 : Int64) * x3), .long (2147483648 : Int64)]) rfl ?_
      refine aw_i2l dX2_number_39 ?_
      refine aw_ladd dX2_number_40 ?_
      refine aw_ldc2 (v := (48)) dX2_number_41 q869 ?_
      refine aw_lsub dX2_number_44 ?_
      refine aw_mmin_long q870 (by omega) (Nat.le_of_ble_eq_true rfl) dX2_number_45 ?_
      refine aw_lstore_n (i := 3) (loc' := [some (.ref x0), some (.int x1), some (.int x2), some (.long (if ((((10 : Int64) * x3) + q18.1.toInt64) - (48 : Int64)) < (2147483648 : Int64) then ((((10 : Int64) * x3) + q18.1.toInt64) - (48 : Int64)) else (2147483648 : Int64))), none]) dX2_number_48 rfl (Nat.le_of_ble_eq_true rfl) rfl ?_
      refine aw_aload_n (i := 0) dX2_number_49 rfl rfl trivial ?_
      refine aw_dup dX2_number_50 rfl ?_
      replace hq := obind hq
      obtain ⟨i20, e21, hq⟩ := hq
      refine xw_getI e21 fX2_38 dX2_number_51 ?_
      refine aw_iconst (v := 1) dX2_number_54 (by decide) ?_
      refine aw_iadd dX2_number_55 ?_
      replace hq := obind hq
      obtain ⟨h22, e23, hq⟩ := hq
      refine xw_put e23 fX2_38 tX2_2 ⟨rfl, rfl⟩ dX2_number_56 ?_
      refine aw_goto (tgt := 20) dX2_number_59 (by decide) ?_
      exact ih h22 x0 x1 x2 (if ((((10 : Int64) * x3) + q18.1.toInt64) - (48 : Int64)) < (2147483648 : Int64) then ((((10 : Int64) * x3) + q18.1.toInt64) - (48 : Int64)) else (2147483648 : Int64)) _ hq
def x_X2_number_75 (g : AG) (N : Nat) (h : AH) (x0 : Nat) (x1 : Int32) (x2 : Int32) (x3 : Int64) (s1 : Int32) : Option ((String ⊕ Int32) × AH) :=
  bif clB h x0 [1] then ((x_X2_want g N h x0 s1 (2 : Int32) x2).bind fun q26 => tcase q26.1 (fun E28 => some (.inl E28, q26.2)) (fun v29 => some (.inr x3.toInt32, q26.2))) else none
theorem p_x_X2_number_75 (g : AG) (hst : (gL g).stackTraces = false) (N : Nat) : ∀ (h : AH) (x0 : Nat) (x1 : Int32) (x2 : Int32) (x3 : Int64) (s1 : Int32) (q : ((String ⊕ Int32) × AH)), x_X2_number_75 g N h x0 x1 x2 x3 s1 = some q → AW g YX2_number 11 (tI q) h [some (.ref x0), some (.int x1), some (.int x2), some (.long x3), none] 75 [.int s1, .ref x0] := by
  intro h x0 x1 x2 x3 s1 q hq
  unfold x_X2_number_75 at hq
  refine aw_iconst (v := 2) dX2_number_75 (by decide) ?_
  refine aw_iload_n (i := 2) dX2_number_76 rfl rfl ?_
  replace hq := cond_t hq
  obtain ⟨z25, hq⟩ := hq
  obtain ⟨fs9, ha9⟩ := clB1 z25
  replace hq := obind hq
  obtain ⟨q26, e27, hq⟩ := hq
  refine aw_callVX (Y2 := YX2_want) (As := [.int s1, .int (2 : Int32), .int x2]) (rest := []) (r := (RX2, TX2, 9)) kX2_want ha9 rfl rfl q407 q408 q409 dX2_number_77 rfl rfl (ct_X2_want g hst N h x0 s1 (2 : Int32) x2 _ e27) (Nat.le_of_ble_eq_true rfl) (Nat.le_of_ble_eq_true rfl) (fun v9 h9 z9 y9 => ?_) (fun E28 h9 z9 y9 => ?_)
  rotate_left
  · obtain ⟨e9, rfl⟩ := tV_exc y9
    replace hq := tcase_l e9 hq
    cases hq
    exact ax_out (by decide) ⟨rfl, rfl⟩
  obtain ⟨v29, e9, rfl, rfl⟩ := tV_ret y9
  replace hq := tcase_r e9 hq
  refine aw_st (st' := []) rfl ?_
  refine aw_lload_n (i := 3) dX2_number_80 rfl rfl ?_
  refine aw_l2i dX2_number_81 ?_
  cases hq
  exact aw_ireturn dX2_number_82 rfl rfl ⟨rfl, rfl⟩
def x_X2_number (g : AG) (N : Nat) (h : AH) (x0 : Nat) (x1 : Int32) : Option ((String ⊕ Int32) × AH) :=
  (rdI h x0 [(1, 2)]).bind fun i1 => bif clB h x0 [1] then ((x_X2_isFigure g N h x0).bind fun q4 => (rdI q4.2 x0 [(1, 2)]).bind fun i6 => bif clB q4.2 x0 [1] then ((x_X2_want g N q4.2 x0 q4.1 (1 : Int32) i6).bind fun q9 => tcase q9.1 (fun E11 => some (.inl E11, q9.2)) (fun v12 => x_X2_number_20 g N (fun h x0 x1 x2 x3 => if 0 < (lg_cmp x3 x1.toInt64) then (x_X2_number_75 g N  h x0 x1 x2 x3 (0 : Int32)) else (x_X2_number_75 g N  h x0 x1 x2 x3 (1 : Int32))) N q9.2 x0 x1 i1 (0 : Int64))) else none) else none
theorem ct_X2_number (g : AG) (hst : (gL g).stackTraces = false) (N : Nat) : ∀ (h : AH) (x0 : Nat) (x1 : Int32) (q : ((String ⊕ Int32) × AH)), x_X2_number g N h x0 x1 = some q → CT g YX2_number 11 [.ref x0, .int x1] h (tI q) := by
  intro h x0 x1 q hq
  refine CT.of rfl (by decide +kernel) (loc := [some (.ref x0), some (.int x1), none, none, none]) (by first | exact Nat.le_of_ble_eq_true rfl | (simp only [lgl_rf, lgl_i, lgl_j, lgl_ref, lgl_nil]; exact Nat.le_of_ble_eq_true rfl)) (by first | rfl | (simp only [aent_rf, aent_i, aent_j, aent_ref, aent_nil]; rfl)) ?_
  unfold x_X2_number at hq
  refine aw_aload_n (i := 0) dX2_number_0 rfl rfl trivial ?_
  replace hq := obind hq
  obtain ⟨i1, e2, hq⟩ := hq
  refine xw_getI e2 fX2_38 dX2_number_1 ?_
  refine aw_istore_n (i := 2) (loc' := [some (.ref x0), some (.int x1), some (.int i1), none, none]) dX2_number_4 rfl (Nat.le_of_ble_eq_true rfl) rfl ?_
  refine aw_lconst (v := 0) dX2_number_5 (by decide) ?_
  refine aw_lstore_n (i := 3) (loc' := [some (.ref x0), some (.int x1), some (.int i1), some (.long (0 : Int64)), none]) dX2_number_6 rfl (Nat.le_of_ble_eq_true rfl) rfl ?_
  refine aw_aload_n (i := 0) dX2_number_7 rfl rfl trivial ?_
  refine aw_aload_n (i := 0) dX2_number_8 rfl rfl trivial ?_
  replace hq := cond_t hq
  obtain ⟨z3, hq⟩ := hq
  obtain ⟨fs9, ha9⟩ := clB1 z3
  replace hq := obind hq
  obtain ⟨q4, e5, hq⟩ := hq
  refine aw_callV (Y2 := YX2_isFigure) (As := []) (rest := [.ref x0]) (r := (RX2, TX2, 9)) kX2_isFigure ha9 rfl rfl q850 q852 qs15 dX2_number_9 rfl rfl (ct_X2_isFigure g hst N h x0 _ e5) (Nat.le_of_ble_eq_true rfl) (Nat.le_of_ble_eq_true rfl) (fun v9 h9 z9 y9 => ?_)
  obtain ⟨rfl, rfl⟩ := y9
  refine aw_st (st' := [.int q4.1, .ref x0]) rfl ?_
  refine aw_iconst (v := 1) dX2_number_12 (by decide) ?_
  refine aw_aload_n (i := 0) dX2_number_13 rfl rfl trivial ?_
  replace hq := obind hq
  obtain ⟨i6, e7, hq⟩ := hq
  refine xw_getI e7 fX2_38 dX2_number_14 ?_
  replace hq := cond_t hq
  obtain ⟨z8, hq⟩ := hq
  obtain ⟨fs9, ha9⟩ := clB1 z8
  replace hq := obind hq
  obtain ⟨q9, e10, hq⟩ := hq
  refine aw_callVX (Y2 := YX2_want) (As := [.int q4.1, .int (1 : Int32), .int i6]) (rest := []) (r := (RX2, TX2, 9)) kX2_want ha9 rfl rfl q407 q408 q409 dX2_number_17 rfl rfl (ct_X2_want g hst N q4.2 x0 q4.1 (1 : Int32) i6 _ e10) (Nat.le_of_ble_eq_true rfl) (Nat.le_of_ble_eq_true rfl) (fun v9 h9 z9 y9 => ?_) (fun E11 h9 z9 y9 => ?_)
  rotate_left
  · obtain ⟨e9, rfl⟩ := tV_exc y9
    replace hq := tcase_l e9 hq
    cases hq
    exact ax_out (by decide) ⟨rfl, rfl⟩
  obtain ⟨v12, e9, rfl, rfl⟩ := tV_ret y9
  replace hq := tcase_r e9 hq
  refine aw_st (st' := []) rfl ?_
  refine p_x_X2_number_20 g hst N _ ?_ N q9.2 x0 x1 i1 (0 : Int64) _ hq
  · intro h x0 x1 x2 x3 q hq
    refine aw_aload_n (i := 0) dX2_number_62 rfl rfl trivial ?_
    refine aw_lload_n (i := 3) dX2_number_63 rfl rfl ?_
    refine aw_iload_n (i := 1) dX2_number_64 rfl rfl ?_
    refine aw_i2l dX2_number_65 ?_
    refine aw_lcmp dX2_number_66 ?_
    refine aw_if_gt (tgt := 74) dX2_number_67 (by decide) (fun c24 => ?_) (fun c24 => ?_)
    · rw [if_pos c24] at hq
      refine aw_iconst (v := 0) dX2_number_74 (by decide) ?_
      exact p_x_X2_number_75 g hst N   h x0 x1 x2 x3 (0 : Int32) _ hq
    · rw [if_neg c24] at hq
      refine aw_iconst (v := 1) dX2_number_70 (by decide) ?_
      refine aw_goto (tgt := 75) dX2_number_71 (by decide) ?_
      exact p_x_X2_number_75 g hst N   h x0 x1 x2 x3 (1 : Int32) _ hq
abbrev YX2_figures : YC := (yX2_figures, cX2_figures, 2, (some .int), [])
theorem kX2_figures : aMk YX2_figures 0 := ⟨rfl, q1784, q117, ⟨by decide +kernel, by decide +kernel, by decide +kernel⟩, Nat.le_of_ble_eq_true rfl⟩
def x_X2_figures (g : AG) (N : Nat) (h : AH) (x0 : Nat) : Option ((String ⊕ Int32) × AH) :=
  bif clB h x0 [1] then ((x_X2_blanks g N h x0).bind fun q2 => bif clB q2 x0 [1] then ((x_X2_number g N q2 x0 (99 : Int32)).bind fun q5 => tcase q5.1 (fun E7 => some (.inl E7, q5.2)) (fun v8 => bif clB q5.2 x0 [1] then ((x_X2_isBehindWord g N q5.2 x0).bind fun q10 => (rdI q10.2 x0 [(1, 2)]).bind fun i12 => bif clB q10.2 x0 [1] then ((x_X2_want g N q10.2 x0 q10.1 (1 : Int32) i12).bind fun q15 => tcase q15.1 (fun E17 => some (.inl E17, q15.2)) (fun v18 => some (.inr v8, q15.2))) else none) else none)) else none) else none
theorem ct_X2_figures (g : AG) (hst : (gL g).stackTraces = false) (N : Nat) : ∀ (h : AH) (x0 : Nat) (q : ((String ⊕ Int32) × AH)), x_X2_figures g N h x0 = some q → CT g YX2_figures 12 [.ref x0] h (tI q) := by
  intro h x0 q hq
  refine CT.of rfl (by decide +kernel) (loc := [some (.ref x0), none]) (by first | exact Nat.le_of_ble_eq_true rfl | (simp only [lgl_rf, lgl_i, lgl_j, lgl_ref, lgl_nil]; exact Nat.le_of_ble_eq_true rfl)) (by first | rfl | (simp only [aent_rf, aent_i, aent_j, aent_ref, aent_nil]; rfl)) ?_
  unfold x_X2_figures at hq
  refine aw_aload_n (i := 0) dX2_figures_0 rfl rfl trivial ?_
  replace hq := cond_t hq
  obtain ⟨z1, hq⟩ := hq
  obtain ⟨fs9, ha9⟩ := clB1 z1
  replace hq := obind hq
  obtain ⟨q2, e3, hq⟩ := hq
  refine aw_callV (Y2 := YX2_blanks) (As := []) (rest := []) (r := (RX2, TX2, 9)) kX2_blanks ha9 rfl rfl q1768 q1769 q1770 dX2_figures_1 rfl rfl (ct_X2_blanks g hst N h x0 _ e3) (Nat.le_of_ble_eq_true rfl) (Nat.le_of_ble_eq_true rfl) (fun v9 h9 z9 y9 => ?_)
  obtain ⟨rfl, y9⟩ := y9
  rw [y9]
  refine aw_st (st' := []) rfl ?_
  refine aw_aload_n (i := 0) dX2_figures_4 rfl rfl trivial ?_
  refine aw_bipush (v := 99) dX2_figures_5 (by decide) ?_
  replace hq := cond_t hq
  obtain ⟨z4, hq⟩ := hq
  obtain ⟨fs9, ha9⟩ := clB1 z4
  replace hq := obind hq
  obtain ⟨q5, e6, hq⟩ := hq
  refine aw_callVX (Y2 := YX2_number) (As := [.int (99 : Int32)]) (rest := []) (r := (RX2, TX2, 9)) kX2_number ha9 rfl rfl q863 q865 qs17 dX2_figures_7 rfl rfl (ct_X2_number g hst N q2 x0 (99 : Int32) _ e6) (Nat.le_of_ble_eq_true rfl) (Nat.le_of_ble_eq_true rfl) (fun v9 h9 z9 y9 => ?_) (fun E7 h9 z9 y9 => ?_)
  rotate_left
  · obtain ⟨e9, rfl⟩ := tI_exc y9
    replace hq := tcase_l e9 hq
    cases hq
    exact ax_out (by decide) ⟨rfl, rfl⟩
  obtain ⟨v8, e9, rfl, rfl⟩ := tI_ret y9
  replace hq := tcase_r e9 hq
  refine aw_st (st' := [.int v8]) rfl ?_
  refine aw_istore_n (i := 1) (loc' := [some (.ref x0), some (.int v8)]) dX2_figures_10 rfl (Nat.le_of_ble_eq_true rfl) rfl ?_
  refine aw_aload_n (i := 0) dX2_figures_11 rfl rfl trivial ?_
  refine aw_aload_n (i := 0) dX2_figures_12 rfl rfl trivial ?_
  replace hq := cond_t hq
  obtain ⟨z9, hq⟩ := hq
  obtain ⟨fs9, ha9⟩ := clB1 z9
  replace hq := obind hq
  obtain ⟨q10, e11, hq⟩ := hq
  refine aw_callV (Y2 := YX2_isBehindWord) (As := []) (rest := [.ref x0]) (r := (RX2, TX2, 9)) kX2_isBehindWord ha9 rfl rfl q1772 q1774 qs32 dX2_figures_13 rfl rfl (ct_X2_isBehindWord g hst N q5.2 x0 _ e11) (Nat.le_of_ble_eq_true rfl) (Nat.le_of_ble_eq_true rfl) (fun v9 h9 z9 y9 => ?_)
  obtain ⟨rfl, rfl⟩ := y9
  refine aw_st (st' := [.int q10.1, .ref x0]) rfl ?_
  refine aw_iconst (v := 1) dX2_figures_16 (by decide) ?_
  refine aw_aload_n (i := 0) dX2_figures_17 rfl rfl trivial ?_
  replace hq := obind hq
  obtain ⟨i12, e13, hq⟩ := hq
  refine xw_getI e13 fX2_38 dX2_figures_18 ?_
  replace hq := cond_t hq
  obtain ⟨z14, hq⟩ := hq
  obtain ⟨fs9, ha9⟩ := clB1 z14
  replace hq := obind hq
  obtain ⟨q15, e16, hq⟩ := hq
  refine aw_callVX (Y2 := YX2_want) (As := [.int q10.1, .int (1 : Int32), .int i12]) (rest := []) (r := (RX2, TX2, 9)) kX2_want ha9 rfl rfl q407 q408 q409 dX2_figures_21 rfl rfl (ct_X2_want g hst N q10.2 x0 q10.1 (1 : Int32) i12 _ e16) (Nat.le_of_ble_eq_true rfl) (Nat.le_of_ble_eq_true rfl) (fun v9 h9 z9 y9 => ?_) (fun E17 h9 z9 y9 => ?_)
  rotate_left
  · obtain ⟨e9, rfl⟩ := tV_exc y9
    replace hq := tcase_l e9 hq
    cases hq
    exact ax_out (by decide) ⟨rfl, rfl⟩
  obtain ⟨v18, e9, rfl, rfl⟩ := tV_ret y9
  replace hq := tcase_r e9 hq
  refine aw_st (st' := []) rfl ?_
  refine aw_iload_n (i := 1) dX2_figures_24 rfl rfl ?_
  cases hq
  exact aw_ireturn dX2_figures_25 rfl rfl ⟨rfl, rfl⟩
abbrev YX2_ends : YC := (yX2_ends, cX2_ends, 1, none, [])
theorem kX2_ends : aMk YX2_ends 0 := ⟨rfl, q1788, q117, ⟨by decide +kernel, by decide +kernel, by decide +kernel⟩, Nat.le_of_ble_eq_true rfl⟩
def x_X2_ends_18 (g : AG) (N : Nat) (h : AH) (x0 : Nat) (s1 : Int32) : Option ((String ⊕ Unit) × AH) :=
  (rdI h x0 [(1, 2)]).bind fun i8 => bif clB h x0 [1] then ((x_X2_want g N h x0 s1 (1 : Int32) i8).bind fun q11 => tcase q11.1 (fun E13 => some (.inl E13, q11.2)) (fun v14 => some (.inr (), q11.2))) else none
theorem p_x_X2_ends_18 (g : AG) (hst : (gL g).stackTraces = false) (N : Nat) : ∀ (h : AH) (x0 : Nat) (s1 : Int32) (q : ((String ⊕ Unit) × AH)), x_X2_ends_18 g N h x0 s1 = some q → AW g YX2_ends 11 (tV q) h [some (.ref x0)] 18 [.int s1, .ref x0] := by
  intro h x0 s1 q hq
  unfold x_X2_ends_18 at hq
  refine aw_iconst (v := 1) dX2_ends_18 (by decide) ?_
  refine aw_aload_n (i := 0) dX2_ends_19 rfl rfl trivial ?_
  replace hq := obind hq
  obtain ⟨i8, e9, hq⟩ := hq
  refine xw_getI e9 fX2_38 dX2_ends_20 ?_
  replace hq := cond_t hq
  obtain ⟨z10, hq⟩ := hq
  obtain ⟨fs9, ha9⟩ := clB1 z10
  replace hq := obind hq
  obtain ⟨q11, e12, hq⟩ := hq
  refine aw_callVX (Y2 := YX2_want) (As := [.int s1, .int (1 : Int32), .int i8]) (rest := []) (r := (RX2, TX2, 9)) kX2_want ha9 rfl rfl q407 q408 q409 dX2_ends_23 rfl rfl (ct_X2_want g hst N h x0 s1 (1 : Int32) i8 _ e12) (Nat.le_of_ble_eq_true rfl) (Nat.le_of_ble_eq_true rfl) (fun v9 h9 z9 y9 => ?_) (fun E13 h9 z9 y9 => ?_)
  rotate_left
  · obtain ⟨e9, rfl⟩ := tV_exc y9
    replace hq := tcase_l e9 hq
    cases hq
    exact ax_out (by decide) ⟨rfl, rfl⟩
  obtain ⟨v14, e9, rfl, rfl⟩ := tV_ret y9
  replace hq := tcase_r e9 hq
  refine aw_st (st' := []) rfl ?_
  cases hq
  exact aw_vret dX2_ends_26 rfl ⟨rfl, rfl⟩
def x_X2_ends (g : AG) (N : Nat) (h : AH) (x0 : Nat) : Option ((String ⊕ Unit) × AH) :=
  bif clB h x0 [1] then ((x_X2_blanks g N h x0).bind fun q2 => bif clB q2 x0 [1] then ((x_X2_peek g N q2 x0).bind fun q5 => if q5.1 = (-1 : Int32) then (x_X2_ends_18 g N  q5.2 x0 (1 : Int32)) else (x_X2_ends_18 g N  q5.2 x0 (0 : Int32))) else none) else none
theorem ct_X2_ends (g : AG) (hst : (gL g).stackTraces = false) (N : Nat) : ∀ (h : AH) (x0 : Nat) (q : ((String ⊕ Unit) × AH)), x_X2_ends g N h x0 = some q → CT g YX2_ends 11 [.ref x0] h (tV q) := by
  intro h x0 q hq
  refine CT.of rfl (by decide +kernel) (loc := [some (.ref x0)]) (by first | exact Nat.le_of_ble_eq_true rfl | (simp only [lgl_rf, lgl_i, lgl_j, lgl_ref, lgl_nil]; exact Nat.le_of_ble_eq_true rfl)) (by first | rfl | (simp only [aent_rf, aent_i, aent_j, aent_ref, aent_nil]; rfl)) ?_
  unfold x_X2_ends at hq
  refine aw_aload_n (i := 0) dX2_ends_0 rfl rfl trivial ?_
  replace hq := cond_t hq
  obtain ⟨z1, hq⟩ := hq
  obtain ⟨fs9, ha9⟩ := clB1 z1
  replace hq := obind hq
  obtain ⟨q2, e3, hq⟩ := hq
  refine aw_callV (Y2 := YX2_blanks) (As := []) (rest := []) (r := (RX2, TX2, 9)) kX2_blanks ha9 rfl rfl q1768 q1769 q1770 dX2_ends_1 rfl rfl (ct_X2_blanks g hst N h x0 _ e3) (Nat.le_of_ble_eq_true rfl) (Nat.le_of_ble_eq_true rfl) (fun v9 h9 z9 y9 => ?_)
  obtain ⟨rfl, y9⟩ := y9
  rw [y9]
  refine aw_st (st' := []) rfl ?_
  refine aw_aload_n (i := 0) dX2_ends_4 rfl rfl trivial ?_
  refine aw_aload_n (i := 0) dX2_ends_5 rfl rfl trivial ?_
  replace hq := cond_t hq
  obtain ⟨z4, hq⟩ := hq
  obtain ⟨fs9, ha9⟩ := clB1 z4
  replace hq := obind hq
  obtain ⟨q5, e6, hq⟩ := hq
  refine aw_callV (Y2 := YX2_peek) (As := []) (rest := [.ref x0]) (r := (RX2, TX2, 9)) kX2_peek ha9 rfl rfl q400 q401 q402 dX2_ends_6 rfl rfl (ct_X2_peek g hst N q2 x0 _ e6) (Nat.le_of_ble_eq_true rfl) (Nat.le_of_ble_eq_true rfl) (fun v9 h9 z9 y9 => ?_)
  obtain ⟨rfl, rfl⟩ := y9
  refine aw_st (st' := [.int q5.1, .ref x0]) rfl ?_
  refine aw_iconst (v := (-1)) dX2_ends_9 (by decide) ?_
  refine aw_icmp_ne (tgt := 17) dX2_ends_10 (by decide) (fun c7 => ?_) (fun c7 => ?_)
  · rw [if_neg c7] at hq
    refine aw_iconst (v := 0) dX2_ends_17 (by decide) ?_
    exact p_x_X2_ends_18 g hst N   q5.2 x0 (0 : Int32) _ hq
  · rw [if_pos c7] at hq
    refine aw_iconst (v := 1) dX2_ends_13 (by decide) ?_
    refine aw_goto (tgt := 18) dX2_ends_14 (by decide) ?_
    exact p_x_X2_ends_18 g hst N   q5.2 x0 (1 : Int32) _ hq
abbrev YX1_kill : YC := (yX1_kill, cX1_kill, 2, (some .int), [])
theorem kX1_kill : aMk YX1_kill 0 := ⟨rfl, q1780, q116, ⟨by decide +kernel, by decide +kernel, by decide +kernel⟩, Nat.le_of_ble_eq_true rfl⟩
def x_X1_kill_38 (g : AG) (N : Nat) (h : AH) (x0 : Nat) (x1 : Int32) (s1 : Int32) : Option ((String ⊕ Int32) × AH) :=
  bif clB h x0 [0] then ((x_X1_atEnd g N h x0 s1).bind fun q34 => if q34.1 = 0 then (some (.inr (-1 : Int32), q34.2)) else (some (.inr x1, q34.2))) else none
theorem p_x_X1_kill_38 (g : AG) (hst : (gL g).stackTraces = false) (N : Nat) : ∀ (h : AH) (x0 : Nat) (x1 : Int32) (s1 : Int32) (q : ((String ⊕ Int32) × AH)), x_X1_kill_38 g N h x0 x1 s1 = some q → AW g YX1_kill 13 (tI q) h [some (.ref x0), some (.int x1)] 38 [.int s1, .ref x0] := by
  intro h x0 x1 s1 q hq
  unfold x_X1_kill_38 at hq
  replace hq := cond_t hq
  obtain ⟨z33, hq⟩ := hq
  obtain ⟨fs9, ha9⟩ := clB1 z33
  replace hq := obind hq
  obtain ⟨q34, e35, hq⟩ := hq
  refine aw_callV (Y2 := YX1_atEnd) (As := [.int s1]) (rest := []) (r := (RX1, TX1, 5)) kX1_atEnd ha9 rfl rfl q1519 q1521 qs24 dX1_kill_38 rfl rfl (ct_X1_atEnd g hst N h x0 s1 _ e35) (Nat.le_of_ble_eq_true rfl) (Nat.le_of_ble_eq_true rfl) (fun v9 h9 z9 y9 => ?_)
  obtain ⟨rfl, rfl⟩ := y9
  refine aw_st (st' := [.int q34.1]) rfl ?_
  refine aw_if_eq (tgt := 48) dX1_kill_41 (by decide) (fun c36 => ?_) (fun c36 => ?_)
  · rw [if_pos c36] at hq
    refine aw_iconst (v := (-1)) dX1_kill_48 (by decide) ?_
    cases hq
    exact aw_ireturn dX1_kill_49 rfl rfl ⟨rfl, rfl⟩
  · rw [if_neg c36] at hq
    refine aw_iload_n (i := 1) dX1_kill_44 rfl rfl ?_
    refine aw_goto (tgt := 49) dX1_kill_45 (by decide) ?_
    cases hq
    exact aw_ireturn dX1_kill_49 rfl rfl ⟨rfl, rfl⟩
def x_X1_kill (g : AG) (N : Nat) (h : AH) (x0 : Nat) : Option ((String ⊕ Int32) × AH) :=
  (rdR h x0 [(0, 2)]).bind fun o1 => (o1).bind fun a3 => bif clB h a3 [1] then ((x_X2_figures g N h a3).bind fun q6 => tcase q6.1 (fun E8 => some (.inl E8, q6.2)) (fun v9 => (rdR q6.2 x0 [(0, 2)]).bind fun o10 => (o10).bind fun a12 => bif clB q6.2 a12 [1] then ((x_X2_ends g N q6.2 a12).bind fun q15 => tcase q15.1 (fun E17 => some (.inl E17, q15.2)) (fun v18 => (rdR q15.2 x0 [(0, 3)]).bind fun o19 => (o19).bind fun a21 => (rdR q15.2 a21 [(2, 2)]).bind fun o23 => (x_J21_valueOf g N q15.2 v9).bind fun q25 => (o23).bind fun a27 => bif clB q25.2 a27 [14] then ((x_J5_remove g N q25.2 a27 q25.1).bind fun q30 => ocase q30.1 (x_X1_kill_38 g N  q30.2 x0 v9 (0 : Int32)) (fun a32 => x_X1_kill_38 g N  q30.2 x0 v9 (1 : Int32))) else none)) else none)) else none
theorem ct_X1_kill (g : AG) (hst : (gL g).stackTraces = false) (N : Nat) : ∀ (h : AH) (x0 : Nat) (q : ((String ⊕ Int32) × AH)), x_X1_kill g N h x0 = some q → CT g YX1_kill 13 [.ref x0] h (tI q) := by
  intro h x0 q hq
  refine CT.of rfl (by decide +kernel) (loc := [some (.ref x0), none]) (by first | exact Nat.le_of_ble_eq_true rfl | (simp only [lgl_rf, lgl_i, lgl_j, lgl_ref, lgl_nil]; exact Nat.le_of_ble_eq_true rfl)) (by first | rfl | (simp only [aent_rf, aent_i, aent_j, aent_ref, aent_nil]; rfl)) ?_
  unfold x_X1_kill at hq
  refine aw_aload_n (i := 0) dX1_kill_0 rfl rfl trivial ?_
  replace hq := obind hq
  obtain ⟨o1, e2, hq⟩ := hq
  refine xw_getR e2 fX1_18 dX1_kill_1 ?_
  replace hq := obind hq
  obtain ⟨a3, e4, hq⟩ := hq
  subst e4
  replace hq := cond_t hq
  obtain ⟨z5, hq⟩ := hq
  obtain ⟨fs9, ha9⟩ := clB1 z5
  replace hq := obind hq
  obtain ⟨q6, e7, hq⟩ := hq
  refine aw_callVNX (Y2 := YX2_figures) (As := []) (rest := []) (r := (RX2, TX2, 9)) kX2_figures ha9 rfl q1781 q1783 qs34 dX1_kill_4 rfl rfl (ct_X2_figures g hst N h a3 _ e7) (Nat.le_of_ble_eq_true rfl) (Nat.le_of_ble_eq_true rfl) (fun v9 h9 z9 y9 => ?_) (fun E8 h9 z9 y9 => ?_)
  rotate_left
  · obtain ⟨e9, rfl⟩ := tI_exc y9
    replace hq := tcase_l e9 hq
    cases hq
    exact ax_out (by decide) ⟨rfl, rfl⟩
  obtain ⟨v9, e9, rfl, rfl⟩ := tI_ret y9
  replace hq := tcase_r e9 hq
  refine aw_st (st' := [.int v9]) rfl ?_
  refine aw_istore_n (i := 1) (loc' := [some (.ref x0), some (.int v9)]) dX1_kill_7 rfl (Nat.le_of_ble_eq_true rfl) rfl ?_
  refine aw_aload_n (i := 0) dX1_kill_8 rfl rfl trivial ?_
  replace hq := obind hq
  obtain ⟨o10, e11, hq⟩ := hq
  refine xw_getR e11 fX1_18 dX1_kill_9 ?_
  replace hq := obind hq
  obtain ⟨a12, e13, hq⟩ := hq
  subst e13
  replace hq := cond_t hq
  obtain ⟨z14, hq⟩ := hq
  obtain ⟨fs9, ha9⟩ := clB1 z14
  replace hq := obind hq
  obtain ⟨q15, e16, hq⟩ := hq
  refine aw_callVX (Y2 := YX2_ends) (As := []) (rest := []) (r := (RX2, TX2, 9)) kX2_ends ha9 rfl rfl q1785 q1786 q1787 dX1_kill_12 rfl rfl (ct_X2_ends g hst N q6.2 a12 _ e16) (Nat.le_of_ble_eq_true rfl) (Nat.le_of_ble_eq_true rfl) (fun v9 h9 z9 y9 => ?_) (fun E17 h9 z9 y9 => ?_)
  rotate_left
  · obtain ⟨e9, rfl⟩ := tV_exc y9
    replace hq := tcase_l e9 hq
    cases hq
    exact ax_out (by decide) ⟨rfl, rfl⟩
  obtain ⟨v18, e9, rfl, rfl⟩ := tV_ret y9
  replace hq := tcase_r e9 hq
  refine aw_st (st' := []) rfl ?_
  refine aw_aload_n (i := 0) dX1_kill_15 rfl rfl trivial ?_
  refine aw_aload_n (i := 0) dX1_kill_16 rfl rfl trivial ?_
  replace hq := obind hq
  obtain ⟨o19, e20, hq⟩ := hq
  refine xw_getR e20 fX1_25 dX1_kill_17 ?_
  replace hq := obind hq
  obtain ⟨a21, e22, hq⟩ := hq
  subst e22
  replace hq := obind hq
  obtain ⟨o23, e24, hq⟩ := hq
  refine xw_getR e24 fX1_102 dX1_kill_20 ?_
  refine aw_iload_n (i := 1) dX1_kill_23 rfl rfl ?_
  replace hq := obind hq
  obtain ⟨q25, e26, hq⟩ := hq
  refine aw_callS (Y2 := YJ21_valueOf) (As := [.int v9]) (rest := [va_rf o23, .ref x0]) kJ21_valueOf q1789 q1790 dX1_kill_24 rfl rfl (ct_J21_valueOf g hst N q15.2 v9 _ e26) (Nat.le_of_ble_eq_true rfl) (by simp only [List.map_cons, List.map_nil, List.sum_cons, List.sum_nil, cat_rf]; exact Nat.le_of_ble_eq_true rfl) (fun v9 h9 z9 y9 => ?_)
  obtain ⟨rfl, rfl⟩ := y9
  refine aw_st (st' := [va_rf q25.1, va_rf o23, .ref x0]) rfl ?_
  replace hq := obind hq
  obtain ⟨a27, e28, hq⟩ := hq
  subst e28
  replace hq := cond_t hq
  obtain ⟨z29, hq⟩ := hq
  obtain ⟨fs9, ha9⟩ := clB1 z29
  replace hq := obind hq
  obtain ⟨q30, e31, hq⟩ := hq
  refine aw_callV (Y2 := YJ5_remove) (As := [va_rf q25.1]) (rest := [.ref x0]) (r := (RJ5, TJ5, 9)) kJ5_remove ha9 rfl rfl q1808 q1809 q1810 dX1_kill_27 rfl rfl (ct_J5_remove g hst N q25.2 a27 q25.1 _ e31) (Nat.le_of_ble_eq_true rfl) (Nat.le_of_ble_eq_true rfl) (fun v9 h9 z9 y9 => ?_)
  obtain ⟨rfl, rfl⟩ := y9
  refine aw_st (st' := [va_rf q30.1, .ref x0]) rfl ?_
  generalize q30.1 = v9 at hq ⊢
  rcases v9 with _ | a32
  · replace hq := ocase_n hq
    refine xw_ifnullN (tgt := 37) dX1_kill_30 (by decide) ?_
    refine aw_iconst (v := 0) dX1_kill_37 (by decide) ?_
    exact p_x_X1_kill_38 g hst N   q30.2 x0 v9 (0 : Int32) _ hq
  · replace hq := ocase_s hq
    refine xw_ifnullS (tgt := 37) dX1_kill_30 (by decide) ?_
    refine aw_iconst (v := 1) dX1_kill_33 (by decide) ?_
    refine aw_goto (tgt := 38) dX1_kill_34 (by decide) ?_
    exact p_x_X1_kill_38 g hst N   q30.2 x0 v9 (1 : Int32) _ hq
abbrev YX1_reset : YC := (yX1_reset, cX1_reset, 2, (some .int), [])
theorem kX1_reset : aMk YX1_reset 0 := ⟨rfl, q1826, q116, ⟨by decide +kernel, by decide +kernel, by decide +kernel⟩, Nat.le_of_ble_eq_true rfl⟩
def x_X1_reset (g : AG) (N : Nat) (h : AH) (x0 : Nat) : Option ((String ⊕ Int32) × AH) :=
  (rdR h x0 [(0, 2)]).bind fun o1 => (o1).bind fun a3 => bif clB h a3 [1] then ((x_X2_ends g N h a3).bind fun q6 => tcase q6.1 (fun E8 => some (.inl E8, q6.2)) (fun v9 => (rdR q6.2 x0 [(0, 3)]).bind fun o10 => (o10).bind fun a12 => (rdR q6.2 a12 [(2, 2)]).bind fun o14 => (o14).bind fun a16 => bif clB q6.2 a16 [14] then ((x_J5_size g N q6.2 a16).bind fun q19 => (rdR q19.2 x0 [(0, 3)]).bind fun o21 => (o21).bind fun a23 => (rdR q19.2 a23 [(2, 2)]).bind fun o25 => (o25).bind fun a27 => bif clB q19.2 a27 [14] then ((x_J5_clear g N q19.2 a27).bind fun q30 => some (.inr q19.1, q30)) else none) else none)) else none
theorem ct_X1_reset (g : AG) (hst : (gL g).stackTraces = false) (N : Nat) : ∀ (h : AH) (x0 : Nat) (q : ((String ⊕ Int32) × AH)), x_X1_reset g N h x0 = some q → CT g YX1_reset 12 [.ref x0] h (tI q) := by
  intro h x0 q hq
  refine CT.of rfl (by decide +kernel) (loc := [some (.ref x0), none]) (by first | exact Nat.le_of_ble_eq_true rfl | (simp only [lgl_rf, lgl_i, lgl_j, lgl_ref, lgl_nil]; exact Nat.le_of_ble_eq_true rfl)) (by first | rfl | (simp only [aent_rf, aent_i, aent_j, aent_ref, aent_nil]; rfl)) ?_
  unfold x_X1_reset at hq
  refine aw_aload_n (i := 0) dX1_reset_0 rfl rfl trivial ?_
  replace hq := obind hq
  obtain ⟨o1, e2, hq⟩ := hq
  refine xw_getR e2 fX1_18 dX1_reset_1 ?_
  replace hq := obind hq
  obtain ⟨a3, e4, hq⟩ := hq
  subst e4
  replace hq := cond_t hq
  obtain ⟨z5, hq⟩ := hq
  obtain ⟨fs9, ha9⟩ := clB1 z5
  replace hq := obind hq
  obtain ⟨q6, e7, hq⟩ := hq
  refine aw_callVX (Y2 := YX2_ends) (As := []) (rest := []) (r := (RX2, TX2, 9)) kX2_ends ha9 rfl rfl q1785 q1786 q1787 dX1_reset_4 rfl rfl (ct_X2_ends g hst N h a3 _ e7) (Nat.le_of_ble_eq_true rfl) (Nat.le_of_ble_eq_true rfl) (fun v9 h9 z9 y9 => ?_) (fun E8 h9 z9 y9 => ?_)
  rotate_left
  · obtain ⟨e9, rfl⟩ := tV_exc y9
    replace hq := tcase_l e9 hq
    cases hq
    exact ax_out (by decide) ⟨rfl, rfl⟩
  obtain ⟨v9, e9, rfl, rfl⟩ := tV_ret y9
  replace hq := tcase_r e9 hq
  refine aw_st (st' := []) rfl ?_
  refine aw_aload_n (i := 0) dX1_reset_7 rfl rfl trivial ?_
  replace hq := obind hq
  obtain ⟨o10, e11, hq⟩ := hq
  refine xw_getR e11 fX1_25 dX1_reset_8 ?_
  replace hq := obind hq
  obtain ⟨a12, e13, hq⟩ := hq
  subst e13
  replace hq := obind hq
  obtain ⟨o14, e15, hq⟩ := hq
  refine xw_getR e15 fX1_102 dX1_reset_11 ?_
  replace hq := obind hq
  obtain ⟨a16, e17, hq⟩ := hq
  subst e17
  replace hq := cond_t hq
  obtain ⟨z18, hq⟩ := hq
  obtain ⟨fs9, ha9⟩ := clB1 z18
  replace hq := obind hq
  obtain ⟨q19, e20, hq⟩ := hq
  refine aw_callV (Y2 := YJ5_size) (As := []) (rest := []) (r := (RJ5, TJ5, 9)) kJ5_size ha9 rfl rfl q1827 q1828 q1829 dX1_reset_14 rfl rfl (ct_J5_size g hst N q6.2 a16 _ e20) (Nat.le_of_ble_eq_true rfl) (Nat.le_of_ble_eq_true rfl) (fun v9 h9 z9 y9 => ?_)
  obtain ⟨rfl, rfl⟩ := y9
  refine aw_st (st' := [.int q19.1]) rfl ?_
  refine aw_istore_n (i := 1) (loc' := [some (.ref x0), some (.int q19.1)]) dX1_reset_17 rfl (Nat.le_of_ble_eq_true rfl) rfl ?_
  refine aw_aload_n (i := 0) dX1_reset_18 rfl rfl trivial ?_
  replace hq := obind hq
  obtain ⟨o21, e22, hq⟩ := hq
  refine xw_getR e22 fX1_25 dX1_reset_19 ?_
  replace hq := obind hq
  obtain ⟨a23, e24, hq⟩ := hq
  subst e24
  replace hq := obind hq
  obtain ⟨o25, e26, hq⟩ := hq
  refine xw_getR e26 fX1_102 dX1_reset_22 ?_
  replace hq := obind hq
  obtain ⟨a27, e28, hq⟩ := hq
  subst e28
  replace hq := cond_t hq
  obtain ⟨z29, hq⟩ := hq
  obtain ⟨fs9, ha9⟩ := clB1 z29
  replace hq := obind hq
  obtain ⟨q30, e31, hq⟩ := hq
  refine aw_callV (Y2 := YJ5_clear) (As := []) (rest := []) (r := (RJ5, TJ5, 9)) kJ5_clear ha9 rfl rfl q1831 q1832 q1833 dX1_reset_25 rfl rfl (ct_J5_clear g hst N q19.2 a27 _ e31) (Nat.le_of_ble_eq_true rfl) (Nat.le_of_ble_eq_true rfl) (fun v9 h9 z9 y9 => ?_)
  obtain ⟨rfl, y9⟩ := y9
  rw [y9]
  refine aw_st (st' := []) rfl ?_
  refine aw_iload_n (i := 1) dX1_reset_28 rfl rfl ?_
  cases hq
  exact aw_ireturn dX1_reset_29 rfl rfl ⟨rfl, rfl⟩
abbrev YX2_isLetter : YC := (yX2_isLetter, cX2_isLetter, 1, (some .boolean), [])
theorem kX2_isLetter : aMk YX2_isLetter 1 := ⟨rfl, q406, q117, ⟨by decide +kernel, by decide +kernel, by decide +kernel⟩, Nat.le_of_ble_eq_true rfl⟩
def x_X2_isLetter (g : AG) (N : Nat) (h : AH) (x0 : Int32) : Option (Int32 × AH) :=
  if x0 < (97 : Int32) then (some ((0 : Int32), h)) else (if (122 : Int32) < x0 then (some ((0 : Int32), h)) else (some ((1 : Int32), h)))
theorem ct_X2_isLetter (g : AG) (hst : (gL g).stackTraces = false) (N : Nat) : ∀ (h : AH) (x0 : Int32) (q : (Int32 × AH)), x_X2_isLetter g N h x0 = some q → CT g YX2_isLetter 1 [.int x0] h (xI q) := by
  intro h x0 q hq
  refine CT.of rfl (by decide +kernel) (loc := [some (.int x0)]) (by first | exact Nat.le_of_ble_eq_true rfl | (simp only [lgl_rf, lgl_i, lgl_j, lgl_ref, lgl_nil]; exact Nat.le_of_ble_eq_true rfl)) (by first | rfl | (simp only [aent_rf, aent_i, aent_j, aent_ref, aent_nil]; rfl)) ?_
  unfold x_X2_isLetter at hq
  refine aw_iload_n (i := 0) dX2_isLetter_0 rfl rfl ?_
  refine aw_bipush (v := 97) dX2_isLetter_1 (by decide) ?_
  refine aw_icmp_lt (tgt := 16) dX2_isLetter_3 (by decide) (fun c1 => ?_) (fun c1 => ?_)
  · rw [if_pos c1] at hq
    refine aw_iconst (v := 0) dX2_isLetter_16 (by decide) ?_
    cases hq
    exact aw_ireturn dX2_isLetter_17 rfl rfl ⟨rfl, rfl⟩
  · rw [if_neg c1] at hq
    refine aw_iload_n (i := 0) dX2_isLetter_6 rfl rfl ?_
    refine aw_bipush (v := 122) dX2_isLetter_7 (by decide) ?_
    refine aw_icmp_gt (tgt := 16) dX2_isLetter_9 (by decide) (fun c2 => ?_) (fun c2 => ?_)
    · rw [if_pos c2] at hq
      refine aw_iconst (v := 0) dX2_isLetter_16 (by decide) ?_
      cases hq
      exact aw_ireturn dX2_isLetter_17 rfl rfl ⟨rfl, rfl⟩
    · rw [if_neg c2] at hq
      refine aw_iconst (v := 1) dX2_isLetter_12 (by decide) ?_
      refine aw_goto (tgt := 17) dX2_isLetter_13 (by decide) ?_
      cases hq
      exact aw_ireturn dX2_isLetter_17 rfl rfl ⟨rfl, rfl⟩
abbrev YX2_isOfName : YC := (yX2_isOfName, cX2_isOfName, 1, (some .boolean), [])
theorem kX2_isOfName : aMk YX2_isOfName 0 := ⟨rfl, q399, q117, ⟨by decide +kernel, by decide +kernel, by decide +kernel⟩, Nat.le_of_ble_eq_true rfl⟩
def x_X2_isOfName_19 (g : AG) (N : Nat) (h : AH) (x0 : Nat) : Option (Int32 × AH) :=
  some ((1 : Int32), h)
theorem p_x_X2_isOfName_19 (g : AG) (hst : (gL g).stackTraces = false) (N : Nat) : ∀ (h : AH) (x0 : Nat) (q : (Int32 × AH)), x_X2_isOfName_19 g N h x0 = some q → AW g YX2_isOfName 2 (xI q) h [some (.ref x0)] 19 [] := by
  intro h x0 q hq
  unfold x_X2_isOfName_19 at hq
  refine aw_iconst (v := 1) dX2_isOfName_19 (by decide) ?_
  refine aw_goto (tgt := 24) dX2_isOfName_20 (by decide) ?_
  cases hq
  exact aw_ireturn dX2_isOfName_24 rfl rfl ⟨rfl, rfl⟩
def x_X2_isOfName (g : AG) (N : Nat) (h : AH) (x0 : Nat) : Option (Int32 × AH) :=
  bif clB h x0 [1] then ((x_X2_peek g N h x0).bind fun q2 => (x_X2_isLetter g N q2.2 q2.1).bind fun q4 => if q4.1 = 0 then (bif clB q4.2 x0 [1] then ((x_X2_peek g N q4.2 x0).bind fun q8 => if q8.1 = (46 : Int32) then (x_X2_isOfName_19 g N  q8.2 x0) else (some ((0 : Int32), q8.2))) else none) else (x_X2_isOfName_19 g N  q4.2 x0)) else none
theorem ct_X2_isOfName (g : AG) (hst : (gL g).stackTraces = false) (N : Nat) : ∀ (h : AH) (x0 : Nat) (q : (Int32 × AH)), x_X2_isOfName g N h x0 = some q → CT g YX2_isOfName 2 [.ref x0] h (xI q) := by
  intro h x0 q hq
  refine CT.of rfl (by decide +kernel) (loc := [some (.ref x0)]) (by first | exact Nat.le_of_ble_eq_true rfl | (simp only [lgl_rf, lgl_i, lgl_j, lgl_ref, lgl_nil]; exact Nat.le_of_ble_eq_true rfl)) (by first | rfl | (simp only [aent_rf, aent_i, aent_j, aent_ref, aent_nil]; rfl)) ?_
  unfold x_X2_isOfName at hq
  refine aw_aload_n (i := 0) dX2_isOfName_0 rfl rfl trivial ?_
  replace hq := cond_t hq
  obtain ⟨z1, hq⟩ := hq
  obtain ⟨fs9, ha9⟩ := clB1 z1
  replace hq := obind hq
  obtain ⟨q2, e3, hq⟩ := hq
  refine aw_callV (Y2 := YX2_peek) (As := []) (rest := []) (r := (RX2, TX2, 9)) kX2_peek ha9 rfl rfl q400 q401 q402 dX2_isOfName_1 rfl rfl (ct_X2_peek g hst N h x0 _ e3) (Nat.le_of_ble_eq_true rfl) (Nat.le_of_ble_eq_true rfl) (fun v9 h9 z9 y9 => ?_)
  obtain ⟨rfl, rfl⟩ := y9
  refine aw_st (st' := [.int q2.1]) rfl ?_
  replace hq := obind hq
  obtain ⟨q4, e5, hq⟩ := hq
  refine aw_callS (Y2 := YX2_isLetter) (As := [.int q2.1]) (rest := []) kX2_isLetter q404 q405 dX2_isOfName_4 rfl rfl (ct_X2_isLetter g hst N q2.2 q2.1 _ e5) (Nat.le_of_ble_eq_true rfl) (Nat.le_of_ble_eq_true rfl) (fun v9 h9 z9 y9 => ?_)
  obtain ⟨rfl, rfl⟩ := y9
  refine aw_st (st' := [.int q4.1]) rfl ?_
  refine aw_if_ne (tgt := 19) dX2_isOfName_7 (by decide) (fun c6 => ?_) (fun c6 => ?_)
  · rw [if_neg c6] at hq
    exact p_x_X2_isOfName_19 g hst N   q4.2 x0 _ hq
  · rw [if_pos c6] at hq
    refine aw_aload_n (i := 0) dX2_isOfName_10 rfl rfl trivial ?_
    replace hq := cond_t hq
    obtain ⟨z7, hq⟩ := hq
    obtain ⟨fs9, ha9⟩ := clB1 z7
    replace hq := obind hq
    obtain ⟨q8, e9, hq⟩ := hq
    refine aw_callV (Y2 := YX2_peek) (As := []) (rest := []) (r := (RX2, TX2, 9)) kX2_peek ha9 rfl rfl q400 q401 q402 dX2_isOfName_11 rfl rfl (ct_X2_peek g hst N q4.2 x0 _ e9) (Nat.le_of_ble_eq_true rfl) (Nat.le_of_ble_eq_true rfl) (fun v9 h9 z9 y9 => ?_)
    obtain ⟨rfl, rfl⟩ := y9
    refine aw_st (st' := [.int q8.1]) rfl ?_
    refine aw_bipush (v := 46) dX2_isOfName_14 (by decide) ?_
    refine aw_icmp_ne (tgt := 23) dX2_isOfName_16 (by decide) (fun c10 => ?_) (fun c10 => ?_)
    · rw [if_neg c10] at hq
      refine aw_iconst (v := 0) dX2_isOfName_23 (by decide) ?_
      cases hq
      exact aw_ireturn dX2_isOfName_24 rfl rfl ⟨rfl, rfl⟩
    · rw [if_pos c10] at hq
      exact p_x_X2_isOfName_19 g hst N   q8.2 x0 _ hq
