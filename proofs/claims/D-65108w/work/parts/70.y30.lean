/-! THE COMPONENT AND THE JDK as functions of the heap, and their contracts: printed by wip gen/dec2.py -/
set_option maxRecDepth 100000
abbrev YX2_pattern : YC := (yX2_pattern, cX2_pattern, 2, (some (.object "java/lang/String")), [])
theorem kX2_pattern : aMk YX2_pattern 0 := ⟨rfl, q1849, q117, ⟨by decide +kernel, by decide +kernel, by decide +kernel⟩, Nat.le_of_ble_eq_true rfl⟩
def x_X2_pattern_80 (g : AG) (N : Nat) (K12 : AH → Nat → Option Nat → Option ((String ⊕ Option Nat) × AH)) (K111 : AH → Nat → Option Nat → Option ((String ⊕ Option Nat) × AH)) (h : AH) (x0 : Nat) (r1 : Option Nat) (s1 : Int32) : Option ((String ⊕ Option Nat) × AH) :=
  (rdI h x0 [(1, 2)]).bind fun i29 => bif clB h x0 [1] then ((x_X2_want g N h x0 s1 (3 : Int32) i29).bind fun q32 => tcase q32.1 (fun E34 => some (.inl E34, q32.2)) (fun v35 => bif clB q32.2 x0 [1] then ((x_X2_peek g N q32.2 x0).bind fun q37 => (r1).bind fun a39 => bif clB q37.2 a39 [16] then ((x_J12_append g N q37.2 a39 ((q37.1.toUInt32 % 65536).toInt32)).bind fun q42 => (rdI q42.2 x0 [(1, 2)]).bind fun i44 => (wrV g q42.2 x0 [(1, 2)] (.int (i44 + (1 : Int32)))).bind fun h46 => K12 h46 x0 (some a39)) else none) else none)) else none
theorem p_x_X2_pattern_80 (g : AG) (hst : (gL g).stackTraces = false) (N : Nat) (K12 : AH → Nat → Option Nat → Option ((String ⊕ Option Nat) × AH)) (K111 : AH → Nat → Option Nat → Option ((String ⊕ Option Nat) × AH)) (hK12 : ∀ (h : AH) (x0 : Nat) (r1 : Option Nat) (q : ((String ⊕ Option Nat) × AH)), K12 h x0 r1 = some q → AW g YX2_pattern 11 (tR q) h [some (.ref x0), some (va_rf r1)] 12 []) (hK111 : ∀ (h : AH) (x0 : Nat) (r1 : Option Nat) (q : ((String ⊕ Option Nat) × AH)), K111 h x0 r1 = some q → AW g YX2_pattern 11 (tR q) h [some (.ref x0), some (va_rf r1)] 111 []) : ∀ (h : AH) (x0 : Nat) (r1 : Option Nat) (s1 : Int32) (q : ((String ⊕ Option Nat) × AH)), x_X2_pattern_80 g N K12 K111 h x0 r1 s1 = some q → AW g YX2_pattern 11 (tR q) h [some (.ref x0), some (va_rf r1)] 80 [.int s1, .ref x0] := by
  intro h x0 r1 s1 q hq
  unfold x_X2_pattern_80 at hq
  refine aw_iconst (v := 3) dX2_pattern_80 (by decide) ?_
  refine aw_aload_n (i := 0) dX2_pattern_81 rfl rfl trivial ?_
  replace hq := obind hq
  obtain ⟨i29, e30, hq⟩ := hq
  refine xw_getI e30 fX2_38 dX2_pattern_82 ?_
  replace hq := cond_t hq
  obtain ⟨z31, hq⟩ := hq
  obtain ⟨fs9, ha9⟩ := clB1 z31
  replace hq := obind hq
  obtain ⟨q32, e33, hq⟩ := hq
  refine aw_callVX (Y2 := YX2_want) (As := [.int s1, .int (3 : Int32), .int i29]) (rest := []) (r := (RX2, TX2, 9)) kX2_want ha9 rfl rfl q407 q408 q409 dX2_pattern_85 rfl rfl (ct_X2_want g hst N h x0 s1 (3 : Int32) i29 _ e33) (Nat.le_of_ble_eq_true rfl) (Nat.le_of_ble_eq_true rfl) (fun v9 h9 z9 y9 => ?_) (fun E34 h9 z9 y9 => ?_)
  rotate_left
  · obtain ⟨e9, rfl⟩ := tV_exc y9
    replace hq := tcase_l e9 hq
    cases hq
    exact ax_out (by decide) ⟨rfl, rfl⟩
  obtain ⟨v35, e9, rfl, rfl⟩ := tV_ret y9
  replace hq := tcase_r e9 hq
  refine aw_st (st' := []) rfl ?_
  refine aw_aload_n (i := 1) dX2_pattern_88 rfl rfl (aIsR_rf _) ?_
  refine aw_aload_n (i := 0) dX2_pattern_89 rfl rfl trivial ?_
  replace hq := cond_t hq
  obtain ⟨z36, hq⟩ := hq
  obtain ⟨fs9, ha9⟩ := clB1 z36
  replace hq := obind hq
  obtain ⟨q37, e38, hq⟩ := hq
  refine aw_callV (Y2 := YX2_peek) (As := []) (rest := [va_rf r1]) (r := (RX2, TX2, 9)) kX2_peek ha9 rfl rfl q400 q401 q402 dX2_pattern_90 rfl rfl (ct_X2_peek g hst N q32.2 x0 _ e38) (Nat.le_of_ble_eq_true rfl) (by simp only [List.map_cons, List.map_nil, List.sum_cons, List.sum_nil, cat_rf]; exact Nat.le_of_ble_eq_true rfl) (fun v9 h9 z9 y9 => ?_)
  obtain ⟨rfl, rfl⟩ := y9
  refine aw_st (st' := [.int q37.1, va_rf r1]) rfl ?_
  refine aw_i2c dX2_pattern_93 ?_
  replace hq := obind hq
  obtain ⟨a39, e40, hq⟩ := hq
  subst e40
  replace hq := cond_t hq
  obtain ⟨z41, hq⟩ := hq
  obtain ⟨fs9, ha9⟩ := clB1 z41
  replace hq := obind hq
  obtain ⟨q42, e43, hq⟩ := hq
  refine aw_callV (Y2 := YJ12_append) (As := [.int ((q37.1.toUInt32 % 65536).toInt32)]) (rest := []) (r := (RJ12, TJ12, 4)) kJ12_append ha9 rfl rfl q520 q521 q522 dX2_pattern_94 rfl rfl (ct_J12_append g hst N q37.2 a39 ((q37.1.toUInt32 % 65536).toInt32) _ e43) (Nat.le_of_ble_eq_true rfl) (Nat.le_of_ble_eq_true rfl) (fun v9 h9 z9 y9 => ?_)
  obtain ⟨rfl, rfl⟩ := y9
  refine aw_st (st' := [va_rf q42.1]) rfl ?_
  refine aw_pop dX2_pattern_97 (cat_rf _) ?_
  refine aw_aload_n (i := 0) dX2_pattern_98 rfl rfl trivial ?_
  refine aw_dup dX2_pattern_99 rfl ?_
  replace hq := obind hq
  obtain ⟨i44, e45, hq⟩ := hq
  refine xw_getI e45 fX2_38 dX2_pattern_100 ?_
  refine aw_iconst (v := 1) dX2_pattern_103 (by decide) ?_
  refine aw_iadd dX2_pattern_104 ?_
  replace hq := obind hq
  obtain ⟨h46, e47, hq⟩ := hq
  refine xw_put e47 fX2_38 tX2_2 ⟨rfl, rfl⟩ dX2_pattern_105 ?_
  refine aw_goto (tgt := 12) dX2_pattern_108 (by decide) ?_
  exact hK12 h46 x0 (some a39) _ hq
def x_X2_pattern_57 (g : AG) (N : Nat) (K12 : AH → Nat → Option Nat → Option ((String ⊕ Option Nat) × AH)) (K111 : AH → Nat → Option Nat → Option ((String ⊕ Option Nat) × AH)) (h : AH) (x0 : Nat) (r1 : Option Nat) (s1 : Int32) : Option ((String ⊕ Option Nat) × AH) :=
  (rdI h x0 [(1, 2)]).bind fun i16 => bif clB h x0 [1] then ((x_X2_want g N h x0 s1 (1 : Int32) i16).bind fun q19 => tcase q19.1 (fun E21 => some (.inl E21, q19.2)) (fun v22 => (r1).bind fun a23 => bif clB q19.2 a23 [16] then ((x_J12_length g N q19.2 a23).bind fun q26 => if (12 : Int32) ≤ q26.1 then (x_X2_pattern_80 g N K12 K111 q26.2 x0 (some a23) (0 : Int32)) else (x_X2_pattern_80 g N K12 K111 q26.2 x0 (some a23) (1 : Int32))) else none)) else none
theorem p_x_X2_pattern_57 (g : AG) (hst : (gL g).stackTraces = false) (N : Nat) (K12 : AH → Nat → Option Nat → Option ((String ⊕ Option Nat) × AH)) (K111 : AH → Nat → Option Nat → Option ((String ⊕ Option Nat) × AH)) (hK12 : ∀ (h : AH) (x0 : Nat) (r1 : Option Nat) (q : ((String ⊕ Option Nat) × AH)), K12 h x0 r1 = some q → AW g YX2_pattern 11 (tR q) h [some (.ref x0), some (va_rf r1)] 12 []) (hK111 : ∀ (h : AH) (x0 : Nat) (r1 : Option Nat) (q : ((String ⊕ Option Nat) × AH)), K111 h x0 r1 = some q → AW g YX2_pattern 11 (tR q) h [some (.ref x0), some (va_rf r1)] 111 []) : ∀ (h : AH) (x0 : Nat) (r1 : Option Nat) (s1 : Int32) (q : ((String ⊕ Option Nat) × AH)), x_X2_pattern_57 g N K12 K111 h x0 r1 s1 = some q → AW g YX2_pattern 11 (tR q) h [some (.ref x0), some (va_rf r1)] 57 [.int s1, .ref x0] := by
  intro h x0 r1 s1 q hq
  unfold x_X2_pattern_57 at hq
  refine aw_iconst (v := 1) dX2_pattern_57 (by decide) ?_
  refine aw_aload_n (i := 0) dX2_pattern_58 rfl rfl trivial ?_
  replace hq := obind hq
  obtain ⟨i16, e17, hq⟩ := hq
  refine xw_getI e17 fX2_38 dX2_pattern_59 ?_
  replace hq := cond_t hq
  obtain ⟨z18, hq⟩ := hq
  obtain ⟨fs9, ha9⟩ := clB1 z18
  replace hq := obind hq
  obtain ⟨q19, e20, hq⟩ := hq
  refine aw_callVX (Y2 := YX2_want) (As := [.int s1, .int (1 : Int32), .int i16]) (rest := []) (r := (RX2, TX2, 9)) kX2_want ha9 rfl rfl q407 q408 q409 dX2_pattern_62 rfl rfl (ct_X2_want g hst N h x0 s1 (1 : Int32) i16 _ e20) (Nat.le_of_ble_eq_true rfl) (Nat.le_of_ble_eq_true rfl) (fun v9 h9 z9 y9 => ?_) (fun E21 h9 z9 y9 => ?_)
  rotate_left
  · obtain ⟨e9, rfl⟩ := tV_exc y9
    replace hq := tcase_l e9 hq
    cases hq
    exact ax_out (by decide) ⟨rfl, rfl⟩
  obtain ⟨v22, e9, rfl, rfl⟩ := tV_ret y9
  replace hq := tcase_r e9 hq
  refine aw_st (st' := []) rfl ?_
  refine aw_aload_n (i := 0) dX2_pattern_65 rfl rfl trivial ?_
  refine aw_aload_n (i := 1) dX2_pattern_66 rfl rfl (aIsR_rf _) ?_
  replace hq := obind hq
  obtain ⟨a23, e24, hq⟩ := hq
  subst e24
  replace hq := cond_t hq
  obtain ⟨z25, hq⟩ := hq
  obtain ⟨fs9, ha9⟩ := clB1 z25
  replace hq := obind hq
  obtain ⟨q26, e27, hq⟩ := hq
  refine aw_callV (Y2 := YJ12_length) (As := []) (rest := [.ref x0]) (r := (RJ12, TJ12, 4)) kJ12_length ha9 rfl rfl q513 q514 q515 dX2_pattern_67 rfl rfl (ct_J12_length g hst N q19.2 a23 _ e27) (Nat.le_of_ble_eq_true rfl) (Nat.le_of_ble_eq_true rfl) (fun v9 h9 z9 y9 => ?_)
  obtain ⟨rfl, rfl⟩ := y9
  refine aw_st (st' := [.int q26.1, .ref x0]) rfl ?_
  refine aw_bipush (v := 12) dX2_pattern_70 (by decide) ?_
  refine aw_icmp_ge (tgt := 79) dX2_pattern_72 (by decide) (fun c28 => ?_) (fun c28 => ?_)
  · rw [if_pos c28] at hq
    refine aw_iconst (v := 0) dX2_pattern_79 (by decide) ?_
    exact p_x_X2_pattern_80 g hst N _ _ hK12 hK111 q26.2 x0 (some a23) (0 : Int32) _ hq
  · rw [if_neg c28] at hq
    refine aw_iconst (v := 1) dX2_pattern_75 (by decide) ?_
    refine aw_goto (tgt := 80) dX2_pattern_76 (by decide) ?_
    exact p_x_X2_pattern_80 g hst N _ _ hK12 hK111 q26.2 x0 (some a23) (1 : Int32) _ hq
def x_X2_pattern_52 (g : AG) (N : Nat) (K12 : AH → Nat → Option Nat → Option ((String ⊕ Option Nat) × AH)) (K111 : AH → Nat → Option Nat → Option ((String ⊕ Option Nat) × AH)) (h : AH) (x0 : Nat) (r1 : Option Nat) : Option ((String ⊕ Option Nat) × AH) :=
  x_X2_pattern_57 g N K12 K111 h x0 r1 (1 : Int32)
theorem p_x_X2_pattern_52 (g : AG) (hst : (gL g).stackTraces = false) (N : Nat) (K12 : AH → Nat → Option Nat → Option ((String ⊕ Option Nat) × AH)) (K111 : AH → Nat → Option Nat → Option ((String ⊕ Option Nat) × AH)) (hK12 : ∀ (h : AH) (x0 : Nat) (r1 : Option Nat) (q : ((String ⊕ Option Nat) × AH)), K12 h x0 r1 = some q → AW g YX2_pattern 11 (tR q) h [some (.ref x0), some (va_rf r1)] 12 []) (hK111 : ∀ (h : AH) (x0 : Nat) (r1 : Option Nat) (q : ((String ⊕ Option Nat) × AH)), K111 h x0 r1 = some q → AW g YX2_pattern 11 (tR q) h [some (.ref x0), some (va_rf r1)] 111 []) : ∀ (h : AH) (x0 : Nat) (r1 : Option Nat) (q : ((String ⊕ Option Nat) × AH)), x_X2_pattern_52 g N K12 K111 h x0 r1 = some q → AW g YX2_pattern 11 (tR q) h [some (.ref x0), some (va_rf r1)] 52 [.ref x0] := by
  intro h x0 r1 q hq
  unfold x_X2_pattern_52 at hq
  refine aw_iconst (v := 1) dX2_pattern_52 (by decide) ?_
  refine aw_goto (tgt := 57) dX2_pattern_53 (by decide) ?_
  exact p_x_X2_pattern_57 g hst N _ _ hK12 hK111 h x0 r1 (1 : Int32) _ hq
def x_X2_pattern_26 (g : AG) (N : Nat) (K12 : AH → Nat → Option Nat → Option ((String ⊕ Option Nat) × AH)) (K111 : AH → Nat → Option Nat → Option ((String ⊕ Option Nat) × AH)) (h : AH) (x0 : Nat) (r1 : Option Nat) : Option ((String ⊕ Option Nat) × AH) :=
  bif clB h x0 [1] then ((x_X2_isOfName g N h x0).bind fun q13 => if q13.1 = 0 then (bif clB q13.2 x0 [1] then ((x_X2_peek g N q13.2 x0).bind fun q49 => if q49.1 = (42 : Int32) then (x_X2_pattern_52 g N K12 K111 q49.2 x0 r1) else (bif clB q49.2 x0 [1] then ((x_X2_peek g N q49.2 x0).bind fun q53 => if q53.1 = (63 : Int32) then (x_X2_pattern_52 g N K12 K111 q53.2 x0 r1) else (x_X2_pattern_57 g N K12 K111 q53.2 x0 r1 (0 : Int32))) else none)) else none) else (x_X2_pattern_52 g N K12 K111 q13.2 x0 r1)) else none
theorem p_x_X2_pattern_26 (g : AG) (hst : (gL g).stackTraces = false) (N : Nat) (K12 : AH → Nat → Option Nat → Option ((String ⊕ Option Nat) × AH)) (K111 : AH → Nat → Option Nat → Option ((String ⊕ Option Nat) × AH)) (hK12 : ∀ (h : AH) (x0 : Nat) (r1 : Option Nat) (q : ((String ⊕ Option Nat) × AH)), K12 h x0 r1 = some q → AW g YX2_pattern 11 (tR q) h [some (.ref x0), some (va_rf r1)] 12 []) (hK111 : ∀ (h : AH) (x0 : Nat) (r1 : Option Nat) (q : ((String ⊕ Option Nat) × AH)), K111 h x0 r1 = some q → AW g YX2_pattern 11 (tR q) h [some (.ref x0), some (va_rf r1)] 111 []) : ∀ (h : AH) (x0 : Nat) (r1 : Option Nat) (q : ((String ⊕ Option Nat) × AH)), x_X2_pattern_26 g N K12 K111 h x0 r1 = some q → AW g YX2_pattern 11 (tR q) h [some (.ref x0), some (va_rf r1)] 26 [] := by
  intro h x0 r1 q hq
  unfold x_X2_pattern_26 at hq
  refine aw_aload_n (i := 0) dX2_pattern_26 rfl rfl trivial ?_
  refine aw_aload_n (i := 0) dX2_pattern_27 rfl rfl trivial ?_
  replace hq := cond_t hq
  obtain ⟨z12, hq⟩ := hq
  obtain ⟨fs9, ha9⟩ := clB1 z12
  replace hq := obind hq
  obtain ⟨q13, e14, hq⟩ := hq
  refine aw_callV (Y2 := YX2_isOfName) (As := []) (rest := [.ref x0]) (r := (RX2, TX2, 9)) kX2_isOfName ha9 rfl rfl q396 q398 qs0 dX2_pattern_28 rfl rfl (ct_X2_isOfName g hst N h x0 _ e14) (Nat.le_of_ble_eq_true rfl) (Nat.le_of_ble_eq_true rfl) (fun v9 h9 z9 y9 => ?_)
  obtain ⟨rfl, rfl⟩ := y9
  refine aw_st (st' := [.int q13.1, .ref x0]) rfl ?_
  refine aw_if_ne (tgt := 52) dX2_pattern_31 (by decide) (fun c15 => ?_) (fun c15 => ?_)
  · rw [if_neg c15] at hq
    exact p_x_X2_pattern_52 g hst N _ _ hK12 hK111 q13.2 x0 r1 _ hq
  · rw [if_pos c15] at hq
    refine aw_aload_n (i := 0) dX2_pattern_34 rfl rfl trivial ?_
    replace hq := cond_t hq
    obtain ⟨z48, hq⟩ := hq
    obtain ⟨fs9, ha9⟩ := clB1 z48
    replace hq := obind hq
    obtain ⟨q49, e50, hq⟩ := hq
    refine aw_callV (Y2 := YX2_peek) (As := []) (rest := [.ref x0]) (r := (RX2, TX2, 9)) kX2_peek ha9 rfl rfl q400 q401 q402 dX2_pattern_35 rfl rfl (ct_X2_peek g hst N q13.2 x0 _ e50) (Nat.le_of_ble_eq_true rfl) (Nat.le_of_ble_eq_true rfl) (fun v9 h9 z9 y9 => ?_)
    obtain ⟨rfl, rfl⟩ := y9
    refine aw_st (st' := [.int q49.1, .ref x0]) rfl ?_
    refine aw_bipush (v := 42) dX2_pattern_38 (by decide) ?_
    refine aw_icmp_eq (tgt := 52) dX2_pattern_40 (by decide) (fun c51 => ?_) (fun c51 => ?_)
    · rw [if_pos c51] at hq
      exact p_x_X2_pattern_52 g hst N _ _ hK12 hK111 q49.2 x0 r1 _ hq
    · rw [if_neg c51] at hq
      refine aw_aload_n (i := 0) dX2_pattern_43 rfl rfl trivial ?_
      replace hq := cond_t hq
      obtain ⟨z52, hq⟩ := hq
      obtain ⟨fs9, ha9⟩ := clB1 z52
      replace hq := obind hq
      obtain ⟨q53, e54, hq⟩ := hq
      refine aw_callV (Y2 := YX2_peek) (As := []) (rest := [.ref x0]) (r := (RX2, TX2, 9)) kX2_peek ha9 rfl rfl q400 q401 q402 dX2_pattern_44 rfl rfl (ct_X2_peek g hst N q49.2 x0 _ e54) (Nat.le_of_ble_eq_true rfl) (Nat.le_of_ble_eq_true rfl) (fun v9 h9 z9 y9 => ?_)
      obtain ⟨rfl, rfl⟩ := y9
      refine aw_st (st' := [.int q53.1, .ref x0]) rfl ?_
      refine aw_bipush (v := 63) dX2_pattern_47 (by decide) ?_
      refine aw_icmp_ne (tgt := 56) dX2_pattern_49 (by decide) (fun c55 => ?_) (fun c55 => ?_)
      · rw [if_neg c55] at hq
        refine aw_iconst (v := 0) dX2_pattern_56 (by decide) ?_
        exact p_x_X2_pattern_57 g hst N _ _ hK12 hK111 q53.2 x0 r1 (0 : Int32) _ hq
      · rw [if_pos c55] at hq
        exact p_x_X2_pattern_52 g hst N _ _ hK12 hK111 q53.2 x0 r1 _ hq
def x_X2_pattern_12 (g : AG) (N : Nat) (K111 : AH → Nat → Option Nat → Option ((String ⊕ Option Nat) × AH)) : Nat → AH → Nat → Option Nat → Option ((String ⊕ Option Nat) × AH)
  | 0, _, _, _ => none
  | n9 + 1, h, x0, r1 =>
  bif clB h x0 [1] then ((x_X2_isBehindWord g N h x0).bind fun q9 => if q9.1 = 0 then (x_X2_pattern_26 g N (fun h x0 r1 => x_X2_pattern_12 g N K111 n9 h x0 r1) K111 q9.2 x0 r1) else ((r1).bind fun a56 => bif clB q9.2 a56 [16] then ((x_J12_length g N q9.2 a56).bind fun q59 => if q59.1 = 0 then (x_X2_pattern_26 g N (fun h x0 r1 => x_X2_pattern_12 g N K111 n9 h x0 r1) K111 q59.2 x0 (some a56)) else (K111 q59.2 x0 (some a56))) else none)) else none
theorem p_x_X2_pattern_12 (g : AG) (hst : (gL g).stackTraces = false) (N : Nat) (K111 : AH → Nat → Option Nat → Option ((String ⊕ Option Nat) × AH)) (hK111 : ∀ (h : AH) (x0 : Nat) (r1 : Option Nat) (q : ((String ⊕ Option Nat) × AH)), K111 h x0 r1 = some q → AW g YX2_pattern 11 (tR q) h [some (.ref x0), some (va_rf r1)] 111 []) : ∀ (n9 : Nat) (h : AH) (x0 : Nat) (r1 : Option Nat) (q : ((String ⊕ Option Nat) × AH)), x_X2_pattern_12 g N K111 n9 h x0 r1 = some q → AW g YX2_pattern 11 (tR q) h [some (.ref x0), some (va_rf r1)] 12 [] := by
  intro n9
  induction n9 with
  | zero =>
    intro h x0 r1 q hq
    cases hq
  | succ n9 ih =>
    intro h x0 r1 q hq
    rw [x_X2_pattern_12] at hq
    refine aw_aload_n (i := 0) dX2_pattern_12 rfl rfl trivial ?_
    replace hq := cond_t hq
    obtain ⟨z8, hq⟩ := hq
    obtain ⟨fs9, ha9⟩ := clB1 z8
    replace hq := obind hq
    obtain ⟨q9, e10, hq⟩ := hq
    refine aw_callV (Y2 := YX2_isBehindWord) (As := []) (rest := []) (r := (RX2, TX2, 9)) kX2_isBehindWord ha9 rfl rfl q1772 q1774 qs32 dX2_pattern_13 rfl rfl (ct_X2_isBehindWord g hst N h x0 _ e10) (Nat.le_of_ble_eq_true rfl) (Nat.le_of_ble_eq_true rfl) (fun v9 h9 z9 y9 => ?_)
    obtain ⟨rfl, rfl⟩ := y9
    refine aw_st (st' := [.int q9.1]) rfl ?_
    refine aw_if_eq (tgt := 26) dX2_pattern_16 (by decide) (fun c11 => ?_) (fun c11 => ?_)
    · rw [if_pos c11] at hq
      exact p_x_X2_pattern_26 g hst N _ _ ih hK111 q9.2 x0 r1 _ hq
    · rw [if_neg c11] at hq
      refine aw_aload_n (i := 1) dX2_pattern_19 rfl rfl (aIsR_rf _) ?_
      replace hq := obind hq
      obtain ⟨a56, e57, hq⟩ := hq
      subst e57
      replace hq := cond_t hq
      obtain ⟨z58, hq⟩ := hq
      obtain ⟨fs9, ha9⟩ := clB1 z58
      replace hq := obind hq
      obtain ⟨q59, e60, hq⟩ := hq
      refine aw_callV (Y2 := YJ12_length) (As := []) (rest := []) (r := (RJ12, TJ12, 4)) kJ12_length ha9 rfl rfl q513 q514 q515 dX2_pattern_20 rfl rfl (ct_J12_length g hst N q9.2 a56 _ e60) (Nat.le_of_ble_eq_true rfl) (Nat.le_of_ble_eq_true rfl) (fun v9 h9 z9 y9 => ?_)
      obtain ⟨rfl, rfl⟩ := y9
      refine aw_st (st' := [.int q59.1]) rfl ?_
      refine aw_if_ne (tgt := 111) dX2_pattern_23 (by decide) (fun c61 => ?_) (fun c61 => ?_)
      · rw [if_neg c61] at hq
        exact hK111 q59.2 x0 (some a56) _ hq
      · rw [if_pos c61] at hq
        exact p_x_X2_pattern_26 g hst N _ _ ih hK111 q59.2 x0 (some a56) _ hq
def x_X2_pattern (g : AG) (N : Nat) (h : AH) (x0 : Nat) : Option ((String ⊕ Option Nat) × AH) :=
  bif clB h x0 [1] then ((x_X2_blanks g N h x0).bind fun q2 => (mkO g q2 4 16 [.null, .int 0, .int 0, .int 0]).bind fun h4 => (x_J12_init g N h4 q2.2.1).bind fun q6 => x_X2_pattern_12 g N (fun h x0 r1 => (r1).bind fun a62 => bif clB h a62 [16] then ((x_J12_toString g N h a62).bind fun q65 => some (.inr q65.1, q65.2)) else none) N q6 x0 (some q2.2.1)) else none
theorem ct_X2_pattern (g : AG) (hst : (gL g).stackTraces = false) (N : Nat) : ∀ (h : AH) (x0 : Nat) (q : ((String ⊕ Option Nat) × AH)), x_X2_pattern g N h x0 = some q → CT g YX2_pattern 11 [.ref x0] h (tR q) := by
  intro h x0 q hq
  refine CT.of rfl (by decide +kernel) (loc := [some (.ref x0), none]) (by first | exact Nat.le_of_ble_eq_true rfl | (simp only [lgl_rf, lgl_i, lgl_j, lgl_ref, lgl_nil]; exact Nat.le_of_ble_eq_true rfl)) (by first | rfl | (simp only [aent_rf, aent_i, aent_j, aent_ref, aent_nil]; rfl)) ?_
  unfold x_X2_pattern at hq
  refine aw_aload_n (i := 0) dX2_pattern_0 rfl rfl trivial ?_
  replace hq := cond_t hq
  obtain ⟨z1, hq⟩ := hq
  obtain ⟨fs9, ha9⟩ := clB1 z1
  replace hq := obind hq
  obtain ⟨q2, e3, hq⟩ := hq
  refine aw_callV (Y2 := YX2_blanks) (As := []) (rest := []) (r := (RX2, TX2, 9)) kX2_blanks ha9 rfl rfl q1768 q1769 q1770 dX2_pattern_1 rfl rfl (ct_X2_blanks g hst N h x0 _ e3) (Nat.le_of_ble_eq_true rfl) (Nat.le_of_ble_eq_true rfl) (fun v9 h9 z9 y9 => ?_)
  obtain ⟨rfl, y9⟩ := y9
  rw [y9]
  refine aw_st (st' := []) rfl ?_
  replace hq := obind hq
  obtain ⟨h4, e5, hq⟩ := hq
  refine xw_new (r := (RJ12, TJ12, 4)) e5 q482 q483 q133 (by decide) rfl okJ12 rfl dfJ12 dX2_pattern_4 ?_
  refine aw_dup dX2_pattern_7 rfl ?_
  replace hq := obind hq
  obtain ⟨q6, e7, hq⟩ := hq
  refine aw_callI (Y2 := YJ12_init) (As := []) (rest := [.ref q2.2.1]) (b := q2.2.1) kJ12_init rfl rfl q484 q485 dX2_pattern_8 rfl rfl (ct_J12_init g hst N h4 q2.2.1 _ e7) (Nat.le_of_ble_eq_true rfl) (Nat.le_of_ble_eq_true rfl) (fun v9 h9 z9 y9 => ?_)
  obtain ⟨rfl, y9⟩ := y9
  rw [y9]
  refine aw_st (st' := [.ref q2.2.1]) rfl ?_
  refine aw_astore_n (i := 1) (loc' := [some (.ref x0), some (.ref q2.2.1)]) dX2_pattern_11 rfl (Nat.le_of_ble_eq_true rfl) trivial rfl ?_
  refine p_x_X2_pattern_12 g hst N _ ?_ N q6 x0 (some q2.2.1) _ hq
  · intro h x0 r1 q hq
    refine aw_aload_n (i := 1) dX2_pattern_111 rfl rfl (aIsR_rf _) ?_
    replace hq := obind hq
    obtain ⟨a62, e63, hq⟩ := hq
    subst e63
    replace hq := cond_t hq
    obtain ⟨z64, hq⟩ := hq
    obtain ⟨fs9, ha9⟩ := clB1 z64
    replace hq := obind hq
    obtain ⟨q65, e66, hq⟩ := hq
    refine aw_callV (Y2 := YJ12_toString) (As := []) (rest := []) (r := (RJ12, TJ12, 4)) kJ12_toString ha9 rfl rfl q615 q616 q617 dX2_pattern_112 rfl rfl (ct_J12_toString g hst N h a62 _ e66) (Nat.le_of_ble_eq_true rfl) (Nat.le_of_ble_eq_true rfl) (fun v9 h9 z9 y9 => ?_)
    obtain ⟨rfl, rfl⟩ := y9
    refine aw_st (st' := [va_rf q65.1]) rfl ?_
    cases hq
    exact aw_areturn dX2_pattern_115 rfl (Or.inl ⟨_, rfl⟩) (aIsR_rf _) ⟨rfl, rfl⟩
theorem fX9_9 : ∀ q ∈ ([(7, 5)] : List (Nat × Nat)), aFl RX9 9 q.1 q.2 := by
  intro q hq
  simp only [List.mem_cons, List.not_mem_nil, or_false] at hq
  subst hq
  exact aFl.of (RX9, TX9, 8) rfl (Nat.le_of_ble_eq_true rfl) q1864
theorem tX9_5 : ∀ q ∈ ([(7, 5)] : List (Nat × Nat)), aFt q.1 q.2 false .int := by
  intro q hq
  simp only [List.mem_cons, List.not_mem_nil, or_false] at hq
  subst hq
  exact ⟨(RX9, TX9, 8), tyX9, Nat.le_of_ble_eq_true rfl, rfl, Nat.le_of_ble_eq_true rfl, okX9, rfl, rfl⟩
theorem fX9_15 : ∀ q ∈ ([(7, 7)] : List (Nat × Nat)), aFl RX9 15 q.1 q.2 := by
  intro q hq
  simp only [List.mem_cons, List.not_mem_nil, or_false] at hq
  subst hq
  exact aFl.of (RX9, TX9, 8) rfl (Nat.le_of_ble_eq_true rfl) q1870
theorem tX9_7f : ∀ q ∈ ([(7, 7)] : List (Nat × Nat)), aFt q.1 q.2 true (.array .int) := by
  intro q hq
  simp only [List.mem_cons, List.not_mem_nil, or_false] at hq
  subst hq
  exact ⟨(RX9, TX9, 8), tyX9, Nat.le_of_ble_eq_true rfl, rfl, Nat.le_of_ble_eq_true rfl, okX9, rfl, rfl⟩
theorem gX9_15 : ∀ q ∈ ([(7, 7)] : List (Nat × Nat)), ∃ r0 : vw_C, aCl[q.1]? = some r0 ∧ (r0.2.1 q.2).1 = RX9 ∧ Cond.fieldLink RX9 15 (r0.2.1 q.2).1 (r0.2.1 q.2).2.1 (r0.2.1 q.2).2.2.1 ∈ lw_all := by
  intro q hq
  simp only [List.mem_cons, List.not_mem_nil, or_false] at hq
  subst hq
  exact ⟨(RX9, TX9, 8), rfl, rfl, q1870⟩
theorem fX9_19 : ∀ q ∈ ([(7, 0)] : List (Nat × Nat)), aFl RX9 19 q.1 q.2 := by
  intro q hq
  simp only [List.mem_cons, List.not_mem_nil, or_false] at hq
  subst hq
  exact aFl.of (RX9, TX9, 8) rfl (Nat.le_of_ble_eq_true rfl) q1854
theorem tX9_0f : ∀ q ∈ ([(7, 0)] : List (Nat × Nat)), aFt q.1 q.2 true .int := by
  intro q hq
  simp only [List.mem_cons, List.not_mem_nil, or_false] at hq
  subst hq
  exact ⟨(RX9, TX9, 8), tyX9, Nat.le_of_ble_eq_true rfl, rfl, Nat.le_of_ble_eq_true rfl, okX9, rfl, rfl⟩
theorem gX9_19 : ∀ q ∈ ([(7, 0)] : List (Nat × Nat)), ∃ r0 : vw_C, aCl[q.1]? = some r0 ∧ (r0.2.1 q.2).1 = RX9 ∧ Cond.fieldLink RX9 19 (r0.2.1 q.2).1 (r0.2.1 q.2).2.1 (r0.2.1 q.2).2.2.1 ∈ lw_all := by
  intro q hq
  simp only [List.mem_cons, List.not_mem_nil, or_false] at hq
  subst hq
  exact ⟨(RX9, TX9, 8), rfl, rfl, q1854⟩
theorem tX9_1f : ∀ q ∈ ([(7, 1)] : List (Nat × Nat)), aFt q.1 q.2 true (.object "java/lang/String") := by
  intro q hq
  simp only [List.mem_cons, List.not_mem_nil, or_false] at hq
  subst hq
  exact ⟨(RX9, TX9, 8), tyX9, Nat.le_of_ble_eq_true rfl, rfl, Nat.le_of_ble_eq_true rfl, okX9, rfl, rfl⟩
theorem gX9_22 : ∀ q ∈ ([(7, 1)] : List (Nat × Nat)), ∃ r0 : vw_C, aCl[q.1]? = some r0 ∧ (r0.2.1 q.2).1 = RX9 ∧ Cond.fieldLink RX9 22 (r0.2.1 q.2).1 (r0.2.1 q.2).2.1 (r0.2.1 q.2).2.2.1 ∈ lw_all := by
  intro q hq
  simp only [List.mem_cons, List.not_mem_nil, or_false] at hq
  subst hq
  exact ⟨(RX9, TX9, 8), rfl, rfl, q1857⟩
abbrev YX9_init : YC := (yX9_init, cX9_init, 3, none, [])
theorem kX9_init : aMk YX9_init 2 := ⟨rfl, q1852, q159, ⟨by decide +kernel, by decide +kernel, by decide +kernel⟩, Nat.le_of_ble_eq_true rfl⟩
def x_X9_init (g : AG) (N : Nat) (h : AH) (x0 : Nat) (x1 : Int32) (r2 : Option Nat) : Option AH :=
  (wrV g h x0 [(7, 5)] (.int (99 : Int32))).bind fun h1 => (mkA g h1 0 (48 : Int32) (.int 0)).bind fun h3 => (wrV g h3 x0 [(7, 7)] (.ref h1.2.1)).bind fun h5 => (wrV g h5 x0 [(7, 0)] (.int x1)).bind fun h7 => (wrV g h7 x0 [(7, 1)] (va_rf r2)).bind fun h9 => some h9
theorem ct_X9_init (g : AG) (hst : (gL g).stackTraces = false) (N : Nat) : ∀ (h : AH) (x0 : Nat) (x1 : Int32) (r2 : Option Nat) (q : AH), x_X9_init g N h x0 x1 r2 = some q → CT g YX9_init 3 [.ref x0, .int x1, va_rf r2] h (xV q) := by
  intro h x0 x1 r2 q hq
  refine CT.of rfl (by decide +kernel) (loc := [some (.ref x0), some (.int x1), some (va_rf r2)]) (by first | exact Nat.le_of_ble_eq_true rfl | (simp only [lgl_rf, lgl_i, lgl_j, lgl_ref, lgl_nil]; exact Nat.le_of_ble_eq_true rfl)) (by first | rfl | (simp only [aent_rf, aent_i, aent_j, aent_ref, aent_nil]; rfl)) ?_
  unfold x_X9_init at hq
  refine aw_aload_n (i := 0) dX9_init_0 rfl rfl trivial ?_
  refine aw_objInit q1853 qObjI qObjC (by omega) (Nat.le_of_ble_eq_true rfl) dX9_init_1 ?_
  refine aw_aload_n (i := 0) dX9_init_4 rfl rfl trivial ?_
  refine aw_bipush (v := 99) dX9_init_5 (by decide) ?_
  replace hq := obind hq
  obtain ⟨h1, e2, hq⟩ := hq
  refine xw_put e2 fX9_9 tX9_5 ⟨rfl, rfl⟩ dX9_init_7 ?_
  refine aw_aload_n (i := 0) dX9_init_10 rfl rfl trivial ?_
  refine aw_bipush (v := 48) dX9_init_11 (by decide) ?_
  replace hq := obind hq
  obtain ⟨h3, e4, hq⟩ := hq
  refine xw_newa (atype := .int) e4 q314 rfl (by decide) rfl (by decide) dX9_init_13 ?_
  replace hq := obind hq
  obtain ⟨h5, e6, hq⟩ := hq
  refine xw_putF e6 fX9_15 tX9_7f rfl gX9_15 (fits_rfA _ (some h1.2.1)) dX9_init_15 ?_
  refine aw_aload_n (i := 0) dX9_init_18 rfl rfl trivial ?_
  refine aw_iload_n (i := 1) dX9_init_19 rfl rfl ?_
  replace hq := obind hq
  obtain ⟨h7, e8, hq⟩ := hq
  refine xw_putF e8 fX9_19 tX9_0f rfl gX9_19 ⟨rfl, rfl⟩ dX9_init_20 ?_
  refine aw_aload_n (i := 0) dX9_init_23 rfl rfl trivial ?_
  refine aw_aload_n (i := 2) dX9_init_24 rfl rfl (aIsR_rf _) ?_
  replace hq := obind hq
  obtain ⟨h9, e10, hq⟩ := hq
  refine xw_putF e10 fX9_22 tX9_1f rfl gX9_22 (fits_rf _ r2) dX9_init_25 ?_
  cases hq
  exact aw_vret dX9_init_28 rfl ⟨rfl, rfl⟩
abbrev YX2_row : YC := (yX2_row, cX2_row, 2, (some (.object "java/lang/String")), [])
theorem kX2_row : aMk YX2_row 0 := ⟨rfl, q481, q117, ⟨by decide +kernel, by decide +kernel, by decide +kernel⟩, Nat.le_of_ble_eq_true rfl⟩
def x_X2_row_30 (g : AG) (N : Nat) (K8 : AH → Nat → Option Nat → Option ((String ⊕ Option Nat) × AH)) (K61 : AH → Nat → Option Nat → Option ((String ⊕ Option Nat) × AH)) (h : AH) (x0 : Nat) (r1 : Option Nat) (s1 : Int32) : Option ((String ⊕ Option Nat) × AH) :=
  (rdI h x0 [(1, 2)]).bind fun i15 => bif clB h x0 [1] then ((x_X2_want g N h x0 s1 (3 : Int32) i15).bind fun q18 => tcase q18.1 (fun E20 => some (.inl E20, q18.2)) (fun v21 => bif clB q18.2 x0 [1] then ((x_X2_peek g N q18.2 x0).bind fun q23 => (r1).bind fun a25 => bif clB q23.2 a25 [16] then ((x_J12_append g N q23.2 a25 ((q23.1.toUInt32 % 65536).toInt32)).bind fun q28 => (rdI q28.2 x0 [(1, 2)]).bind fun i30 => (wrV g q28.2 x0 [(1, 2)] (.int (i30 + (1 : Int32)))).bind fun h32 => K8 h32 x0 (some a25)) else none) else none)) else none
theorem p_x_X2_row_30 (g : AG) (hst : (gL g).stackTraces = false) (N : Nat) (K8 : AH → Nat → Option Nat → Option ((String ⊕ Option Nat) × AH)) (K61 : AH → Nat → Option Nat → Option ((String ⊕ Option Nat) × AH)) (hK8 : ∀ (h : AH) (x0 : Nat) (r1 : Option Nat) (q : ((String ⊕ Option Nat) × AH)), K8 h x0 r1 = some q → AW g YX2_row 11 (tR q) h [some (.ref x0), some (va_rf r1)] 8 []) (hK61 : ∀ (h : AH) (x0 : Nat) (r1 : Option Nat) (q : ((String ⊕ Option Nat) × AH)), K61 h x0 r1 = some q → AW g YX2_row 11 (tR q) h [some (.ref x0), some (va_rf r1)] 61 []) : ∀ (h : AH) (x0 : Nat) (r1 : Option Nat) (s1 : Int32) (q : ((String ⊕ Option Nat) × AH)), x_X2_row_30 g N K8 K61 h x0 r1 s1 = some q → AW g YX2_row 11 (tR q) h [some (.ref x0), some (va_rf r1)] 30 [.int s1, .ref x0] := by
  intro h x0 r1 s1 q hq
  unfold x_X2_row_30 at hq
  refine aw_iconst (v := 3) dX2_row_30 (by decide) ?_
  refine aw_aload_n (i := 0) dX2_row_31 rfl rfl trivial ?_
  replace hq := obind hq
  obtain ⟨i15, e16, hq⟩ := hq
  refine xw_getI e16 fX2_38 dX2_row_32 ?_
  replace hq := cond_t hq
  obtain ⟨z17, hq⟩ := hq
  obtain ⟨fs9, ha9⟩ := clB1 z17
  replace hq := obind hq
  obtain ⟨q18, e19, hq⟩ := hq
  refine aw_callVX (Y2 := YX2_want) (As := [.int s1, .int (3 : Int32), .int i15]) (rest := []) (r := (RX2, TX2, 9)) kX2_want ha9 rfl rfl q407 q408 q409 dX2_row_35 rfl rfl (ct_X2_want g hst N h x0 s1 (3 : Int32) i15 _ e19) (Nat.le_of_ble_eq_true rfl) (Nat.le_of_ble_eq_true rfl) (fun v9 h9 z9 y9 => ?_) (fun E20 h9 z9 y9 => ?_)
  rotate_left
  · obtain ⟨e9, rfl⟩ := tV_exc y9
    replace hq := tcase_l e9 hq
    cases hq
    exact ax_out (by decide) ⟨rfl, rfl⟩
  obtain ⟨v21, e9, rfl, rfl⟩ := tV_ret y9
  replace hq := tcase_r e9 hq
  refine aw_st (st' := []) rfl ?_
  refine aw_aload_n (i := 1) dX2_row_38 rfl rfl (aIsR_rf _) ?_
  refine aw_aload_n (i := 0) dX2_row_39 rfl rfl trivial ?_
  replace hq := cond_t hq
  obtain ⟨z22, hq⟩ := hq
  obtain ⟨fs9, ha9⟩ := clB1 z22
  replace hq := obind hq
  obtain ⟨q23, e24, hq⟩ := hq
  refine aw_callV (Y2 := YX2_peek) (As := []) (rest := [va_rf r1]) (r := (RX2, TX2, 9)) kX2_peek ha9 rfl rfl q400 q401 q402 dX2_row_40 rfl rfl (ct_X2_peek g hst N q18.2 x0 _ e24) (Nat.le_of_ble_eq_true rfl) (by simp only [List.map_cons, List.map_nil, List.sum_cons, List.sum_nil, cat_rf]; exact Nat.le_of_ble_eq_true rfl) (fun v9 h9 z9 y9 => ?_)
  obtain ⟨rfl, rfl⟩ := y9
  refine aw_st (st' := [.int q23.1, va_rf r1]) rfl ?_
  refine aw_i2c dX2_row_43 ?_
  replace hq := obind hq
  obtain ⟨a25, e26, hq⟩ := hq
  subst e26
  replace hq := cond_t hq
  obtain ⟨z27, hq⟩ := hq
  obtain ⟨fs9, ha9⟩ := clB1 z27
  replace hq := obind hq
  obtain ⟨q28, e29, hq⟩ := hq
  refine aw_callV (Y2 := YJ12_append) (As := [.int ((q23.1.toUInt32 % 65536).toInt32)]) (rest := []) (r := (RJ12, TJ12, 4)) kJ12_append ha9 rfl rfl q520 q521 q522 dX2_row_44 rfl rfl (ct_J12_append g hst N q23.2 a25 ((q23.1.toUInt32 % 65536).toInt32) _ e29) (Nat.le_of_ble_eq_true rfl) (Nat.le_of_ble_eq_true rfl) (fun v9 h9 z9 y9 => ?_)
  obtain ⟨rfl, rfl⟩ := y9
  refine aw_st (st' := [va_rf q28.1]) rfl ?_
  refine aw_pop dX2_row_47 (cat_rf _) ?_
  refine aw_aload_n (i := 0) dX2_row_48 rfl rfl trivial ?_
  refine aw_dup dX2_row_49 rfl ?_
  replace hq := obind hq
  obtain ⟨i30, e31, hq⟩ := hq
  refine xw_getI e31 fX2_38 dX2_row_50 ?_
  refine aw_iconst (v := 1) dX2_row_53 (by decide) ?_
  refine aw_iadd dX2_row_54 ?_
  replace hq := obind hq
  obtain ⟨h32, e33, hq⟩ := hq
  refine xw_put e33 fX2_38 tX2_2 ⟨rfl, rfl⟩ dX2_row_55 ?_
  refine aw_goto (tgt := 8) dX2_row_58 (by decide) ?_
  exact hK8 h32 x0 (some a25) _ hq
def x_X2_row_8 (g : AG) (N : Nat) (K61 : AH → Nat → Option Nat → Option ((String ⊕ Option Nat) × AH)) : Nat → AH → Nat → Option Nat → Option ((String ⊕ Option Nat) × AH)
  | 0, _, _, _ => none
  | n9 + 1, h, x0, r1 =>
  bif clB h x0 [1] then ((x_X2_isOfName g N h x0).bind fun q6 => if q6.1 = 0 then (K61 q6.2 x0 r1) else ((r1).bind fun a9 => bif clB q6.2 a9 [16] then ((x_J12_length g N q6.2 a9).bind fun q12 => if (12 : Int32) ≤ q12.1 then (x_X2_row_30 g N (fun h x0 r1 => x_X2_row_8 g N K61 n9 h x0 r1) K61 q12.2 x0 (some a9) (0 : Int32)) else (x_X2_row_30 g N (fun h x0 r1 => x_X2_row_8 g N K61 n9 h x0 r1) K61 q12.2 x0 (some a9) (1 : Int32))) else none)) else none
theorem p_x_X2_row_8 (g : AG) (hst : (gL g).stackTraces = false) (N : Nat) (K61 : AH → Nat → Option Nat → Option ((String ⊕ Option Nat) × AH)) (hK61 : ∀ (h : AH) (x0 : Nat) (r1 : Option Nat) (q : ((String ⊕ Option Nat) × AH)), K61 h x0 r1 = some q → AW g YX2_row 11 (tR q) h [some (.ref x0), some (va_rf r1)] 61 []) : ∀ (n9 : Nat) (h : AH) (x0 : Nat) (r1 : Option Nat) (q : ((String ⊕ Option Nat) × AH)), x_X2_row_8 g N K61 n9 h x0 r1 = some q → AW g YX2_row 11 (tR q) h [some (.ref x0), some (va_rf r1)] 8 [] := by
  intro n9
  induction n9 with
  | zero =>
    intro h x0 r1 q hq
    cases hq
  | succ n9 ih =>
    intro h x0 r1 q hq
    rw [x_X2_row_8] at hq
    refine aw_aload_n (i := 0) dX2_row_8 rfl rfl trivial ?_
    replace hq := cond_t hq
    obtain ⟨z5, hq⟩ := hq
    obtain ⟨fs9, ha9⟩ := clB1 z5
    replace hq := obind hq
    obtain ⟨q6, e7, hq⟩ := hq
    refine aw_callV (Y2 := YX2_isOfName) (As := []) (rest := []) (r := (RX2, TX2, 9)) kX2_isOfName ha9 rfl rfl q396 q398 qs0 dX2_row_9 rfl rfl (ct_X2_isOfName g hst N h x0 _ e7) (Nat.le_of_ble_eq_true rfl) (Nat.le_of_ble_eq_true rfl) (fun v9 h9 z9 y9 => ?_)
    obtain ⟨rfl, rfl⟩ := y9
    refine aw_st (st' := [.int q6.1]) rfl ?_
    refine aw_if_eq (tgt := 61) dX2_row_12 (by decide) (fun c8 => ?_) (fun c8 => ?_)
    · rw [if_pos c8] at hq
      exact hK61 q6.2 x0 r1 _ hq
    · rw [if_neg c8] at hq
      refine aw_aload_n (i := 0) dX2_row_15 rfl rfl trivial ?_
      refine aw_aload_n (i := 1) dX2_row_16 rfl rfl (aIsR_rf _) ?_
      replace hq := obind hq
      obtain ⟨a9, e10, hq⟩ := hq
      subst e10
      replace hq := cond_t hq
      obtain ⟨z11, hq⟩ := hq
      obtain ⟨fs9, ha9⟩ := clB1 z11
      replace hq := obind hq
      obtain ⟨q12, e13, hq⟩ := hq
      refine aw_callV (Y2 := YJ12_length) (As := []) (rest := [.ref x0]) (r := (RJ12, TJ12, 4)) kJ12_length ha9 rfl rfl q513 q514 q515 dX2_row_17 rfl rfl (ct_J12_length g hst N q6.2 a9 _ e13) (Nat.le_of_ble_eq_true rfl) (Nat.le_of_ble_eq_true rfl) (fun v9 h9 z9 y9 => ?_)
      obtain ⟨rfl, rfl⟩ := y9
      refine aw_st (st' := [.int q12.1, .ref x0]) rfl ?_
      refine aw_bipush (v := 12) dX2_row_20 (by decide) ?_
      refine aw_icmp_ge (tgt := 29) dX2_row_22 (by decide) (fun c14 => ?_) (fun c14 => ?_)
      · rw [if_pos c14] at hq
        refine aw_iconst (v := 0) dX2_row_29 (by decide) ?_
        exact p_x_X2_row_30 g hst N _ _ ih hK61 q12.2 x0 (some a9) (0 : Int32) _ hq
      · rw [if_neg c14] at hq
        refine aw_iconst (v := 1) dX2_row_25 (by decide) ?_
        refine aw_goto (tgt := 30) dX2_row_26 (by decide) ?_
        exact p_x_X2_row_30 g hst N _ _ ih hK61 q12.2 x0 (some a9) (1 : Int32) _ hq
def x_X2_row (g : AG) (N : Nat) (h : AH) (x0 : Nat) : Option ((String ⊕ Option Nat) × AH) :=
  (mkO g h 4 16 [.null, .int 0, .int 0, .int 0]).bind fun h1 => (x_J12_init g N h1 h.2.1).bind fun q3 => x_X2_row_8 g N (fun h x0 r1 => (r1).bind fun a34 => bif clB h a34 [16] then ((x_J12_toString g N h a34).bind fun q37 => some (.inr q37.1, q37.2)) else none) N q3 x0 (some h.2.1)
theorem ct_X2_row (g : AG) (hst : (gL g).stackTraces = false) (N : Nat) : ∀ (h : AH) (x0 : Nat) (q : ((String ⊕ Option Nat) × AH)), x_X2_row g N h x0 = some q → CT g YX2_row 11 [.ref x0] h (tR q) := by
  intro h x0 q hq
  refine CT.of rfl (by decide +kernel) (loc := [some (.ref x0), none]) (by first | exact Nat.le_of_ble_eq_true rfl | (simp only [lgl_rf, lgl_i, lgl_j, lgl_ref, lgl_nil]; exact Nat.le_of_ble_eq_true rfl)) (by first | rfl | (simp only [aent_rf, aent_i, aent_j, aent_ref, aent_nil]; rfl)) ?_
  unfold x_X2_row at hq
  replace hq := obind hq
  obtain ⟨h1, e2, hq⟩ := hq
  refine xw_new (r := (RJ12, TJ12, 4)) e2 q482 q483 q133 (by decide) rfl okJ12 rfl dfJ12 dX2_row_0 ?_
  refine aw_dup dX2_row_3 rfl ?_
  replace hq := obind hq
  obtain ⟨q3, e4, hq⟩ := hq
  refine aw_callI (Y2 := YJ12_init) (As := []) (rest := [.ref h.2.1]) (b := h.2.1) kJ12_init rfl rfl q484 q485 dX2_row_4 rfl rfl (ct_J12_init g hst N h1 h.2.1 _ e4) (Nat.le_of_ble_eq_true rfl) (Nat.le_of_ble_eq_true rfl) (fun v9 h9 z9 y9 => ?_)
  obtain ⟨rfl, y9⟩ := y9
  rw [y9]
  refine aw_st (st' := [.ref h.2.1]) rfl ?_
  refine aw_astore_n (i := 1) (loc' := [some (.ref x0), some (.ref h.2.1)]) dX2_row_7 rfl (Nat.le_of_ble_eq_true rfl) trivial rfl ?_
  refine p_x_X2_row_8 g hst N _ ?_ N q3 x0 (some h.2.1) _ hq
  · intro h x0 r1 q hq
    refine aw_aload_n (i := 1) dX2_row_61 rfl rfl (aIsR_rf _) ?_
    replace hq := obind hq
    obtain ⟨a34, e35, hq⟩ := hq
    subst e35
    replace hq := cond_t hq
    obtain ⟨z36, hq⟩ := hq
    obtain ⟨fs9, ha9⟩ := clB1 z36
    replace hq := obind hq
    obtain ⟨q37, e38, hq⟩ := hq
    refine aw_callV (Y2 := YJ12_toString) (As := []) (rest := []) (r := (RJ12, TJ12, 4)) kJ12_toString ha9 rfl rfl q615 q616 q617 dX2_row_62 rfl rfl (ct_J12_toString g hst N h a34 _ e38) (Nat.le_of_ble_eq_true rfl) (Nat.le_of_ble_eq_true rfl) (fun v9 h9 z9 y9 => ?_)
    obtain ⟨rfl, rfl⟩ := y9
    refine aw_st (st' := [va_rf q37.1]) rfl ?_
    cases hq
    exact aw_areturn dX2_row_65 rfl (Or.inl ⟨_, rfl⟩) (aIsR_rf _) ⟨rfl, rfl⟩
theorem dfJ4 : ∀ j, j < 3 → defaultValue (tyJ4 j) = vp_V [.int 0, .null, .int 0] j := by decide +kernel
theorem fX6_12 : ∀ q ∈ ([(5, 3)] : List (Nat × Nat)), aFl RX6 12 q.1 q.2 := by
  intro q hq
  simp only [List.mem_cons, List.not_mem_nil, or_false] at hq
  subst hq
  exact aFl.of (RX6, TX6, 4) rfl (Nat.le_of_ble_eq_true rfl) q899
theorem okX6 : aCK (RX6, TX6, 4) tyX6 := ⟨in_X6, tyX6_ok, nmX6⟩
theorem tX6_3f : ∀ q ∈ ([(5, 3)] : List (Nat × Nat)), aFt q.1 q.2 true (.object "java/util/List") := by
  intro q hq
  simp only [List.mem_cons, List.not_mem_nil, or_false] at hq
  subst hq
  exact ⟨(RX6, TX6, 4), tyX6, Nat.le_of_ble_eq_true rfl, rfl, Nat.le_of_ble_eq_true rfl, okX6, rfl, rfl⟩
theorem gX6_12 : ∀ q ∈ ([(5, 3)] : List (Nat × Nat)), ∃ r0 : vw_C, aCl[q.1]? = some r0 ∧ (r0.2.1 q.2).1 = RX6 ∧ Cond.fieldLink RX6 12 (r0.2.1 q.2).1 (r0.2.1 q.2).2.1 (r0.2.1 q.2).2.2.1 ∈ lw_all := by
  intro q hq
  simp only [List.mem_cons, List.not_mem_nil, or_false] at hq
  subst hq
  exact ⟨(RX6, TX6, 4), rfl, rfl, q899⟩
theorem fX6_18 : ∀ q ∈ ([(5, 0)] : List (Nat × Nat)), aFl RX6 18 q.1 q.2 := by
  intro q hq
  simp only [List.mem_cons, List.not_mem_nil, or_false] at hq
  subst hq
  exact aFl.of (RX6, TX6, 4) rfl (Nat.le_of_ble_eq_true rfl) q893
theorem tX6_0f : ∀ q ∈ ([(5, 0)] : List (Nat × Nat)), aFt q.1 q.2 true (.object "ProbeConsole$Kind") := by
  intro q hq
  simp only [List.mem_cons, List.not_mem_nil, or_false] at hq
  subst hq
  exact ⟨(RX6, TX6, 4), tyX6, Nat.le_of_ble_eq_true rfl, rfl, Nat.le_of_ble_eq_true rfl, okX6, rfl, rfl⟩
theorem gX6_18 : ∀ q ∈ ([(5, 0)] : List (Nat × Nat)), ∃ r0 : vw_C, aCl[q.1]? = some r0 ∧ (r0.2.1 q.2).1 = RX6 ∧ Cond.fieldLink RX6 18 (r0.2.1 q.2).1 (r0.2.1 q.2).2.1 (r0.2.1 q.2).2.2.1 ∈ lw_all := by
  intro q hq
  simp only [List.mem_cons, List.not_mem_nil, or_false] at hq
  subst hq
  exact ⟨(RX6, TX6, 4), rfl, rfl, q893⟩
theorem fX6_22 : ∀ q ∈ ([(5, 1)] : List (Nat × Nat)), aFl RX6 22 q.1 q.2 := by
  intro q hq
  simp only [List.mem_cons, List.not_mem_nil, or_false] at hq
  subst hq
  exact aFl.of (RX6, TX6, 4) rfl (Nat.le_of_ble_eq_true rfl) q895
theorem tX6_1f : ∀ q ∈ ([(5, 1)] : List (Nat × Nat)), aFt q.1 q.2 true .int := by
  intro q hq
  simp only [List.mem_cons, List.not_mem_nil, or_false] at hq
  subst hq
  exact ⟨(RX6, TX6, 4), tyX6, Nat.le_of_ble_eq_true rfl, rfl, Nat.le_of_ble_eq_true rfl, okX6, rfl, rfl⟩
theorem gX6_22 : ∀ q ∈ ([(5, 1)] : List (Nat × Nat)), ∃ r0 : vw_C, aCl[q.1]? = some r0 ∧ (r0.2.1 q.2).1 = RX6 ∧ Cond.fieldLink RX6 22 (r0.2.1 q.2).1 (r0.2.1 q.2).2.1 (r0.2.1 q.2).2.2.1 ∈ lw_all := by
  intro q hq
  simp only [List.mem_cons, List.not_mem_nil, or_false] at hq
  subst hq
  exact ⟨(RX6, TX6, 4), rfl, rfl, q895⟩
theorem fX6_26 : ∀ q ∈ ([(5, 2)] : List (Nat × Nat)), aFl RX6 26 q.1 q.2 := by
  intro q hq
  simp only [List.mem_cons, List.not_mem_nil, or_false] at hq
  subst hq
  exact aFl.of (RX6, TX6, 4) rfl (Nat.le_of_ble_eq_true rfl) q897
theorem tX6_2f : ∀ q ∈ ([(5, 2)] : List (Nat × Nat)), aFt q.1 q.2 true (.object "java/lang/String") := by
  intro q hq
  simp only [List.mem_cons, List.not_mem_nil, or_false] at hq
  subst hq
  exact ⟨(RX6, TX6, 4), tyX6, Nat.le_of_ble_eq_true rfl, rfl, Nat.le_of_ble_eq_true rfl, okX6, rfl, rfl⟩
theorem gX6_26 : ∀ q ∈ ([(5, 2)] : List (Nat × Nat)), ∃ r0 : vw_C, aCl[q.1]? = some r0 ∧ (r0.2.1 q.2).1 = RX6 ∧ Cond.fieldLink RX6 26 (r0.2.1 q.2).1 (r0.2.1 q.2).2.1 (r0.2.1 q.2).2.2.1 ∈ lw_all := by
  intro q hq
  simp only [List.mem_cons, List.not_mem_nil, or_false] at hq
  subst hq
  exact ⟨(RX6, TX6, 4), rfl, rfl, q897⟩
abbrev YX6_init : YC := (yX6_init, cX6_init, 4, none, [])
theorem kX6_init : aMk YX6_init 3 := ⟨rfl, q875, q144, ⟨by decide +kernel, by decide +kernel, by decide +kernel⟩, Nat.le_of_ble_eq_true rfl⟩
def x_X6_init (g : AG) (N : Nat) (h : AH) (x0 : Nat) (r1 : Option Nat) (x2 : Int32) (r3 : Option Nat) : Option AH :=
  (mkO g h 3 13 [.int 0, .null, .int 0]).bind fun h1 => (x_J4_init_2 g N h1 h.2.1 (3 : Int32)).bind fun q3 => (wrV g q3 x0 [(5, 3)] (.ref h.2.1)).bind fun h5 => (wrV g h5 x0 [(5, 0)] (va_rf r1)).bind fun h7 => (wrV g h7 x0 [(5, 1)] (.int x2)).bind fun h9 => (wrV g h9 x0 [(5, 2)] (va_rf r3)).bind fun h11 => some h11
theorem ct_X6_init (g : AG) (hst : (gL g).stackTraces = false) (N : Nat) : ∀ (h : AH) (x0 : Nat) (r1 : Option Nat) (x2 : Int32) (r3 : Option Nat) (q : AH), x_X6_init g N h x0 r1 x2 r3 = some q → CT g YX6_init 6 [.ref x0, va_rf r1, .int x2, va_rf r3] h (xV q) := by
  intro h x0 r1 x2 r3 q hq
  refine CT.of rfl (by decide +kernel) (loc := [some (.ref x0), some (va_rf r1), some (.int x2), some (va_rf r3)]) (by first | exact Nat.le_of_ble_eq_true rfl | (simp only [lgl_rf, lgl_i, lgl_j, lgl_ref, lgl_nil]; exact Nat.le_of_ble_eq_true rfl)) (by first | rfl | (simp only [aent_rf, aent_i, aent_j, aent_ref, aent_nil]; rfl)) ?_
  unfold x_X6_init at hq
  refine aw_aload_n (i := 0) dX6_init_0 rfl rfl trivial ?_
  refine aw_objInit q876 qObjI qObjC (by omega) (Nat.le_of_ble_eq_true rfl) dX6_init_1 ?_
  refine aw_aload_n (i := 0) dX6_init_4 rfl rfl trivial ?_
  replace hq := obind hq
  obtain ⟨h1, e2, hq⟩ := hq
  refine xw_new (r := (RJ4, TJ4, 3)) e2 q877 q250 q123 (by decide) rfl okJ4 rfl dfJ4 dX6_init_5 ?_
  refine aw_dup dX6_init_8 rfl ?_
  refine aw_iconst (v := 3) dX6_init_9 (by decide) ?_
  replace hq := obind hq
  obtain ⟨q3, e4, hq⟩ := hq
  refine aw_callI (Y2 := YJ4_init_2) (As := [.int (3 : Int32)]) (rest := [.ref h.2.1, .ref x0]) (b := h.2.1) kJ4_init_2 rfl rfl q878 q879 dX6_init_10 rfl rfl (ct_J4_init_2 g hst N h1 h.2.1 (3 : Int32) _ e4) (Nat.le_of_ble_eq_true rfl) (Nat.le_of_ble_eq_true rfl) (fun v9 h9 z9 y9 => ?_)
  obtain ⟨rfl, y9⟩ := y9
  rw [y9]
  refine aw_st (st' := [.ref h.2.1, .ref x0]) rfl ?_
  replace hq := obind hq
  obtain ⟨h5, e6, hq⟩ := hq
  refine xw_putF e6 fX6_12 tX6_3f rfl gX6_12 (fits_rf _ (some h.2.1)) dX6_init_13 ?_
  refine aw_aload_n (i := 0) dX6_init_16 rfl rfl trivial ?_
  refine aw_aload_n (i := 1) dX6_init_17 rfl rfl (aIsR_rf _) ?_
  replace hq := obind hq
  obtain ⟨h7, e8, hq⟩ := hq
  refine xw_putF e8 fX6_18 tX6_0f rfl gX6_18 (fits_rf _ r1) dX6_init_18 ?_
  refine aw_aload_n (i := 0) dX6_init_21 rfl rfl trivial ?_
  refine aw_iload_n (i := 2) dX6_init_22 rfl rfl ?_
  replace hq := obind hq
  obtain ⟨h9, e10, hq⟩ := hq
  refine xw_putF e10 fX6_22 tX6_1f rfl gX6_22 ⟨rfl, rfl⟩ dX6_init_23 ?_
  refine aw_aload_n (i := 0) dX6_init_26 rfl rfl trivial ?_
  refine aw_aload_n (i := 3) dX6_init_27 rfl rfl (aIsR_rf _) ?_
  replace hq := obind hq
  obtain ⟨h11, e12, hq⟩ := hq
  refine xw_putF e12 fX6_26 tX6_2f rfl gX6_26 (fits_rf _ r3) dX6_init_28 ?_
  cases hq
  exact aw_vret dX6_init_31 rfl ⟨rfl, rfl⟩
abbrev YX2_isName : YC := (yX2_isName, cX2_isName, 5, none, [])
theorem kX2_isName : aMk YX2_isName 2 := ⟨rfl, q764, q117, ⟨by decide +kernel, by decide +kernel, by decide +kernel⟩, Nat.le_of_ble_eq_true rfl⟩
def x_X2_isName_31 (g : AG) (N : Nat) (K5 : AH → Nat → Option Nat → Int32 → Int32 → Int32 → Option ((String ⊕ Unit) × AH)) (K39 : AH → Nat → Option Nat → Int32 → Int32 → Int32 → Option ((String ⊕ Unit) × AH)) (h : AH) (x0 : Nat) (r1 : Option Nat) (x2 : Int32) (x3 : Int32) (x4 : Int32) (s0 : Int32) (s1 : Int32) : Option ((String ⊕ Unit) × AH) :=
  K5 h x0 r1 x2 (s0 + s1) (x4 + 1)
theorem p_x_X2_isName_31 (g : AG) (hst : (gL g).stackTraces = false) (N : Nat) (K5 : AH → Nat → Option Nat → Int32 → Int32 → Int32 → Option ((String ⊕ Unit) × AH)) (K39 : AH → Nat → Option Nat → Int32 → Int32 → Int32 → Option ((String ⊕ Unit) × AH)) (hK5 : ∀ (h : AH) (x0 : Nat) (r1 : Option Nat) (x2 : Int32) (x3 : Int32) (x4 : Int32) (q : ((String ⊕ Unit) × AH)), K5 h x0 r1 x2 x3 x4 = some q → AW g YX2_isName 11 (tV q) h [some (.ref x0), some (va_rf r1), some (.int x2), some (.int x3), some (.int x4)] 5 []) (hK39 : ∀ (h : AH) (x0 : Nat) (r1 : Option Nat) (x2 : Int32) (x3 : Int32) (x4 : Int32) (q : ((String ⊕ Unit) × AH)), K39 h x0 r1 x2 x3 x4 = some q → AW g YX2_isName 11 (tV q) h [some (.ref x0), some (va_rf r1), some (.int x2), some (.int x3), some (.int x4)] 39 []) : ∀ (h : AH) (x0 : Nat) (r1 : Option Nat) (x2 : Int32) (x3 : Int32) (x4 : Int32) (s0 : Int32) (s1 : Int32) (q : ((String ⊕ Unit) × AH)), x_X2_isName_31 g N K5 K39 h x0 r1 x2 x3 x4 s0 s1 = some q → AW g YX2_isName 11 (tV q) h [some (.ref x0), some (va_rf r1), some (.int x2), some (.int x3), some (.int x4)] 31 [.int s1, .int s0] := by
  intro h x0 r1 x2 x3 x4 s0 s1 q hq
  unfold x_X2_isName_31 at hq
  refine aw_iadd dX2_isName_31 ?_
  refine aw_istore_n (i := 3) (loc' := [some (.ref x0), some (va_rf r1), some (.int x2), some (.int (s0 + s1)), some (.int x4)]) dX2_isName_32 rfl (Nat.le_of_ble_eq_true rfl) rfl ?_
  refine aw_iinc (v := x4 + 1) (loc' := [some (.ref x0), some (va_rf r1), some (.int x2), some (.int (s0 + s1)), some (.int (x4 + 1))]) dX2_isName_33 rfl rfl (Nat.le_of_ble_eq_true rfl) rfl ?_
  refine aw_goto (tgt := 5) dX2_isName_36 (by decide) ?_
  exact hK5 h x0 r1 x2 (s0 + s1) (x4 + 1) _ hq
def x_X2_isName_5 (g : AG) (N : Nat) (K39 : AH → Nat → Option Nat → Int32 → Int32 → Int32 → Option ((String ⊕ Unit) × AH)) : Nat → AH → Nat → Option Nat → Int32 → Int32 → Int32 → Option ((String ⊕ Unit) × AH)
  | 0, _, _, _, _, _, _ => none
  | n9 + 1, h, x0, r1, x2, x3, x4 =>
  (r1).bind fun a1 => bif clB h a1 [17] then ((x_J13_length g N h a1).bind fun q4 => if q4.1 ≤ x4 then (K39 q4.2 x0 (some a1) x2 x3 x4) else (bif clB q4.2 a1 [17] then ((x_J13_charAt g N q4.2 a1 x4).bind fun q8 => if q8.1 = (46 : Int32) then (x_X2_isName_31 g N (fun h x0 r1 x2 x3 x4 => x_X2_isName_5 g N K39 n9 h x0 r1 x2 x3 x4) K39 q8.2 x0 (some a1) x2 x3 x4 x3 (1 : Int32)) else (x_X2_isName_31 g N (fun h x0 r1 x2 x3 x4 => x_X2_isName_5 g N K39 n9 h x0 r1 x2 x3 x4) K39 q8.2 x0 (some a1) x2 x3 x4 x3 (0 : Int32))) else none)) else none
theorem p_x_X2_isName_5 (g : AG) (hst : (gL g).stackTraces = false) (N : Nat) (K39 : AH → Nat → Option Nat → Int32 → Int32 → Int32 → Option ((String ⊕ Unit) × AH)) (hK39 : ∀ (h : AH) (x0 : Nat) (r1 : Option Nat) (x2 : Int32) (x3 : Int32) (x4 : Int32) (q : ((String ⊕ Unit) × AH)), K39 h x0 r1 x2 x3 x4 = some q → AW g YX2_isName 11 (tV q) h [some (.ref x0), some (va_rf r1), some (.int x2), some (.int x3), some (.int x4)] 39 []) : ∀ (n9 : Nat) (h : AH) (x0 : Nat) (r1 : Option Nat) (x2 : Int32) (x3 : Int32) (x4 : Int32) (q : ((String ⊕ Unit) × AH)), x_X2_isName_5 g N K39 n9 h x0 r1 x2 x3 x4 = some q → AW g YX2_isName 11 (tV q) h [some (.ref x0), some (va_rf r1), some (.int x2), some (.int x3), some (.int x4)] 5 [] := by
  intro n9
  induction n9 with
  | zero =>
    intro h x0 r1 x2 x3 x4 q hq
    cases hq
  | succ n9 ih =>
    intro h x0 r1 x2 x3 x4 q hq
    rw [x_X2_isName_5] at hq
    refine aw_iload dX2_isName_5 rfl ?_
    refine aw_aload_n (i := 1) dX2_isName_7 rfl rfl (aIsR_rf _) ?_
    replace hq := obind hq
    obtain ⟨a1, e2, hq⟩ := hq
    subst e2
    replace hq := cond_t hq
    obtain ⟨z3, hq⟩ := hq
    obtain ⟨fs9, ha9⟩ := clB1 z3
    replace hq := obind hq
    obtain ⟨q4, e5, hq⟩ := hq
    refine aw_callV (Y2 := YJ13_length) (As := []) (rest := [.int x4]) (r := (RJ13, TJ13, 4)) kJ13_length ha9 rfl rfl q765 q705 q706 dX2_isName_8 rfl rfl (ct_J13_length g hst N h a1 _ e5) (Nat.le_of_ble_eq_true rfl) (Nat.le_of_ble_eq_true rfl) (fun v9 h9 z9 y9 => ?_)
    obtain ⟨rfl, rfl⟩ := y9
    refine aw_st (st' := [.int q4.1, .int x4]) rfl ?_
    refine aw_icmp_ge (tgt := 39) dX2_isName_11 (by decide) (fun c6 => ?_) (fun c6 => ?_)
    · rw [if_pos c6] at hq
      exact hK39 q4.2 x0 (some a1) x2 x3 x4 _ hq
    · rw [if_neg c6] at hq
      refine aw_iload_n (i := 3) dX2_isName_14 rfl rfl ?_
      refine aw_aload_n (i := 1) dX2_isName_15 rfl rfl trivial ?_
      refine aw_iload dX2_isName_16 rfl ?_
      replace hq := cond_t hq
      obtain ⟨z7, hq⟩ := hq
      obtain ⟨fs9, ha9⟩ := clB1 z7
      replace hq := obind hq
      obtain ⟨q8, e9, hq⟩ := hq
      refine aw_callV (Y2 := YJ13_charAt) (As := [.int x4]) (rest := [.int x3]) (r := (RJ13, TJ13, 4)) kJ13_charAt ha9 rfl rfl q766 q767 q768 dX2_isName_18 rfl rfl (ct_J13_charAt g hst N q4.2 a1 x4 _ e9) (Nat.le_of_ble_eq_true rfl) (Nat.le_of_ble_eq_true rfl) (fun v9 h9 z9 y9 => ?_)
      obtain ⟨rfl, rfl⟩ := y9
      refine aw_st (st' := [.int q8.1, .int x3]) rfl ?_
      refine aw_bipush (v := 46) dX2_isName_21 (by decide) ?_
      refine aw_icmp_ne (tgt := 30) dX2_isName_23 (by decide) (fun c10 => ?_) (fun c10 => ?_)
      · rw [if_neg c10] at hq
        refine aw_iconst (v := 0) dX2_isName_30 (by decide) ?_
        exact p_x_X2_isName_31 g hst N _ _ ih hK39 q8.2 x0 (some a1) x2 x3 x4 x3 (0 : Int32) _ hq
      · rw [if_pos c10] at hq
        refine aw_iconst (v := 1) dX2_isName_26 (by decide) ?_
        refine aw_goto (tgt := 31) dX2_isName_27 (by decide) ?_
        exact p_x_X2_isName_31 g hst N _ _ ih hK39 q8.2 x0 (some a1) x2 x3 x4 x3 (1 : Int32) _ hq
def x_X2_isName_75 (g : AG) (N : Nat) (h : AH) (x0 : Nat) (r1 : Option Nat) (x2 : Int32) (x3 : Int32) (x4 : Int32) (s1 : Int32) : Option ((String ⊕ Unit) × AH) :=
  bif clB h x0 [1] then ((x_X2_want g N h x0 s1 (1 : Int32) x2).bind fun q13 => tcase q13.1 (fun E15 => some (.inl E15, q13.2)) (fun v16 => some (.inr (), q13.2))) else none
theorem p_x_X2_isName_75 (g : AG) (hst : (gL g).stackTraces = false) (N : Nat) : ∀ (h : AH) (x0 : Nat) (r1 : Option Nat) (x2 : Int32) (x3 : Int32) (x4 : Int32) (s1 : Int32) (q : ((String ⊕ Unit) × AH)), x_X2_isName_75 g N h x0 r1 x2 x3 x4 s1 = some q → AW g YX2_isName 11 (tV q) h [some (.ref x0), some (va_rf r1), some (.int x2), some (.int x3), some (.int x4)] 75 [.int s1, .ref x0] := by
  intro h x0 r1 x2 x3 x4 s1 q hq
  unfold x_X2_isName_75 at hq
  refine aw_iconst (v := 1) dX2_isName_75 (by decide) ?_
  refine aw_iload_n (i := 2) dX2_isName_76 rfl rfl ?_
  replace hq := cond_t hq
  obtain ⟨z12, hq⟩ := hq
  obtain ⟨fs9, ha9⟩ := clB1 z12
  replace hq := obind hq
  obtain ⟨q13, e14, hq⟩ := hq
  refine aw_callVX (Y2 := YX2_want) (As := [.int s1, .int (1 : Int32), .int x2]) (rest := []) (r := (RX2, TX2, 9)) kX2_want ha9 rfl rfl q407 q408 q409 dX2_isName_77 rfl rfl (ct_X2_want g hst N h x0 s1 (1 : Int32) x2 _ e14) (Nat.le_of_ble_eq_true rfl) (Nat.le_of_ble_eq_true rfl) (fun v9 h9 z9 y9 => ?_) (fun E15 h9 z9 y9 => ?_)
  rotate_left
  · obtain ⟨e9, rfl⟩ := tV_exc y9
    replace hq := tcase_l e9 hq
    cases hq
    exact ax_out (by decide) ⟨rfl, rfl⟩
  obtain ⟨v16, e9, rfl, rfl⟩ := tV_ret y9
  replace hq := tcase_r e9 hq
  refine aw_st (st' := []) rfl ?_
  cases hq
  exact aw_vret dX2_isName_80 rfl ⟨rfl, rfl⟩
def x_X2_isName_74 (g : AG) (N : Nat) (h : AH) (x0 : Nat) (r1 : Option Nat) (x2 : Int32) (x3 : Int32) (x4 : Int32) : Option ((String ⊕ Unit) × AH) :=
  x_X2_isName_75 g N  h x0 r1 x2 x3 x4 (0 : Int32)
theorem p_x_X2_isName_74 (g : AG) (hst : (gL g).stackTraces = false) (N : Nat) : ∀ (h : AH) (x0 : Nat) (r1 : Option Nat) (x2 : Int32) (x3 : Int32) (x4 : Int32) (q : ((String ⊕ Unit) × AH)), x_X2_isName_74 g N h x0 r1 x2 x3 x4 = some q → AW g YX2_isName 11 (tV q) h [some (.ref x0), some (va_rf r1), some (.int x2), some (.int x3), some (.int x4)] 74 [.ref x0] := by
  intro h x0 r1 x2 x3 x4 q hq
  unfold x_X2_isName_74 at hq
  refine aw_iconst (v := 0) dX2_isName_74 (by decide) ?_
  exact p_x_X2_isName_75 g hst N   h x0 r1 x2 x3 x4 (0 : Int32) _ hq
def x_X2_isName (g : AG) (N : Nat) (h : AH) (x0 : Nat) (r1 : Option Nat) (x2 : Int32) : Option ((String ⊕ Unit) × AH) :=
  x_X2_isName_5 g N (fun h x0 r1 x2 x3 x4 => if x3 = (1 : Int32) then ((r1).bind fun a17 => bif clB h a17 [17] then ((x_J13_charAt g N h a17 (0 : Int32)).bind fun q20 => if q20.1 = (46 : Int32) then (x_X2_isName_74 g N  q20.2 x0 (some a17) x2 x3 x4) else (bif clB q20.2 a17 [17] then ((x_J13_length g N q20.2 a17).bind fun q24 => bif clB q24.2 a17 [17] then ((x_J13_charAt g N q24.2 a17 (q24.1 - (1 : Int32))).bind fun q27 => if q27.1 = (46 : Int32) then (x_X2_isName_74 g N  q27.2 x0 (some a17) x2 x3 x4) else (x_X2_isName_75 g N  q27.2 x0 (some a17) x2 x3 x4 (1 : Int32))) else none) else none)) else none) else (x_X2_isName_74 g N  h x0 r1 x2 x3 x4)) N h x0 r1 x2 (0 : Int32) (0 : Int32)
theorem ct_X2_isName (g : AG) (hst : (gL g).stackTraces = false) (N : Nat) : ∀ (h : AH) (x0 : Nat) (r1 : Option Nat) (x2 : Int32) (q : ((String ⊕ Unit) × AH)), x_X2_isName g N h x0 r1 x2 = some q → CT g YX2_isName 11 [.ref x0, va_rf r1, .int x2] h (tV q) := by
  intro h x0 r1 x2 q hq
  refine CT.of rfl (by decide +kernel) (loc := [some (.ref x0), some (va_rf r1), some (.int x2), none, none]) (by first | exact Nat.le_of_ble_eq_true rfl | (simp only [lgl_rf, lgl_i, lgl_j, lgl_ref, lgl_nil]; exact Nat.le_of_ble_eq_true rfl)) (by first | rfl | (simp only [aent_rf, aent_i, aent_j, aent_ref, aent_nil]; rfl)) ?_
  unfold x_X2_isName at hq
  refine aw_iconst (v := 0) dX2_isName_0 (by decide) ?_
  refine aw_istore_n (i := 3) (loc' := [some (.ref x0), some (va_rf r1), some (.int x2), some (.int (0 : Int32)), none]) dX2_isName_1 rfl (Nat.le_of_ble_eq_true rfl) rfl ?_
  refine aw_iconst (v := 0) dX2_isName_2 (by decide) ?_
  refine aw_istore (loc' := [some (.ref x0), some (va_rf r1), some (.int x2), some (.int (0 : Int32)), some (.int (0 : Int32))]) dX2_isName_3 (Nat.le_of_ble_eq_true rfl) rfl ?_
  refine p_x_X2_isName_5 g hst N _ ?_ N h x0 r1 x2 (0 : Int32) (0 : Int32) _ hq
  · intro h x0 r1 x2 x3 x4 q hq
    refine aw_aload_n (i := 0) dX2_isName_39 rfl rfl trivial ?_
    refine aw_iload_n (i := 3) dX2_isName_40 rfl rfl ?_
    refine aw_iconst (v := 1) dX2_isName_41 (by decide) ?_
    refine aw_icmp_ne (tgt := 74) dX2_isName_42 (by decide) (fun c11 => ?_) (fun c11 => ?_)
    · rw [if_neg c11] at hq
      exact p_x_X2_isName_74 g hst N   h x0 r1 x2 x3 x4 _ hq
    · rw [if_pos c11] at hq
      refine aw_aload_n (i := 1) dX2_isName_45 rfl rfl (aIsR_rf _) ?_
      refine aw_iconst (v := 0) dX2_isName_46 (by decide) ?_
      replace hq := obind hq
      obtain ⟨a17, e18, hq⟩ := hq
      subst e18
      replace hq := cond_t hq
      obtain ⟨z19, hq⟩ := hq
      obtain ⟨fs9, ha9⟩ := clB1 z19
      replace hq := obind hq
      obtain ⟨q20, e21, hq⟩ := hq
      refine aw_callV (Y2 := YJ13_charAt) (As := [.int (0 : Int32)]) (rest := [.ref x0]) (r := (RJ13, TJ13, 4)) kJ13_charAt ha9 rfl rfl q766 q767 q768 dX2_isName_47 rfl rfl (ct_J13_charAt g hst N h a17 (0 : Int32) _ e21) (Nat.le_of_ble_eq_true rfl) (Nat.le_of_ble_eq_true rfl) (fun v9 h9 z9 y9 => ?_)
      obtain ⟨rfl, rfl⟩ := y9
      refine aw_st (st' := [.int q20.1, .ref x0]) rfl ?_
      refine aw_bipush (v := 46) dX2_isName_50 (by decide) ?_
      refine aw_icmp_eq (tgt := 74) dX2_isName_52 (by decide) (fun c22 => ?_) (fun c22 => ?_)
      · rw [if_pos c22] at hq
        exact p_x_X2_isName_74 g hst N   q20.2 x0 (some a17) x2 x3 x4 _ hq
      · rw [if_neg c22] at hq
        refine aw_aload_n (i := 1) dX2_isName_55 rfl rfl trivial ?_
        refine aw_aload_n (i := 1) dX2_isName_56 rfl rfl trivial ?_
        replace hq := cond_t hq
        obtain ⟨z23, hq⟩ := hq
        obtain ⟨fs9, ha9⟩ := clB1 z23
        replace hq := obind hq
        obtain ⟨q24, e25, hq⟩ := hq
        refine aw_callV (Y2 := YJ13_length) (As := []) (rest := [.ref a17, .ref x0]) (r := (RJ13, TJ13, 4)) kJ13_length ha9 rfl rfl q765 q705 q706 dX2_isName_57 rfl rfl (ct_J13_length g hst N q20.2 a17 _ e25) (Nat.le_of_ble_eq_true rfl) (Nat.le_of_ble_eq_true rfl) (fun v9 h9 z9 y9 => ?_)
        obtain ⟨rfl, rfl⟩ := y9
        refine aw_st (st' := [.int q24.1, .ref a17, .ref x0]) rfl ?_
        refine aw_iconst (v := 1) dX2_isName_60 (by decide) ?_
        refine aw_isub dX2_isName_61 ?_
        replace hq := cond_t hq
        obtain ⟨z26, hq⟩ := hq
        obtain ⟨fs9, ha9⟩ := clB1 z26
        replace hq := obind hq
        obtain ⟨q27, e28, hq⟩ := hq
        refine aw_callV (Y2 := YJ13_charAt) (As := [.int (q24.1 - (1 : Int32))]) (rest := [.ref x0]) (r := (RJ13, TJ13, 4)) kJ13_charAt ha9 rfl rfl q766 q767 q768 dX2_isName_62 rfl rfl (ct_J13_charAt g hst N q24.2 a17 (q24.1 - (1 : Int32)) _ e28) (Nat.le_of_ble_eq_true rfl) (Nat.le_of_ble_eq_true rfl) (fun v9 h9 z9 y9 => ?_)
        obtain ⟨rfl, rfl⟩ := y9
        refine aw_st (st' := [.int q27.1, .ref x0]) rfl ?_
        refine aw_bipush (v := 46) dX2_isName_65 (by decide) ?_
        refine aw_icmp_eq (tgt := 74) dX2_isName_67 (by decide) (fun c29 => ?_) (fun c29 => ?_)
        · rw [if_pos c29] at hq
          exact p_x_X2_isName_74 g hst N   q27.2 x0 (some a17) x2 x3 x4 _ hq
        · rw [if_neg c29] at hq
          refine aw_iconst (v := 1) dX2_isName_70 (by decide) ?_
          refine aw_goto (tgt := 75) dX2_isName_71 (by decide) ?_
          exact p_x_X2_isName_75 g hst N   q27.2 x0 (some a17) x2 x3 x4 (1 : Int32) _ hq
