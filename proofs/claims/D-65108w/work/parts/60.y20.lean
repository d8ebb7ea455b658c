/-! THE COMPONENT AND THE JDK as functions of the heap, and their contracts: printed by wip gen/dec2.py -/
set_option maxRecDepth 100000
theorem fJ5_105 : ∀ q ∈ ([(15, 0)] : List (Nat × Nat)), aFl RJ5 105 q.1 q.2 := by
  intro q hq
  simp only [List.mem_cons, List.not_mem_nil, or_false] at hq
  subst hq
  exact aFl.of (RJ30, TJ30, 6) rfl (Nat.le_of_ble_eq_true rfl) q1692
abbrev YJ5_getEntryUsingComparator : YC := (yJ5_getEntryUsingComparator, cJ5_getEntryUsingComparator, 6, (some (.object "java/util/TreeMap$Entry")), [])
theorem kJ5_getEntryUsingComparator : aMk YJ5_getEntryUsingComparator 1 := ⟨rfl, q1508, q124, ⟨by decide +kernel, by decide +kernel, by decide +kernel⟩, Nat.le_of_ble_eq_true rfl⟩
def x_J5_getEntryUsingComparator (g : AG) (N : Nat) (h : AH) (x0 : Nat) (r1 : Option Nat) : Option (Option Nat × AH) :=
  (rdR h x0 [(14, 2)]).bind fun o1 => ocase o1 (some ((none), h)) (fun a3 => (rdR h x0 [(14, 3)]).bind fun o4 => ocase o4 (some ((none), h)) (fun a6 => (rdR h a6 [(15, 0)]).bind fun o7 => none))
theorem ct_J5_getEntryUsingComparator (g : AG) (hst : (gL g).stackTraces = false) (N : Nat) : ∀ (h : AH) (x0 : Nat) (r1 : Option Nat) (q : (Option Nat × AH)), x_J5_getEntryUsingComparator g N h x0 r1 = some q → CT g YJ5_getEntryUsingComparator 1 [.ref x0, va_rf r1] h (xR q) := by
  intro h x0 r1 q hq
  refine CT.of rfl (by decide +kernel) (loc := [some (.ref x0), some (va_rf r1), none, none, none, none]) (by first | exact Nat.le_of_ble_eq_true rfl | (simp only [lgl_rf, lgl_i, lgl_j, lgl_ref, lgl_nil]; exact Nat.le_of_ble_eq_true rfl)) (by first | rfl | (simp only [aent_rf, aent_i, aent_j, aent_ref, aent_nil]; rfl)) ?_
  unfold x_J5_getEntryUsingComparator at hq
  refine aw_aload_n (i := 1) dJ5_getEntryUsingComparator_0 rfl rfl (aIsR_rf _) ?_
  refine aw_astore_n (i := 2) (loc' := [some (.ref x0), some (va_rf r1), some (va_rf r1), none, none, none]) dJ5_getEntryUsingComparator_1 rfl (Nat.le_of_ble_eq_true rfl) (aIsR_rf _) (aset1_rf rfl) ?_
  refine aw_aload_n (i := 0) dJ5_getEntryUsingComparator_2 rfl rfl trivial ?_
  replace hq := obind hq
  obtain ⟨o1, e2, hq⟩ := hq
  refine xw_getR e2 fJ5_16 dJ5_getEntryUsingComparator_3 ?_
  refine aw_astore_n (i := 3) (loc' := [some (.ref x0), some (va_rf r1), some (va_rf r1), some (va_rf o1), none, none]) dJ5_getEntryUsingComparator_6 rfl (Nat.le_of_ble_eq_true rfl) (aIsR_rf _) (aset1_rf rfl) ?_
  refine aw_aload_n (i := 3) dJ5_getEntryUsingComparator_7 rfl rfl (aIsR_rf _) ?_
  rcases o1 with _ | a3
  · replace hq := ocase_n hq
    refine xw_ifnullN (tgt := 72) dJ5_getEntryUsingComparator_8 (by decide) ?_
    refine aw_null dJ5_getEntryUsingComparator_72 ?_
    cases hq
    exact aw_areturn dJ5_getEntryUsingComparator_73 rfl (Or.inl ⟨_, rfl⟩) trivial ⟨rfl, rfl⟩
  · replace hq := ocase_s hq
    refine xw_ifnullS (tgt := 72) dJ5_getEntryUsingComparator_8 (by decide) ?_
    refine aw_aload_n (i := 0) dJ5_getEntryUsingComparator_11 rfl rfl trivial ?_
    replace hq := obind hq
    obtain ⟨o4, e5, hq⟩ := hq
    refine xw_getR e5 fJ5_101 dJ5_getEntryUsingComparator_12 ?_
    refine aw_astore (loc' := [some (.ref x0), some (va_rf r1), some (va_rf r1), some (.ref a3), some (va_rf o4), none]) dJ5_getEntryUsingComparator_15 (Nat.le_of_ble_eq_true rfl) (aIsR_rf _) rfl ?_
    refine aw_aload dJ5_getEntryUsingComparator_17 rfl (aIsR_rf _) ?_
    rcases o4 with _ | a6
    · replace hq := ocase_n hq
      refine xw_ifnullN (tgt := 72) dJ5_getEntryUsingComparator_19 (by decide) ?_
      refine aw_null dJ5_getEntryUsingComparator_72 ?_
      cases hq
      exact aw_areturn dJ5_getEntryUsingComparator_73 rfl (Or.inl ⟨_, rfl⟩) trivial ⟨rfl, rfl⟩
    · replace hq := ocase_s hq
      refine xw_ifnullS (tgt := 72) dJ5_getEntryUsingComparator_19 (by decide) ?_
      refine aw_aload_n (i := 3) dJ5_getEntryUsingComparator_22 rfl rfl trivial ?_
      refine aw_aload_n (i := 2) dJ5_getEntryUsingComparator_23 rfl rfl (aIsR_rf _) ?_
      refine aw_aload dJ5_getEntryUsingComparator_24 rfl trivial ?_
      replace hq := obind hq
      obtain ⟨o7, e8, hq⟩ := hq
      refine xw_getR e8 fJ5_105 dJ5_getEntryUsingComparator_26 ?_
      cases hq
abbrev YJ5_getEntry : YC := (yJ5_getEntry, cJ5_getEntry, 5, (some (.object "java/util/TreeMap$Entry")), [])
theorem kJ5_getEntry : aMk YJ5_getEntry 1 := ⟨rfl, q1504, q124, ⟨by decide +kernel, by decide +kernel, by decide +kernel⟩, Nat.le_of_ble_eq_true rfl⟩
def x_J5_getEntry_72 (g : AG) (N : Nat) (K28 : AH → Nat → Option Nat → Option Nat → Option Nat → Option (Option Nat × AH)) (h : AH) (x0 : Nat) (r1 : Option Nat) (r2 : Option Nat) (r3 : Option Nat) (x4 : Int32) : Option (Option Nat × AH) :=
  K28 h x0 r1 r2 r3
theorem p_x_J5_getEntry_72 (g : AG) (hst : (gL g).stackTraces = false) (N : Nat) (K28 : AH → Nat → Option Nat → Option Nat → Option Nat → Option (Option Nat × AH)) (hK28 : ∀ (h : AH) (x0 : Nat) (r1 : Option Nat) (r2 : Option Nat) (r3 : Option Nat) (q : (Option Nat × AH)), K28 h x0 r1 r2 r3 = some q → AW g YJ5_getEntry 4 (xR q) h [some (.ref x0), some (va_rf r1), some (va_rf r2), some (va_rf r3), none] 28 []) : ∀ (h : AH) (x0 : Nat) (r1 : Option Nat) (r2 : Option Nat) (r3 : Option Nat) (x4 : Int32) (q : (Option Nat × AH)), x_J5_getEntry_72 g N K28 h x0 r1 r2 r3 x4 = some q → AW g YJ5_getEntry 4 (xR q) h [some (.ref x0), some (va_rf r1), some (va_rf r2), some (va_rf r3), some (.int x4)] 72 [] := by
  intro h x0 r1 r2 r3 x4 q hq
  unfold x_J5_getEntry_72 at hq
  refine aw_goto (tgt := 28) dJ5_getEntry_72 (by decide) ?_
  refine aw_subl (loc' := [some (.ref x0), some (va_rf r1), some (va_rf r2), some (va_rf r3), none]) ⟨Or.inr rfl, Or.inr rfl, Or.inr rfl, Or.inr rfl, Or.inl rfl, trivial⟩ ?_
  exact hK28 h x0 r1 r2 r3 _ hq
def x_J5_getEntry_28 (g : AG) (N : Nat) : Nat → AH → Nat → Option Nat → Option Nat → Option Nat → Option (Option Nat × AH)
  | 0, _, _, _, _, _ => none
  | n9 + 1, h, x0, r1, r2, r3 =>
  ocase r3 (some ((none), h)) (fun a9 => (rdR h a9 [(15, 0)]).bind fun o10 => (r2).bind fun a12 => bif clB h a12 [18] then ((x_J21_compareTo g N h a12 o10).bind fun q15 => if 0 ≤ q15.1 then (if q15.1 ≤ 0 then (some ((some a9), q15.2)) else ((rdR q15.2 a9 [(15, 3)]).bind fun o19 => x_J5_getEntry_72 g N (fun h x0 r1 r2 r3 => x_J5_getEntry_28 g N n9 h x0 r1 r2 r3) q15.2 x0 r1 (some a12) o19 q15.1)) else ((rdR q15.2 a9 [(15, 2)]).bind fun o21 => x_J5_getEntry_72 g N (fun h x0 r1 r2 r3 => x_J5_getEntry_28 g N n9 h x0 r1 r2 r3) q15.2 x0 r1 (some a12) o21 q15.1)) else none)
theorem p_x_J5_getEntry_28 (g : AG) (hst : (gL g).stackTraces = false) (N : Nat) : ∀ (n9 : Nat) (h : AH) (x0 : Nat) (r1 : Option Nat) (r2 : Option Nat) (r3 : Option Nat) (q : (Option Nat × AH)), x_J5_getEntry_28 g N n9 h x0 r1 r2 r3 = some q → AW g YJ5_getEntry 4 (xR q) h [some (.ref x0), some (va_rf r1), some (va_rf r2), some (va_rf r3), none] 28 [] := by
  intro n9
  induction n9 with
  | zero =>
    intro h x0 r1 r2 r3 q hq
    cases hq
  | succ n9 ih =>
    intro h x0 r1 r2 r3 q hq
    rw [x_J5_getEntry_28] at hq
    refine aw_aload_n (i := 3) dJ5_getEntry_28 rfl rfl (aIsR_rf _) ?_
    rcases r3 with _ | a9
    · replace hq := ocase_n hq
      refine xw_ifnullN (tgt := 75) dJ5_getEntry_29 (by decide) ?_
      refine aw_null dJ5_getEntry_75 ?_
      cases hq
      exact aw_areturn dJ5_getEntry_76 rfl (Or.inl ⟨_, rfl⟩) trivial ⟨rfl, rfl⟩
    · replace hq := ocase_s hq
      refine xw_ifnullS (tgt := 75) dJ5_getEntry_29 (by decide) ?_
      refine aw_aload_n (i := 2) dJ5_getEntry_32 rfl rfl (aIsR_rf _) ?_
      refine aw_aload_n (i := 3) dJ5_getEntry_33 rfl rfl trivial ?_
      replace hq := obind hq
      obtain ⟨o10, e11, hq⟩ := hq
      refine xw_getR e11 fJ5_105 dJ5_getEntry_34 ?_
      replace hq := obind hq
      obtain ⟨a12, e13, hq⟩ := hq
      subst e13
      replace hq := cond_t hq
      obtain ⟨z14, hq⟩ := hq
      obtain ⟨fs9, ha9⟩ := clB1 z14
      replace hq := obind hq
      obtain ⟨q15, e16, hq⟩ := hq
      refine aw_callF (Y2 := YJ21_compareTo) (As := [va_rf o10]) (rest := []) (r := (RJ21, TJ21, 1)) (x := ⟨"java/lang/Comparable", "compareTo", "(Ljava/lang/Object;)I"⟩) kJ21_compareTo ha9 rfl (by decide) (by decide) ⟨by decide +kernel, by decide +kernel, by decide +kernel⟩ q1518 q1309 q1307 dJ5_getEntry_37 rfl rfl (ct_J21_compareTo g hst N h a12 o10 _ e16) (Nat.le_of_ble_eq_true rfl) (Nat.le_of_ble_eq_true rfl) (fun v9 h9 z9 y9 => ?_)
      obtain ⟨rfl, rfl⟩ := y9
      refine aw_st (st' := [.int q15.1]) rfl ?_
      refine aw_istore (loc' := [some (.ref x0), some (va_rf r1), some (.ref a12), some (.ref a9), some (.int q15.1)]) dJ5_getEntry_42 (Nat.le_of_ble_eq_true rfl) rfl ?_
      refine aw_iload dJ5_getEntry_44 rfl ?_
      refine aw_if_ge (tgt := 57) dJ5_getEntry_46 (by decide) (fun c17 => ?_) (fun c17 => ?_)
      · rw [if_pos c17] at hq
        refine aw_iload dJ5_getEntry_57 rfl ?_
        refine aw_if_le (tgt := 70) dJ5_getEntry_59 (by decide) (fun c18 => ?_) (fun c18 => ?_)
        · rw [if_pos c18] at hq
          refine aw_aload_n (i := 3) dJ5_getEntry_70 rfl rfl trivial ?_
          cases hq
          exact aw_areturn dJ5_getEntry_71 rfl (Or.inl ⟨_, rfl⟩) trivial ⟨rfl, rfl⟩
        · rw [if_neg c18] at hq
          refine aw_aload_n (i := 3) dJ5_getEntry_62 rfl rfl trivial ?_
          replace hq := obind hq
          obtain ⟨o19, e20, hq⟩ := hq
          refine xw_getR e20 fJ5_114 dJ5_getEntry_63 ?_
          refine aw_astore_n (i := 3) (loc' := [some (.ref x0), some (va_rf r1), some (.ref a12), some (va_rf o19), some (.int q15.1)]) dJ5_getEntry_66 rfl (Nat.le_of_ble_eq_true rfl) (aIsR_rf _) rfl ?_
          refine aw_goto (tgt := 72) dJ5_getEntry_67 (by decide) ?_
          exact p_x_J5_getEntry_72 g hst N _ ih q15.2 x0 r1 (some a12) o19 q15.1 _ hq
      · rw [if_neg c17] at hq
        refine aw_aload_n (i := 3) dJ5_getEntry_49 rfl rfl trivial ?_
        replace hq := obind hq
        obtain ⟨o21, e22, hq⟩ := hq
        refine xw_getR e22 fJ5_111 dJ5_getEntry_50 ?_
        refine aw_astore_n (i := 3) (loc' := [some (.ref x0), some (va_rf r1), some (.ref a12), some (va_rf o21), some (.int q15.1)]) dJ5_getEntry_53 rfl (Nat.le_of_ble_eq_true rfl) (aIsR_rf _) rfl ?_
        refine aw_goto (tgt := 72) dJ5_getEntry_54 (by decide) ?_
        exact p_x_J5_getEntry_72 g hst N _ ih q15.2 x0 r1 (some a12) o21 q15.1 _ hq
def x_J5_getEntry (g : AG) (N : Nat) (h : AH) (x0 : Nat) (r1 : Option Nat) : Option (Option Nat × AH) :=
  (rdR h x0 [(14, 2)]).bind fun o1 => ocase o1 ((x_J26_requireNonNull g N h r1).bind fun q4 => bif casB q4.2 r1 [16, 17, 18, 19] then ((rdR q4.2 x0 [(14, 3)]).bind fun o7 => x_J5_getEntry_28 g N  N q4.2 x0 r1 r1 o7) else none) (fun a3 => bif clB h x0 [14] then ((x_J5_getEntryUsingComparator g N h x0 r1).bind fun q24 => some (q24.1, q24.2)) else none)
theorem ct_J5_getEntry (g : AG) (hst : (gL g).stackTraces = false) (N : Nat) : ∀ (h : AH) (x0 : Nat) (r1 : Option Nat) (q : (Option Nat × AH)), x_J5_getEntry g N h x0 r1 = some q → CT g YJ5_getEntry 4 [.ref x0, va_rf r1] h (xR q) := by
  intro h x0 r1 q hq
  refine CT.of rfl (by decide +kernel) (loc := [some (.ref x0), some (va_rf r1), none, none, none]) (by first | exact Nat.le_of_ble_eq_true rfl | (simp only [lgl_rf, lgl_i, lgl_j, lgl_ref, lgl_nil]; exact Nat.le_of_ble_eq_true rfl)) (by first | rfl | (simp only [aent_rf, aent_i, aent_j, aent_ref, aent_nil]; rfl)) ?_
  unfold x_J5_getEntry at hq
  refine aw_aload_n (i := 0) dJ5_getEntry_0 rfl rfl trivial ?_
  replace hq := obind hq
  obtain ⟨o1, e2, hq⟩ := hq
  refine xw_getR e2 fJ5_16 dJ5_getEntry_1 ?_
  rcases o1 with _ | a3
  · replace hq := ocase_n hq
    refine xw_ifnullN (tgt := 13) dJ5_getEntry_4 (by decide) ?_
    refine aw_aload_n (i := 1) dJ5_getEntry_13 rfl rfl (aIsR_rf _) ?_
    replace hq := obind hq
    obtain ⟨q4, e5, hq⟩ := hq
    refine aw_callS (Y2 := YJ26_requireNonNull) (As := [va_rf r1]) (rest := []) kJ26_requireNonNull q1513 q1514 dJ5_getEntry_14 rfl rfl (ct_J26_requireNonNull g hst N h r1 _ e5) (Nat.le_of_ble_eq_true rfl) (Nat.le_of_ble_eq_true rfl) (fun v9 h9 z9 y9 => ?_)
    obtain ⟨rfl, rfl⟩ := y9
    refine aw_st (st' := [va_rf q4.1]) rfl ?_
    refine aw_pop dJ5_getEntry_17 (cat_rf _) ?_
    refine aw_aload_n (i := 1) dJ5_getEntry_18 rfl rfl (aIsR_rf _) ?_
    replace hq := cond_t hq
    obtain ⟨z6, hq⟩ := hq
    refine xw_cast (r := r1) z6 q1516 casjava_lang_Comparable dJ5_getEntry_19 ?_
    refine aw_astore_n (i := 2) (loc' := [some (.ref x0), some (va_rf r1), some (va_rf r1), none, none]) dJ5_getEntry_22 rfl (Nat.le_of_ble_eq_true rfl) (aIsR_rf _) (aset1_rf rfl) ?_
    refine aw_aload_n (i := 0) dJ5_getEntry_23 rfl rfl trivial ?_
    replace hq := obind hq
    obtain ⟨o7, e8, hq⟩ := hq
    refine xw_getR e8 fJ5_101 dJ5_getEntry_24 ?_
    refine aw_astore_n (i := 3) (loc' := [some (.ref x0), some (va_rf r1), some (va_rf r1), some (va_rf o7), none]) dJ5_getEntry_27 rfl (Nat.le_of_ble_eq_true rfl) (aIsR_rf _) (aset1_rf rfl) ?_
    exact p_x_J5_getEntry_28 g hst N   N q4.2 x0 r1 r1 o7 _ hq
  · replace hq := ocase_s hq
    refine xw_ifnullS (tgt := 13) dJ5_getEntry_4 (by decide) ?_
    refine aw_aload_n (i := 0) dJ5_getEntry_7 rfl rfl trivial ?_
    refine aw_aload_n (i := 1) dJ5_getEntry_8 rfl rfl (aIsR_rf _) ?_
    replace hq := cond_t hq
    obtain ⟨z23, hq⟩ := hq
    obtain ⟨fs9, ha9⟩ := clB1 z23
    replace hq := obind hq
    obtain ⟨q24, e25, hq⟩ := hq
    refine aw_callV (Y2 := YJ5_getEntryUsingComparator) (As := [va_rf r1]) (rest := []) (r := (RJ5, TJ5, 9)) kJ5_getEntryUsingComparator ha9 rfl rfl q1505 q1506 q1507 dJ5_getEntry_9 rfl rfl (ct_J5_getEntryUsingComparator g hst N h x0 r1 _ e25) (Nat.le_of_ble_eq_true rfl) (Nat.le_of_ble_eq_true rfl) (fun v9 h9 z9 y9 => ?_)
    obtain ⟨rfl, rfl⟩ := y9
    refine aw_st (st' := [va_rf q24.1]) rfl ?_
    cases hq
    exact aw_areturn dJ5_getEntry_12 rfl (Or.inl ⟨_, rfl⟩) (aIsR_rf _) ⟨rfl, rfl⟩
abbrev YJ5_containsKey : YC := (yJ5_containsKey, cJ5_containsKey, 2, (some .boolean), [])
theorem kJ5_containsKey : aMk YJ5_containsKey 1 := ⟨rfl, q1500, q124, ⟨by decide +kernel, by decide +kernel, by decide +kernel⟩, Nat.le_of_ble_eq_true rfl⟩
def x_J5_containsKey (g : AG) (N : Nat) (h : AH) (x0 : Nat) (r1 : Option Nat) : Option (Int32 × AH) :=
  bif clB h x0 [14] then ((x_J5_getEntry g N h x0 r1).bind fun q2 => ocase q2.1 (some ((0 : Int32), q2.2)) (fun a4 => some ((1 : Int32), q2.2))) else none
theorem ct_J5_containsKey (g : AG) (hst : (gL g).stackTraces = false) (N : Nat) : ∀ (h : AH) (x0 : Nat) (r1 : Option Nat) (q : (Int32 × AH)), x_J5_containsKey g N h x0 r1 = some q → CT g YJ5_containsKey 5 [.ref x0, va_rf r1] h (xI q) := by
  intro h x0 r1 q hq
  refine CT.of rfl (by decide +kernel) (loc := [some (.ref x0), some (va_rf r1)]) (by first | exact Nat.le_of_ble_eq_true rfl | (simp only [lgl_rf, lgl_i, lgl_j, lgl_ref, lgl_nil]; exact Nat.le_of_ble_eq_true rfl)) (by first | rfl | (simp only [aent_rf, aent_i, aent_j, aent_ref, aent_nil]; rfl)) ?_
  unfold x_J5_containsKey at hq
  refine aw_aload_n (i := 0) dJ5_containsKey_0 rfl rfl trivial ?_
  refine aw_aload_n (i := 1) dJ5_containsKey_1 rfl rfl (aIsR_rf _) ?_
  replace hq := cond_t hq
  obtain ⟨z1, hq⟩ := hq
  obtain ⟨fs9, ha9⟩ := clB1 z1
  replace hq := obind hq
  obtain ⟨q2, e3, hq⟩ := hq
  refine aw_callV (Y2 := YJ5_getEntry) (As := [va_rf r1]) (rest := []) (r := (RJ5, TJ5, 9)) kJ5_getEntry ha9 rfl rfl q1501 q1502 q1503 dJ5_containsKey_2 rfl rfl (ct_J5_getEntry g hst N h x0 r1 _ e3) (Nat.le_of_ble_eq_true rfl) (Nat.le_of_ble_eq_true rfl) (fun v9 h9 z9 y9 => ?_)
  obtain ⟨rfl, rfl⟩ := y9
  refine aw_st (st' := [va_rf q2.1]) rfl ?_
  generalize q2.1 = v9 at hq ⊢
  rcases v9 with _ | a4
  · replace hq := ocase_n hq
    refine xw_ifnullN (tgt := 12) dJ5_containsKey_5 (by decide) ?_
    refine aw_iconst (v := 0) dJ5_containsKey_12 (by decide) ?_
    cases hq
    exact aw_ireturn dJ5_containsKey_13 rfl rfl ⟨rfl, rfl⟩
  · replace hq := ocase_s hq
    refine xw_ifnullS (tgt := 12) dJ5_containsKey_5 (by decide) ?_
    refine aw_iconst (v := 1) dJ5_containsKey_8 (by decide) ?_
    refine aw_goto (tgt := 13) dJ5_containsKey_9 (by decide) ?_
    cases hq
    exact aw_ireturn dJ5_containsKey_13 rfl rfl ⟨rfl, rfl⟩
abbrev YJ5_successor : YC := (yJ5_successor, cJ5_successor, 3, (some (.object "java/util/TreeMap$Entry")), [])
theorem kJ5_successor : aMk YJ5_successor 1 := ⟨rfl, q1818, q124, ⟨by decide +kernel, by decide +kernel, by decide +kernel⟩, Nat.le_of_ble_eq_true rfl⟩
def x_J5_successor_42 (g : AG) (N : Nat) : Nat → AH → Option Nat → Option Nat → Option Nat → Option (Option Nat × AH)
  | 0, _, _, _, _ => none
  | n9 + 1, h, r0, r1, r2 =>
  ocase r1 (some ((none), h)) (fun a7 => (rdR h a7 [(15, 3)]).bind fun o8 => if r2 = o8 then ((rdR h a7 [(15, 4)]).bind fun o11 => x_J5_successor_42 g N n9 h r0 o11 (some a7)) else (some ((some a7), h)))
theorem p_x_J5_successor_42 (g : AG) (hst : (gL g).stackTraces = false) (N : Nat) : ∀ (n9 : Nat) (h : AH) (r0 : Option Nat) (r1 : Option Nat) (r2 : Option Nat) (q : (Option Nat × AH)), x_J5_successor_42 g N n9 h r0 r1 r2 = some q → AW g YJ5_successor 1 (xR q) h [some (va_rf r0), some (va_rf r1), some (va_rf r2)] 42 [] := by
  intro n9
  induction n9 with
  | zero =>
    intro h r0 r1 r2 q hq
    cases hq
  | succ n9 ih =>
    intro h r0 r1 r2 q hq
    rw [x_J5_successor_42] at hq
    refine aw_aload_n (i := 1) dJ5_successor_42 rfl rfl (aIsR_rf _) ?_
    rcases r1 with _ | a7
    · replace hq := ocase_n hq
      refine xw_ifnullN (tgt := 64) dJ5_successor_43 (by decide) ?_
      refine aw_aload_n (i := 1) dJ5_successor_64 rfl rfl trivial ?_
      cases hq
      exact aw_areturn dJ5_successor_65 rfl (Or.inl ⟨_, rfl⟩) trivial ⟨rfl, rfl⟩
    · replace hq := ocase_s hq
      refine xw_ifnullS (tgt := 64) dJ5_successor_43 (by decide) ?_
      refine aw_aload_n (i := 2) dJ5_successor_46 rfl rfl (aIsR_rf _) ?_
      refine aw_aload_n (i := 1) dJ5_successor_47 rfl rfl trivial ?_
      replace hq := obind hq
      obtain ⟨o8, e9, hq⟩ := hq
      refine xw_getR e9 fJ5_114 dJ5_successor_48 ?_
      refine xw_acmp_ne (v := r2) (w := o8) (tgt := 64) dJ5_successor_51 (by decide) (fun c10 => ?_) (fun c10 => ?_)
      · rw [if_neg c10] at hq
        refine aw_aload_n (i := 1) dJ5_successor_64 rfl rfl trivial ?_
        cases hq
        exact aw_areturn dJ5_successor_65 rfl (Or.inl ⟨_, rfl⟩) trivial ⟨rfl, rfl⟩
      · rw [if_pos c10] at hq
        refine aw_aload_n (i := 1) dJ5_successor_54 rfl rfl trivial ?_
        refine aw_astore_n (i := 2) (loc' := [some (va_rf r0), some (.ref a7), some (.ref a7)]) dJ5_successor_55 rfl (Nat.le_of_ble_eq_true rfl) trivial rfl ?_
        refine aw_aload_n (i := 1) dJ5_successor_56 rfl rfl trivial ?_
        replace hq := obind hq
        obtain ⟨o11, e12, hq⟩ := hq
        refine xw_getR e12 fJ5_124 dJ5_successor_57 ?_
        refine aw_astore_n (i := 1) (loc' := [some (va_rf r0), some (va_rf o11), some (.ref a7)]) dJ5_successor_60 rfl (Nat.le_of_ble_eq_true rfl) (aIsR_rf _) (aset1_rf rfl) ?_
        refine aw_goto (tgt := 42) dJ5_successor_61 (by decide) ?_
        exact ih h r0 o11 (some a7) _ hq
def x_J5_successor_18 (g : AG) (N : Nat) : Nat → AH → Option Nat → Option Nat → Option (Option Nat × AH)
  | 0, _, _, _ => none
  | n9 + 1, h, r0, r1 =>
  (r1).bind fun a15 => (rdR h a15 [(15, 2)]).bind fun o17 => ocase o17 (some ((some a15), h)) (fun a19 => (rdR h a15 [(15, 2)]).bind fun o20 => x_J5_successor_18 g N n9 h r0 o20)
theorem p_x_J5_successor_18 (g : AG) (hst : (gL g).stackTraces = false) (N : Nat) : ∀ (n9 : Nat) (h : AH) (r0 : Option Nat) (r1 : Option Nat) (q : (Option Nat × AH)), x_J5_successor_18 g N n9 h r0 r1 = some q → AW g YJ5_successor 1 (xR q) h [some (va_rf r0), some (va_rf r1), none] 18 [] := by
  intro n9
  induction n9 with
  | zero =>
    intro h r0 r1 q hq
    cases hq
  | succ n9 ih =>
    intro h r0 r1 q hq
    rw [x_J5_successor_18] at hq
    refine aw_aload_n (i := 1) dJ5_successor_18 rfl rfl (aIsR_rf _) ?_
    replace hq := obind hq
    obtain ⟨a15, e16, hq⟩ := hq
    subst e16
    replace hq := obind hq
    obtain ⟨o17, e18, hq⟩ := hq
    refine xw_getR e18 fJ5_111 dJ5_successor_19 ?_
    rcases o17 with _ | a19
    · replace hq := ocase_n hq
      refine xw_ifnullN (tgt := 33) dJ5_successor_22 (by decide) ?_
      refine aw_aload_n (i := 1) dJ5_successor_33 rfl rfl trivial ?_
      cases hq
      exact aw_areturn dJ5_successor_34 rfl (Or.inl ⟨_, rfl⟩) trivial ⟨rfl, rfl⟩
    · replace hq := ocase_s hq
      refine xw_ifnullS (tgt := 33) dJ5_successor_22 (by decide) ?_
      refine aw_aload_n (i := 1) dJ5_successor_25 rfl rfl trivial ?_
      replace hq := obind hq
      obtain ⟨o20, e21, hq⟩ := hq
      refine xw_getR e21 fJ5_111 dJ5_successor_26 ?_
      refine aw_astore_n (i := 1) (loc' := [some (va_rf r0), some (va_rf o20), none]) dJ5_successor_29 rfl (Nat.le_of_ble_eq_true rfl) (aIsR_rf _) (aset1_rf rfl) ?_
      refine aw_goto (tgt := 18) dJ5_successor_30 (by decide) ?_
      exact ih h r0 o20 _ hq
def x_J5_successor (g : AG) (N : Nat) (h : AH) (r0 : Option Nat) : Option (Option Nat × AH) :=
  ocase r0 (some ((none), h)) (fun a1 => (rdR h a1 [(15, 3)]).bind fun o2 => ocase o2 ((rdR h a1 [(15, 4)]).bind fun o5 => x_J5_successor_42 g N  N h (some a1) o5 (some a1)) (fun a4 => (rdR h a1 [(15, 3)]).bind fun o13 => x_J5_successor_18 g N  N h (some a1) o13))
theorem ct_J5_successor (g : AG) (hst : (gL g).stackTraces = false) (N : Nat) : ∀ (h : AH) (r0 : Option Nat) (q : (Option Nat × AH)), x_J5_successor g N h r0 = some q → CT g YJ5_successor 1 [va_rf r0] h (xR q) := by
  intro h r0 q hq
  refine CT.of rfl (by decide +kernel) (loc := [some (va_rf r0), none, none]) (by first | exact Nat.le_of_ble_eq_true rfl | (simp only [lgl_rf, lgl_i, lgl_j, lgl_ref, lgl_nil]; exact Nat.le_of_ble_eq_true rfl)) (by first | rfl | (simp only [aent_rf, aent_i, aent_j, aent_ref, aent_nil]; rfl)) ?_
  unfold x_J5_successor at hq
  refine aw_aload_n (i := 0) dJ5_successor_0 rfl rfl (aIsR_rf _) ?_
  rcases r0 with _ | a1
  · replace hq := ocase_n hq
    refine xw_ifnonN (tgt := 6) dJ5_successor_1 (by decide) ?_
    refine aw_null dJ5_successor_4 ?_
    cases hq
    exact aw_areturn dJ5_successor_5 rfl (Or.inl ⟨_, rfl⟩) trivial ⟨rfl, rfl⟩
  · replace hq := ocase_s hq
    refine xw_ifnonS (tgt := 6) dJ5_successor_1 (by decide) ?_
    refine aw_aload_n (i := 0) dJ5_successor_6 rfl rfl trivial ?_
    replace hq := obind hq
    obtain ⟨o2, e3, hq⟩ := hq
    refine xw_getR e3 fJ5_114 dJ5_successor_7 ?_
    rcases o2 with _ | a4
    · replace hq := ocase_n hq
      refine xw_ifnullN (tgt := 35) dJ5_successor_10 (by decide) ?_
      refine aw_aload_n (i := 0) dJ5_successor_35 rfl rfl trivial ?_
      replace hq := obind hq
      obtain ⟨o5, e6, hq⟩ := hq
      refine xw_getR e6 fJ5_124 dJ5_successor_36 ?_
      refine aw_astore_n (i := 1) (loc' := [some (.ref a1), some (va_rf o5), none]) dJ5_successor_39 rfl (Nat.le_of_ble_eq_true rfl) (aIsR_rf _) rfl ?_
      refine aw_aload_n (i := 0) dJ5_successor_40 rfl rfl trivial ?_
      refine aw_astore_n (i := 2) (loc' := [some (.ref a1), some (va_rf o5), some (.ref a1)]) dJ5_successor_41 rfl (Nat.le_of_ble_eq_true rfl) trivial (aset1_rf rfl) ?_
      exact p_x_J5_successor_42 g hst N   N h (some a1) o5 (some a1) _ hq
    · replace hq := ocase_s hq
      refine xw_ifnullS (tgt := 35) dJ5_successor_10 (by decide) ?_
      refine aw_aload_n (i := 0) dJ5_successor_13 rfl rfl trivial ?_
      replace hq := obind hq
      obtain ⟨o13, e14, hq⟩ := hq
      refine xw_getR e14 fJ5_114 dJ5_successor_14 ?_
      refine aw_astore_n (i := 1) (loc' := [some (.ref a1), some (va_rf o13), none]) dJ5_successor_17 rfl (Nat.le_of_ble_eq_true rfl) (aIsR_rf _) rfl ?_
      exact p_x_J5_successor_18 g hst N   N h (some a1) o13 _ hq
