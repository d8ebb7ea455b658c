/-! THE COMPONENT AND THE JDK as functions of the heap, and their contracts: printed by wip gen/dec2.py -/
set_option maxRecDepth 100000
theorem fJ5_290 : ∀ q ∈ ([(15, 5)] : List (Nat × Nat)), aFl RJ5 290 q.1 q.2 := by
  intro q hq
  simp only [List.mem_cons, List.not_mem_nil, or_false] at hq
  subst hq
  exact aFl.of (RJ30, TJ30, 6) rfl (Nat.le_of_ble_eq_true rfl) q1700
abbrev YJ5_colorOf : YC := (yJ5_colorOf, cJ5_colorOf, 1, (some .boolean), [])
theorem kJ5_colorOf : aMk YJ5_colorOf 1 := ⟨rfl, q1733, q124, ⟨by decide +kernel, by decide +kernel, by decide +kernel⟩, Nat.le_of_ble_eq_true rfl⟩
def x_J5_colorOf (g : AG) (N : Nat) (h : AH) (r0 : Option Nat) : Option (Int32 × AH) :=
  ocase r0 (some ((1 : Int32), h)) (fun a1 => (rdI h a1 [(15, 5)]).bind fun i2 => bif isb i2 then (some (i2, h)) else none)
theorem ct_J5_colorOf (g : AG) (hst : (gL g).stackTraces = false) (N : Nat) : ∀ (h : AH) (r0 : Option Nat) (q : (Int32 × AH)), x_J5_colorOf g N h r0 = some q → CT g YJ5_colorOf 1 [va_rf r0] h (xI q) := by
  intro h r0 q hq
  refine CT.of rfl (by decide +kernel) (loc := [some (va_rf r0)]) (by first | exact Nat.le_of_ble_eq_true rfl | (simp only [lgl_rf, lgl_i, lgl_j, lgl_ref, lgl_nil]; exact Nat.le_of_ble_eq_true rfl)) (by first | rfl | (simp only [aent_rf, aent_i, aent_j, aent_ref, aent_nil]; rfl)) ?_
  unfold x_J5_colorOf at hq
  refine aw_aload_n (i := 0) dJ5_colorOf_0 rfl rfl (aIsR_rf _) ?_
  rcases r0 with _ | a1
  · replace hq := ocase_n hq
    refine xw_ifnonN (tgt := 8) dJ5_colorOf_1 (by decide) ?_
    refine aw_iconst (v := 1) dJ5_colorOf_4 (by decide) ?_
    refine aw_goto (tgt := 12) dJ5_colorOf_5 (by decide) ?_
    cases hq
    exact aw_ireturn dJ5_colorOf_12 rfl rfl ⟨rfl, rfl⟩
  · replace hq := ocase_s hq
    refine xw_ifnonS (tgt := 8) dJ5_colorOf_1 (by decide) ?_
    refine aw_aload_n (i := 0) dJ5_colorOf_8 rfl rfl trivial ?_
    replace hq := obind hq
    obtain ⟨i2, e3, hq⟩ := hq
    refine xw_getI e3 fJ5_290 dJ5_colorOf_9 ?_
    replace hq := cond_t hq
    obtain ⟨z4, hq⟩ := hq
    cases hq
    exact aw_ireturn dJ5_colorOf_12 rfl (isb_ok z4).1 ⟨rfl, rfl⟩
abbrev YJ5_setColor : YC := (yJ5_setColor, cJ5_setColor, 2, none, [])
theorem kJ5_setColor : aMk YJ5_setColor 2 := ⟨rfl, q1736, q124, ⟨by decide +kernel, by decide +kernel, by decide +kernel⟩, Nat.le_of_ble_eq_true rfl⟩
def x_J5_setColor (g : AG) (N : Nat) (h : AH) (r0 : Option Nat) (x1 : Int32) : Option AH :=
  ocase r0 (some h) (fun a1 => bif isb x1 then ((wrV g h a1 [(15, 5)] (.int x1)).bind fun h3 => some h3) else none)
theorem ct_J5_setColor (g : AG) (hst : (gL g).stackTraces = false) (N : Nat) : ∀ (h : AH) (r0 : Option Nat) (x1 : Int32) (q : AH), x_J5_setColor g N h r0 x1 = some q → CT g YJ5_setColor 1 [va_rf r0, .int x1] h (xV q) := by
  intro h r0 x1 q hq
  refine CT.of rfl (by decide +kernel) (loc := [some (va_rf r0), some (.int x1)]) (by first | exact Nat.le_of_ble_eq_true rfl | (simp only [lgl_rf, lgl_i, lgl_j, lgl_ref, lgl_nil]; exact Nat.le_of_ble_eq_true rfl)) (by first | rfl | (simp only [aent_rf, aent_i, aent_j, aent_ref, aent_nil]; rfl)) ?_
  unfold x_J5_setColor at hq
  refine aw_aload_n (i := 0) dJ5_setColor_0 rfl rfl (aIsR_rf _) ?_
  rcases r0 with _ | a1
  · replace hq := ocase_n hq
    refine xw_ifnullN (tgt := 9) dJ5_setColor_1 (by decide) ?_
    cases hq
    exact aw_vret dJ5_setColor_9 rfl ⟨rfl, rfl⟩
  · replace hq := ocase_s hq
    refine xw_ifnullS (tgt := 9) dJ5_setColor_1 (by decide) ?_
    refine aw_aload_n (i := 0) dJ5_setColor_4 rfl rfl trivial ?_
    refine aw_iload_n (i := 1) dJ5_setColor_5 rfl rfl ?_
    replace hq := cond_t hq
    obtain ⟨z2, hq⟩ := hq
    replace hq := obind hq
    obtain ⟨h3, e4, hq⟩ := hq
    refine xw_put e4 fJ5_290 tJ30_5 (isb_ok z2) dJ5_setColor_6 ?_
    cases hq
    exact aw_vret dJ5_setColor_9 rfl ⟨rfl, rfl⟩
theorem tJ30_3 : ∀ q ∈ ([(15, 3)] : List (Nat × Nat)), aFt q.1 q.2 false (.object "java/util/TreeMap$Entry") := by
  intro q hq
  simp only [List.mem_cons, List.not_mem_nil, or_false] at hq
  subst hq
  exact ⟨(RJ30, TJ30, 6), tyJ30, Nat.le_of_ble_eq_true rfl, rfl, Nat.le_of_ble_eq_true rfl, okJ30, rfl, rfl⟩
theorem fJ5_101 : ∀ q ∈ ([(14, 3)] : List (Nat × Nat)), aFl RJ5 101 q.1 q.2 := by
  intro q hq
  simp only [List.mem_cons, List.not_mem_nil, or_false] at hq
  subst hq
  exact aFl.of (RJ5, TJ5, 9) rfl (Nat.le_of_ble_eq_true rfl) q282
theorem okJ5 : aCK (RJ5, TJ5, 9) tyJ5 := ⟨in_J5, tyJ5_ok, nmJ5⟩
theorem tJ5_3 : ∀ q ∈ ([(14, 3)] : List (Nat × Nat)), aFt q.1 q.2 false (.object "java/util/TreeMap$Entry") := by
  intro q hq
  simp only [List.mem_cons, List.not_mem_nil, or_false] at hq
  subst hq
  exact ⟨(RJ5, TJ5, 9), tyJ5, Nat.le_of_ble_eq_true rfl, rfl, Nat.le_of_ble_eq_true rfl, okJ5, rfl, rfl⟩
theorem tJ30_2 : ∀ q ∈ ([(15, 2)] : List (Nat × Nat)), aFt q.1 q.2 false (.object "java/util/TreeMap$Entry") := by
  intro q hq
  simp only [List.mem_cons, List.not_mem_nil, or_false] at hq
  subst hq
  exact ⟨(RJ30, TJ30, 6), tyJ30, Nat.le_of_ble_eq_true rfl, rfl, Nat.le_of_ble_eq_true rfl, okJ30, rfl, rfl⟩
abbrev YJ5_rotateLeft : YC := (yJ5_rotateLeft, cJ5_rotateLeft, 3, none, [])
theorem kJ5_rotateLeft : aMk YJ5_rotateLeft 1 := ⟨rfl, q1740, q124, ⟨by decide +kernel, by decide +kernel, by decide +kernel⟩, Nat.le_of_ble_eq_true rfl⟩
def x_J5_rotateLeft_85 (g : AG) (N : Nat) (h : AH) (x0 : Nat) (r1 : Option Nat) (r2 : Option Nat) : Option AH :=
  (r2).bind fun a26 => (wrV g h a26 [(15, 2)] (va_rf r1)).bind fun h28 => (r1).bind fun a30 => (wrV g h28 a30 [(15, 4)] (.ref a26)).bind fun h32 => some h32
theorem p_x_J5_rotateLeft_85 (g : AG) (hst : (gL g).stackTraces = false) (N : Nat) : ∀ (h : AH) (x0 : Nat) (r1 : Option Nat) (r2 : Option Nat) (q : AH), x_J5_rotateLeft_85 g N h x0 r1 r2 = some q → AW g YJ5_rotateLeft 1 (xV q) h [some (.ref x0), some (va_rf r1), some (va_rf r2)] 85 [] := by
  intro h x0 r1 r2 q hq
  unfold x_J5_rotateLeft_85 at hq
  refine aw_aload_n (i := 2) dJ5_rotateLeft_85 rfl rfl (aIsR_rf _) ?_
  refine aw_aload_n (i := 1) dJ5_rotateLeft_86 rfl rfl (aIsR_rf _) ?_
  replace hq := obind hq
  obtain ⟨a26, e27, hq⟩ := hq
  subst e27
  replace hq := obind hq
  obtain ⟨h28, e29, hq⟩ := hq
  refine xw_put e29 fJ5_111 tJ30_2 (fits_rf _ r1) dJ5_rotateLeft_87 ?_
  refine aw_aload_n (i := 1) dJ5_rotateLeft_90 rfl rfl (aIsR_rf _) ?_
  refine aw_aload_n (i := 2) dJ5_rotateLeft_91 rfl rfl trivial ?_
  replace hq := obind hq
  obtain ⟨a30, e31, hq⟩ := hq
  subst e31
  replace hq := obind hq
  obtain ⟨h32, e33, hq⟩ := hq
  refine xw_put e33 fJ5_124 tJ30_4 (fits_rf _ (some a26)) dJ5_rotateLeft_92 ?_
  cases hq
  exact aw_vret dJ5_rotateLeft_95 rfl ⟨rfl, rfl⟩
def x_J5_rotateLeft_32 (g : AG) (N : Nat) (h : AH) (x0 : Nat) (r1 : Option Nat) (r2 : Option Nat) : Option AH :=
  (r1).bind fun a13 => (rdR h a13 [(15, 4)]).bind fun o15 => (r2).bind fun a17 => (wrV g h a17 [(15, 4)] (va_rf o15)).bind fun h19 => (rdR h19 a13 [(15, 4)]).bind fun o21 => ocase o21 ((wrV g h19 x0 [(14, 3)] (.ref a17)).bind fun h24 => x_J5_rotateLeft_85 g N  h24 x0 (some a13) (some a17)) (fun a23 => (rdR h19 a13 [(15, 4)]).bind fun o34 => (o34).bind fun a36 => (rdR h19 a36 [(15, 2)]).bind fun o38 => if o38 = (some a13) then ((rdR h19 a13 [(15, 4)]).bind fun o47 => (o47).bind fun a49 => (wrV g h19 a49 [(15, 2)] (.ref a17)).bind fun h51 => x_J5_rotateLeft_85 g N  h51 x0 (some a13) (some a17)) else ((rdR h19 a13 [(15, 4)]).bind fun o41 => (o41).bind fun a43 => (wrV g h19 a43 [(15, 3)] (.ref a17)).bind fun h45 => x_J5_rotateLeft_85 g N  h45 x0 (some a13) (some a17)))
theorem p_x_J5_rotateLeft_32 (g : AG) (hst : (gL g).stackTraces = false) (N : Nat) : ∀ (h : AH) (x0 : Nat) (r1 : Option Nat) (r2 : Option Nat) (q : AH), x_J5_rotateLeft_32 g N h x0 r1 r2 = some q → AW g YJ5_rotateLeft 1 (xV q) h [some (.ref x0), some (va_rf r1), some (va_rf r2)] 32 [] := by
  intro h x0 r1 r2 q hq
  unfold x_J5_rotateLeft_32 at hq
  refine aw_aload_n (i := 2) dJ5_rotateLeft_32 rfl rfl (aIsR_rf _) ?_
  refine aw_aload_n (i := 1) dJ5_rotateLeft_33 rfl rfl (aIsR_rf _) ?_
  replace hq := obind hq
  obtain ⟨a13, e14, hq⟩ := hq
  subst e14
  replace hq := obind hq
  obtain ⟨o15, e16, hq⟩ := hq
  refine xw_getR e16 fJ5_124 dJ5_rotateLeft_34 ?_
  replace hq := obind hq
  obtain ⟨a17, e18, hq⟩ := hq
  subst e18
  replace hq := obind hq
  obtain ⟨h19, e20, hq⟩ := hq
  refine xw_put e20 fJ5_124 tJ30_4 (fits_rf _ o15) dJ5_rotateLeft_37 ?_
  refine aw_aload_n (i := 1) dJ5_rotateLeft_40 rfl rfl trivial ?_
  replace hq := obind hq
  obtain ⟨o21, e22, hq⟩ := hq
  refine xw_getR e22 fJ5_124 dJ5_rotateLeft_41 ?_
  rcases o21 with _ | a23
  · replace hq := ocase_n hq
    refine xw_ifnonN (tgt := 55) dJ5_rotateLeft_44 (by decide) ?_
    refine aw_aload_n (i := 0) dJ5_rotateLeft_47 rfl rfl trivial ?_
    refine aw_aload_n (i := 2) dJ5_rotateLeft_48 rfl rfl trivial ?_
    replace hq := obind hq
    obtain ⟨h24, e25, hq⟩ := hq
    refine xw_put e25 fJ5_101 tJ5_3 (fits_rf _ (some a17)) dJ5_rotateLeft_49 ?_
    refine aw_goto (tgt := 85) dJ5_rotateLeft_52 (by decide) ?_
    exact p_x_J5_rotateLeft_85 g hst N   h24 x0 (some a13) (some a17) _ hq
  · replace hq := ocase_s hq
    refine xw_ifnonS (tgt := 55) dJ5_rotateLeft_44 (by decide) ?_
    refine aw_aload_n (i := 1) dJ5_rotateLeft_55 rfl rfl trivial ?_
    replace hq := obind hq
    obtain ⟨o34, e35, hq⟩ := hq
    refine xw_getR e35 fJ5_124 dJ5_rotateLeft_56 ?_
    replace hq := obind hq
    obtain ⟨a36, e37, hq⟩ := hq
    subst e37
    replace hq := obind hq
    obtain ⟨o38, e39, hq⟩ := hq
    refine xw_getR e39 fJ5_111 dJ5_rotateLeft_59 ?_
    refine aw_aload_n (i := 1) dJ5_rotateLeft_62 rfl rfl trivial ?_
    refine xw_acmp_ne (v := o38) (w := (some a13)) (tgt := 77) dJ5_rotateLeft_63 (by decide) (fun c40 => ?_) (fun c40 => ?_)
    · rw [if_neg c40] at hq
      refine aw_aload_n (i := 1) dJ5_rotateLeft_77 rfl rfl trivial ?_
      replace hq := obind hq
      obtain ⟨o41, e42, hq⟩ := hq
      refine xw_getR e42 fJ5_124 dJ5_rotateLeft_78 ?_
      refine aw_aload_n (i := 2) dJ5_rotateLeft_81 rfl rfl trivial ?_
      replace hq := obind hq
      obtain ⟨a43, e44, hq⟩ := hq
      subst e44
      replace hq := obind hq
      obtain ⟨h45, e46, hq⟩ := hq
      refine xw_put e46 fJ5_114 tJ30_3 (fits_rf _ (some a17)) dJ5_rotateLeft_82 ?_
      exact p_x_J5_rotateLeft_85 g hst N   h45 x0 (some a13) (some a17) _ hq
    · rw [if_pos c40] at hq
      refine aw_aload_n (i := 1) dJ5_rotateLeft_66 rfl rfl trivial ?_
      replace hq := obind hq
      obtain ⟨o47, e48, hq⟩ := hq
      refine xw_getR e48 fJ5_124 dJ5_rotateLeft_67 ?_
      refine aw_aload_n (i := 2) dJ5_rotateLeft_70 rfl rfl trivial ?_
      replace hq := obind hq
      obtain ⟨a49, e50, hq⟩ := hq
      subst e50
      replace hq := obind hq
      obtain ⟨h51, e52, hq⟩ := hq
      refine xw_put e52 fJ5_111 tJ30_2 (fits_rf _ (some a17)) dJ5_rotateLeft_71 ?_
      refine aw_goto (tgt := 85) dJ5_rotateLeft_74 (by decide) ?_
      exact p_x_J5_rotateLeft_85 g hst N   h51 x0 (some a13) (some a17) _ hq
def x_J5_rotateLeft (g : AG) (N : Nat) (h : AH) (x0 : Nat) (r1 : Option Nat) : Option AH :=
  ocase r1 (some h) (fun a1 => (rdR h a1 [(15, 3)]).bind fun o2 => (o2).bind fun a4 => (rdR h a4 [(15, 2)]).bind fun o6 => (wrV g h a1 [(15, 3)] (va_rf o6)).bind fun h8 => (rdR h8 a4 [(15, 2)]).bind fun o10 => ocase o10 (x_J5_rotateLeft_32 g N  h8 x0 (some a1) (some a4)) (fun a12 => (rdR h8 a4 [(15, 2)]).bind fun o53 => (o53).bind fun a55 => (wrV g h8 a55 [(15, 4)] (.ref a1)).bind fun h57 => x_J5_rotateLeft_32 g N  h57 x0 (some a1) (some a4)))
theorem ct_J5_rotateLeft (g : AG) (hst : (gL g).stackTraces = false) (N : Nat) : ∀ (h : AH) (x0 : Nat) (r1 : Option Nat) (q : AH), x_J5_rotateLeft g N h x0 r1 = some q → CT g YJ5_rotateLeft 1 [.ref x0, va_rf r1] h (xV q) := by
  intro h x0 r1 q hq
  refine CT.of rfl (by decide +kernel) (loc := [some (.ref x0), some (va_rf r1), none]) (by first | exact Nat.le_of_ble_eq_true rfl | (simp only [lgl_rf, lgl_i, lgl_j, lgl_ref, lgl_nil]; exact Nat.le_of_ble_eq_true rfl)) (by first | rfl | (simp only [aent_rf, aent_i, aent_j, aent_ref, aent_nil]; rfl)) ?_
  unfold x_J5_rotateLeft at hq
  refine aw_aload_n (i := 1) dJ5_rotateLeft_0 rfl rfl (aIsR_rf _) ?_
  rcases r1 with _ | a1
  · replace hq := ocase_n hq
    refine xw_ifnullN (tgt := 95) dJ5_rotateLeft_1 (by decide) ?_
    cases hq
    exact aw_vret dJ5_rotateLeft_95 rfl ⟨rfl, rfl⟩
  · replace hq := ocase_s hq
    refine xw_ifnullS (tgt := 95) dJ5_rotateLeft_1 (by decide) ?_
    refine aw_aload_n (i := 1) dJ5_rotateLeft_4 rfl rfl trivial ?_
    replace hq := obind hq
    obtain ⟨o2, e3, hq⟩ := hq
    refine xw_getR e3 fJ5_114 dJ5_rotateLeft_5 ?_
    refine aw_astore_n (i := 2) (loc' := [some (.ref x0), some (.ref a1), some (va_rf o2)]) dJ5_rotateLeft_8 rfl (Nat.le_of_ble_eq_true rfl) (aIsR_rf _) rfl ?_
    refine aw_aload_n (i := 1) dJ5_rotateLeft_9 rfl rfl trivial ?_
    refine aw_aload_n (i := 2) dJ5_rotateLeft_10 rfl rfl (aIsR_rf _) ?_
    replace hq := obind hq
    obtain ⟨a4, e5, hq⟩ := hq
    subst e5
    replace hq := obind hq
    obtain ⟨o6, e7, hq⟩ := hq
    refine xw_getR e7 fJ5_111 dJ5_rotateLeft_11 ?_
    replace hq := obind hq
    obtain ⟨h8, e9, hq⟩ := hq
    refine xw_put e9 fJ5_114 tJ30_3 (fits_rf _ o6) dJ5_rotateLeft_14 ?_
    refine aw_aload_n (i := 2) dJ5_rotateLeft_17 rfl rfl trivial ?_
    replace hq := obind hq
    obtain ⟨o10, e11, hq⟩ := hq
    refine xw_getR e11 fJ5_111 dJ5_rotateLeft_18 ?_
    rcases o10 with _ | a12
    · replace hq := ocase_n hq
      refine xw_ifnullN (tgt := 32) dJ5_rotateLeft_21 (by decide) ?_
      exact p_x_J5_rotateLeft_32 g hst N   h8 x0 (some a1) (some a4) _ hq
    · replace hq := ocase_s hq
      refine xw_ifnullS (tgt := 32) dJ5_rotateLeft_21 (by decide) ?_
      refine aw_aload_n (i := 2) dJ5_rotateLeft_24 rfl rfl trivial ?_
      replace hq := obind hq
      obtain ⟨o53, e54, hq⟩ := hq
      refine xw_getR e54 fJ5_111 dJ5_rotateLeft_25 ?_
      refine aw_aload_n (i := 1) dJ5_rotateLeft_28 rfl rfl trivial ?_
      replace hq := obind hq
      obtain ⟨a55, e56, hq⟩ := hq
      subst e56
      replace hq := obind hq
      obtain ⟨h57, e58, hq⟩ := hq
      refine xw_put e58 fJ5_124 tJ30_4 (fits_rf _ (some a1)) dJ5_rotateLeft_29 ?_
      exact p_x_J5_rotateLeft_32 g hst N   h57 x0 (some a1) (some a4) _ hq
abbrev YJ5_rotateRight : YC := (yJ5_rotateRight, cJ5_rotateRight, 3, none, [])
theorem kJ5_rotateRight : aMk YJ5_rotateRight 1 := ⟨rfl, q1744, q124, ⟨by decide +kernel, by decide +kernel, by decide +kernel⟩, Nat.le_of_ble_eq_true rfl⟩
def x_J5_rotateRight_85 (g : AG) (N : Nat) (h : AH) (x0 : Nat) (r1 : Option Nat) (r2 : Option Nat) : Option AH :=
  (r2).bind fun a26 => (wrV g h a26 [(15, 3)] (va_rf r1)).bind fun h28 => (r1).bind fun a30 => (wrV g h28 a30 [(15, 4)] (.ref a26)).bind fun h32 => some h32
theorem p_x_J5_rotateRight_85 (g : AG) (hst : (gL g).stackTraces = false) (N : Nat) : ∀ (h : AH) (x0 : Nat) (r1 : Option Nat) (r2 : Option Nat) (q : AH), x_J5_rotateRight_85 g N h x0 r1 r2 = some q → AW g YJ5_rotateRight 1 (xV q) h [some (.ref x0), some (va_rf r1), some (va_rf r2)] 85 [] := by
  intro h x0 r1 r2 q hq
  unfold x_J5_rotateRight_85 at hq
  refine aw_aload_n (i := 2) dJ5_rotateRight_85 rfl rfl (aIsR_rf _) ?_
  refine aw_aload_n (i := 1) dJ5_rotateRight_86 rfl rfl (aIsR_rf _) ?_
  replace hq := obind hq
  obtain ⟨a26, e27, hq⟩ := hq
  subst e27
  replace hq := obind hq
  obtain ⟨h28, e29, hq⟩ := hq
  refine xw_put e29 fJ5_114 tJ30_3 (fits_rf _ r1) dJ5_rotateRight_87 ?_
  refine aw_aload_n (i := 1) dJ5_rotateRight_90 rfl rfl (aIsR_rf _) ?_
  refine aw_aload_n (i := 2) dJ5_rotateRight_91 rfl rfl trivial ?_
  replace hq := obind hq
  obtain ⟨a30, e31, hq⟩ := hq
  subst e31
  replace hq := obind hq
  obtain ⟨h32, e33, hq⟩ := hq
  refine xw_put e33 fJ5_124 tJ30_4 (fits_rf _ (some a26)) dJ5_rotateRight_92 ?_
  cases hq
  exact aw_vret dJ5_rotateRight_95 rfl ⟨rfl, rfl⟩
def x_J5_rotateRight_32 (g : AG) (N : Nat) (h : AH) (x0 : Nat) (r1 : Option Nat) (r2 : Option Nat) : Option AH :=
  (r1).bind fun a13 => (rdR h a13 [(15, 4)]).bind fun o15 => (r2).bind fun a17 => (wrV g h a17 [(15, 4)] (va_rf o15)).bind fun h19 => (rdR h19 a13 [(15, 4)]).bind fun o21 => ocase o21 ((wrV g h19 x0 [(14, 3)] (.ref a17)).bind fun h24 => x_J5_rotateRight_85 g N  h24 x0 (some a13) (some a17)) (fun a23 => (rdR h19 a13 [(15, 4)]).bind fun o34 => (o34).bind fun a36 => (rdR h19 a36 [(15, 3)]).bind fun o38 => if o38 = (some a13) then ((rdR h19 a13 [(15, 4)]).bind fun o47 => (o47).bind fun a49 => (wrV g h19 a49 [(15, 3)] (.ref a17)).bind fun h51 => x_J5_rotateRight_85 g N  h51 x0 (some a13) (some a17)) else ((rdR h19 a13 [(15, 4)]).bind fun o41 => (o41).bind fun a43 => (wrV g h19 a43 [(15, 2)] (.ref a17)).bind fun h45 => x_J5_rotateRight_85 g N  h45 x0 (some a13) (some a17)))
theorem p_x_J5_rotateRight_32 (g : AG) (hst : (gL g).stackTraces = false) (N : Nat) : ∀ (h : AH) (x0 : Nat) (r1 : Option Nat) (r2 : Option Nat) (q : AH), x_J5_rotateRight_32 g N h x0 r1 r2 = some q → AW g YJ5_rotateRight 1 (xV q) h [some (.ref x0), some (va_rf r1), some (va_rf r2)] 32 [] := by
  intro h x0 r1 r2 q hq
  unfold x_J5_rotateRight_32 at hq
  refine aw_aload_n (i := 2) dJ5_rotateRight_32 rfl rfl (aIsR_rf _) ?_
  refine aw_aload_n (i := 1) dJ5_rotateRight_33 rfl rfl (aIsR_rf _) ?_
  replace hq := obind hq
  obtain ⟨a13, e14, hq⟩ := hq
  subst e14
  replace hq := obind hq
  obtain ⟨o15, e16, hq⟩ := hq
  refine xw_getR e16 fJ5_124 dJ5_rotateRight_34 ?_
  replace hq := obind hq
  obtain ⟨a17, e18, hq⟩ := hq
  subst e18
  replace hq := obind hq
  obtain ⟨h19, e20, hq⟩ := hq
  refine xw_put e20 fJ5_124 tJ30_4 (fits_rf _ o15) dJ5_rotateRight_37 ?_
  refine aw_aload_n (i := 1) dJ5_rotateRight_40 rfl rfl trivial ?_
  replace hq := obind hq
  obtain ⟨o21, e22, hq⟩ := hq
  refine xw_getR e22 fJ5_124 dJ5_rotateRight_41 ?_
  rcases o21 with _ | a23
  · replace hq := ocase_n hq
    refine xw_ifnonN (tgt := 55) dJ5_rotateRight_44 (by decide) ?_
    refine aw_aload_n (i := 0) dJ5_rotateRight_47 rfl rfl trivial ?_
    refine aw_aload_n (i := 2) dJ5_rotateRight_48 rfl rfl trivial ?_
    replace hq := obind hq
    obtain ⟨h24, e25, hq⟩ := hq
    refine xw_put e25 fJ5_101 tJ5_3 (fits_rf _ (some a17)) dJ5_rotateRight_49 ?_
    refine aw_goto (tgt := 85) dJ5_rotateRight_52 (by decide) ?_
    exact p_x_J5_rotateRight_85 g hst N   h24 x0 (some a13) (some a17) _ hq
  · replace hq := ocase_s hq
    refine xw_ifnonS (tgt := 55) dJ5_rotateRight_44 (by decide) ?_
    refine aw_aload_n (i := 1) dJ5_rotateRight_55 rfl rfl trivial ?_
    replace hq := obind hq
    obtain ⟨o34, e35, hq⟩ := hq
    refine xw_getR e35 fJ5_124 dJ5_rotateRight_56 ?_
    replace hq := obind hq
    obtain ⟨a36, e37, hq⟩ := hq
    subst e37
    replace hq := obind hq
    obtain ⟨o38, e39, hq⟩ := hq
    refine xw_getR e39 fJ5_114 dJ5_rotateRight_59 ?_
    refine aw_aload_n (i := 1) dJ5_rotateRight_62 rfl rfl trivial ?_
    refine xw_acmp_ne (v := o38) (w := (some a13)) (tgt := 77) dJ5_rotateRight_63 (by decide) (fun c40 => ?_) (fun c40 => ?_)
    · rw [if_neg c40] at hq
      refine aw_aload_n (i := 1) dJ5_rotateRight_77 rfl rfl trivial ?_
      replace hq := obind hq
      obtain ⟨o41, e42, hq⟩ := hq
      refine xw_getR e42 fJ5_124 dJ5_rotateRight_78 ?_
      refine aw_aload_n (i := 2) dJ5_rotateRight_81 rfl rfl trivial ?_
      replace hq := obind hq
      obtain ⟨a43, e44, hq⟩ := hq
      subst e44
      replace hq := obind hq
      obtain ⟨h45, e46, hq⟩ := hq
      refine xw_put e46 fJ5_111 tJ30_2 (fits_rf _ (some a17)) dJ5_rotateRight_82 ?_
      exact p_x_J5_rotateRight_85 g hst N   h45 x0 (some a13) (some a17) _ hq
    · rw [if_pos c40] at hq
      refine aw_aload_n (i := 1) dJ5_rotateRight_66 rfl rfl trivial ?_
      replace hq := obind hq
      obtain ⟨o47, e48, hq⟩ := hq
      refine xw_getR e48 fJ5_124 dJ5_rotateRight_67 ?_
      refine aw_aload_n (i := 2) dJ5_rotateRight_70 rfl rfl trivial ?_
      replace hq := obind hq
      obtain ⟨a49, e50, hq⟩ := hq
      subst e50
      replace hq := obind hq
      obtain ⟨h51, e52, hq⟩ := hq
      refine xw_put e52 fJ5_114 tJ30_3 (fits_rf _ (some a17)) dJ5_rotateRight_71 ?_
      refine aw_goto (tgt := 85) dJ5_rotateRight_74 (by decide) ?_
      exact p_x_J5_rotateRight_85 g hst N   h51 x0 (some a13) (some a17) _ hq
def x_J5_rotateRight (g : AG) (N : Nat) (h : AH) (x0 : Nat) (r1 : Option Nat) : Option AH :=
  ocase r1 (some h) (fun a1 => (rdR h a1 [(15, 2)]).bind fun o2 => (o2).bind fun a4 => (rdR h a4 [(15, 3)]).bind fun o6 => (wrV g h a1 [(15, 2)] (va_rf o6)).bind fun h8 => (rdR h8 a4 [(15, 3)]).bind fun o10 => ocase o10 (x_J5_rotateRight_32 g N  h8 x0 (some a1) (some a4)) (fun a12 => (rdR h8 a4 [(15, 3)]).bind fun o53 => (o53).bind fun a55 => (wrV g h8 a55 [(15, 4)] (.ref a1)).bind fun h57 => x_J5_rotateRight_32 g N  h57 x0 (some a1) (some a4)))
theorem ct_J5_rotateRight (g : AG) (hst : (gL g).stackTraces = false) (N : Nat) : ∀ (h : AH) (x0 : Nat) (r1 : Option Nat) (q : AH), x_J5_rotateRight g N h x0 r1 = some q → CT g YJ5_rotateRight 1 [.ref x0, va_rf r1] h (xV q) := by
  intro h x0 r1 q hq
  refine CT.of rfl (by decide +kernel) (loc := [some (.ref x0), some (va_rf r1), none]) (by first | exact Nat.le_of_ble_eq_true rfl | (simp only [lgl_rf, lgl_i, lgl_j, lgl_ref, lgl_nil]; exact Nat.le_of_ble_eq_true rfl)) (by first | rfl | (simp only [aent_rf, aent_i, aent_j, aent_ref, aent_nil]; rfl)) ?_
  unfold x_J5_rotateRight at hq
  refine aw_aload_n (i := 1) dJ5_rotateRight_0 rfl rfl (aIsR_rf _) ?_
  rcases r1 with _ | a1
  · replace hq := ocase_n hq
    refine xw_ifnullN (tgt := 95) dJ5_rotateRight_1 (by decide) ?_
    cases hq
    exact aw_vret dJ5_rotateRight_95 rfl ⟨rfl, rfl⟩
  · replace hq := ocase_s hq
    refine xw_ifnullS (tgt := 95) dJ5_rotateRight_1 (by decide) ?_
    refine aw_aload_n (i := 1) dJ5_rotateRight_4 rfl rfl trivial ?_
    replace hq := obind hq
    obtain ⟨o2, e3, hq⟩ := hq
    refine xw_getR e3 fJ5_111 dJ5_rotateRight_5 ?_
    refine aw_astore_n (i := 2) (loc' := [some (.ref x0), some (.ref a1), some (va_rf o2)]) dJ5_rotateRight_8 rfl (Nat.le_of_ble_eq_true rfl) (aIsR_rf _) rfl ?_
    refine aw_aload_n (i := 1) dJ5_rotateRight_9 rfl rfl trivial ?_
    refine aw_aload_n (i := 2) dJ5_rotateRight_10 rfl rfl (aIsR_rf _) ?_
    replace hq := obind hq
    obtain ⟨a4, e5, hq⟩ := hq
    subst e5
    replace hq := obind hq
    obtain ⟨o6, e7, hq⟩ := hq
    refine xw_getR e7 fJ5_114 dJ5_rotateRight_11 ?_
    replace hq := obind hq
    obtain ⟨h8, e9, hq⟩ := hq
    refine xw_put e9 fJ5_111 tJ30_2 (fits_rf _ o6) dJ5_rotateRight_14 ?_
    refine aw_aload_n (i := 2) dJ5_rotateRight_17 rfl rfl trivial ?_
    replace hq := obind hq
    obtain ⟨o10, e11, hq⟩ := hq
    refine xw_getR e11 fJ5_114 dJ5_rotateRight_18 ?_
    rcases o10 with _ | a12
    · replace hq := ocase_n hq
      refine xw_ifnullN (tgt := 32) dJ5_rotateRight_21 (by decide) ?_
      exact p_x_J5_rotateRight_32 g hst N   h8 x0 (some a1) (some a4) _ hq
    · replace hq := ocase_s hq
      refine xw_ifnullS (tgt := 32) dJ5_rotateRight_21 (by decide) ?_
      refine aw_aload_n (i := 2) dJ5_rotateRight_24 rfl rfl trivial ?_
      replace hq := obind hq
      obtain ⟨o53, e54, hq⟩ := hq
      refine xw_getR e54 fJ5_114 dJ5_rotateRight_25 ?_
      refine aw_aload_n (i := 1) dJ5_rotateRight_28 rfl rfl trivial ?_
      replace hq := obind hq
      obtain ⟨a55, e56, hq⟩ := hq
      subst e56
      replace hq := obind hq
      obtain ⟨h57, e58, hq⟩ := hq
      refine xw_put e58 fJ5_124 tJ30_4 (fits_rf _ (some a1)) dJ5_rotateRight_29 ?_
      exact p_x_J5_rotateRight_32 g hst N   h57 x0 (some a1) (some a4) _ hq
