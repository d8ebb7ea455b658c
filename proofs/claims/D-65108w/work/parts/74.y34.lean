/-! THE COMPONENT AND THE JDK as functions of the heap, and their contracts: printed by wip gen/dec2.py -/
set_option maxRecDepth 100000
theorem dfJ1 : ∀ j, j < 8 → defaultValue (tyJ1 j) = vp_V [.null, .null, .null, .null, .int 0, .int 0, .int 0, .float 0] j := by decide +kernel
theorem fX3_12 : ∀ q ∈ ([(2, 0)] : List (Nat × Nat)), aFl RX3 12 q.1 q.2 := by
  intro q hq
  simp only [List.mem_cons, List.not_mem_nil, or_false] at hq
  subst hq
  exact aFl.of (RX3, TX3, 10) rfl (Nat.le_of_ble_eq_true rfl) q315
theorem tX3_0f : ∀ q ∈ ([(2, 0)] : List (Nat × Nat)), aFt q.1 q.2 true (.object "java/util/Map") := by
  intro q hq
  simp only [List.mem_cons, List.not_mem_nil, or_false] at hq
  subst hq
  exact ⟨(RX3, TX3, 10), tyX3, Nat.le_of_ble_eq_true rfl, rfl, Nat.le_of_ble_eq_true rfl, okX3, rfl, rfl⟩
theorem gX3_12 : ∀ q ∈ ([(2, 0)] : List (Nat × Nat)), ∃ r0 : vw_C, aCl[q.1]? = some r0 ∧ (r0.2.1 q.2).1 = RX3 ∧ Cond.fieldLink RX3 12 (r0.2.1 q.2).1 (r0.2.1 q.2).2.1 (r0.2.1 q.2).2.2.1 ∈ lw_all := by
  intro q hq
  simp only [List.mem_cons, List.not_mem_nil, or_false] at hq
  subst hq
  exact ⟨(RX3, TX3, 10), rfl, rfl, q315⟩
theorem tX3_1f : ∀ q ∈ ([(2, 1)] : List (Nat × Nat)), aFt q.1 q.2 true (.object "java/util/List") := by
  intro q hq
  simp only [List.mem_cons, List.not_mem_nil, or_false] at hq
  subst hq
  exact ⟨(RX3, TX3, 10), tyX3, Nat.le_of_ble_eq_true rfl, rfl, Nat.le_of_ble_eq_true rfl, okX3, rfl, rfl⟩
theorem gX3_21 : ∀ q ∈ ([(2, 1)] : List (Nat × Nat)), ∃ r0 : vw_C, aCl[q.1]? = some r0 ∧ (r0.2.1 q.2).1 = RX3 ∧ Cond.fieldLink RX3 21 (r0.2.1 q.2).1 (r0.2.1 q.2).2.1 (r0.2.1 q.2).2.2.1 ∈ lw_all := by
  intro q hq
  simp only [List.mem_cons, List.not_mem_nil, or_false] at hq
  subst hq
  exact ⟨(RX3, TX3, 10), rfl, rfl, q317⟩
theorem dfJ5 : ∀ j, j < 9 → defaultValue (tyJ5 j) = vp_V [.null, .null, .null, .null, .int 0, .int 0, .null, .null, .null] j := by decide +kernel
theorem tX3_2f : ∀ q ∈ ([(2, 2)] : List (Nat × Nat)), aFt q.1 q.2 true (.object "java/util/TreeMap") := by
  intro q hq
  simp only [List.mem_cons, List.not_mem_nil, or_false] at hq
  subst hq
  exact ⟨(RX3, TX3, 10), tyX3, Nat.le_of_ble_eq_true rfl, rfl, Nat.le_of_ble_eq_true rfl, okX3, rfl, rfl⟩
theorem gX3_28 : ∀ q ∈ ([(2, 2)] : List (Nat × Nat)), ∃ r0 : vw_C, aCl[q.1]? = some r0 ∧ (r0.2.1 q.2).1 = RX3 ∧ Cond.fieldLink RX3 28 (r0.2.1 q.2).1 (r0.2.1 q.2).2.1 (r0.2.1 q.2).2.2.1 ∈ lw_all := by
  intro q hq
  simp only [List.mem_cons, List.not_mem_nil, or_false] at hq
  subst hq
  exact ⟨(RX3, TX3, 10), rfl, rfl, q319⟩
theorem tX3_3f : ∀ q ∈ ([(2, 3)] : List (Nat × Nat)), aFt q.1 q.2 true (.object "java/util/List") := by
  intro q hq
  simp only [List.mem_cons, List.not_mem_nil, or_false] at hq
  subst hq
  exact ⟨(RX3, TX3, 10), tyX3, Nat.le_of_ble_eq_true rfl, rfl, Nat.le_of_ble_eq_true rfl, okX3, rfl, rfl⟩
theorem gX3_32 : ∀ q ∈ ([(2, 3)] : List (Nat × Nat)), ∃ r0 : vw_C, aCl[q.1]? = some r0 ∧ (r0.2.1 q.2).1 = RX3 ∧ Cond.fieldLink RX3 32 (r0.2.1 q.2).1 (r0.2.1 q.2).2.1 (r0.2.1 q.2).2.2.1 ∈ lw_all := by
  intro q hq
  simp only [List.mem_cons, List.not_mem_nil, or_false] at hq
  subst hq
  exact ⟨(RX3, TX3, 10), rfl, rfl, q321⟩
theorem tX3_4f : ∀ q ∈ ([(2, 4)] : List (Nat × Nat)), aFt q.1 q.2 true (.object "java/util/List") := by
  intro q hq
  simp only [List.mem_cons, List.not_mem_nil, or_false] at hq
  subst hq
  exact ⟨(RX3, TX3, 10), tyX3, Nat.le_of_ble_eq_true rfl, rfl, Nat.le_of_ble_eq_true rfl, okX3, rfl, rfl⟩
theorem gX3_35 : ∀ q ∈ ([(2, 4)] : List (Nat × Nat)), ∃ r0 : vw_C, aCl[q.1]? = some r0 ∧ (r0.2.1 q.2).1 = RX3 ∧ Cond.fieldLink RX3 35 (r0.2.1 q.2).1 (r0.2.1 q.2).2.1 (r0.2.1 q.2).2.2.1 ∈ lw_all := by
  intro q hq
  simp only [List.mem_cons, List.not_mem_nil, or_false] at hq
  subst hq
  exact ⟨(RX3, TX3, 10), rfl, rfl, q323⟩
theorem tX3_9f : ∀ q ∈ ([(2, 9)] : List (Nat × Nat)), aFt q.1 q.2 true (.array (.object "ProbeConsole$Frame")) := by
  intro q hq
  simp only [List.mem_cons, List.not_mem_nil, or_false] at hq
  subst hq
  exact ⟨(RX3, TX3, 10), tyX3, Nat.le_of_ble_eq_true rfl, rfl, Nat.le_of_ble_eq_true rfl, okX3, rfl, rfl⟩
theorem gX3_40 : ∀ q ∈ ([(2, 9)] : List (Nat × Nat)), ∃ r0 : vw_C, aCl[q.1]? = some r0 ∧ (r0.2.1 q.2).1 = RX3 ∧ Cond.fieldLink RX3 40 (r0.2.1 q.2).1 (r0.2.1 q.2).2.1 (r0.2.1 q.2).2.2.1 ∈ lw_all := by
  intro q hq
  simp only [List.mem_cons, List.not_mem_nil, or_false] at hq
  subst hq
  exact ⟨(RX3, TX3, 10), rfl, rfl, q331⟩
theorem dfX4 : ∀ j, j < 1 → defaultValue (tyX4 j) = vp_V [.null] j := by decide +kernel
abbrev YX3_init : YC := (yX3_init, cX3_init, 2, none, [])
theorem kX3_init : aMk YX3_init 0 := ⟨rfl, q215, q118, ⟨by decide +kernel, by decide +kernel, by decide +kernel⟩, Nat.le_of_ble_eq_true rfl⟩
def x_X3_init_70 (g : AG) (N : Nat) : Nat → AH → Nat → Int32 → Option AH
  | 0, _, _, _ => none
  | n9 + 1, h, x0, x1 =>
  (rdR h x0 [(2, 9)]).bind fun o35 => (o35).bind fun a37 => (rdN h a37).bind fun i39 => if i39 ≤ x1 then (some h) else ((rdR h x0 [(2, 9)]).bind fun o42 => (mkO g h 1 3 [.null]).bind fun h44 => (x_X4_init g N h44 h.2.1).bind fun q46 => (o42).bind fun a48 => (wrQ g q46 a48 x1 (some h.2.1)).bind fun h50 => x_X3_init_70 g N n9 h50 x0 (x1 + 1))
theorem p_x_X3_init_70 (g : AG) (hst : (gL g).stackTraces = false) (N : Nat) : ∀ (n9 : Nat) (h : AH) (x0 : Nat) (x1 : Int32) (q : AH), x_X3_init_70 g N n9 h x0 x1 = some q → AW g YX3_init 6 (xV q) h [some (.ref x0), some (.int x1)] 70 [] := by
  intro n9
  induction n9 with
  | zero =>
    intro h x0 x1 q hq
    cases hq
  | succ n9 ih =>
    intro h x0 x1 q hq
    rw [x_X3_init_70] at hq
    refine aw_iload_n (i := 1) dX3_init_70 rfl rfl ?_
    refine aw_aload_n (i := 0) dX3_init_71 rfl rfl trivial ?_
    replace hq := obind hq
    obtain ⟨o35, e36, hq⟩ := hq
    refine xw_getR e36 fX3_40 dX3_init_72 ?_
    replace hq := obind hq
    obtain ⟨a37, e38, hq⟩ := hq
    subst e38
    replace hq := obind hq
    obtain ⟨i39, e40, hq⟩ := hq
    refine xw_alen e40 dX3_init_75 ?_
    refine aw_icmp_ge (tgt := 98) dX3_init_76 (by decide) (fun c41 => ?_) (fun c41 => ?_)
    · rw [if_pos c41] at hq
      cases hq
      exact aw_vret dX3_init_98 rfl ⟨rfl, rfl⟩
    · rw [if_neg c41] at hq
      refine aw_aload_n (i := 0) dX3_init_79 rfl rfl trivial ?_
      replace hq := obind hq
      obtain ⟨o42, e43, hq⟩ := hq
      refine xw_getR e43 fX3_40 dX3_init_80 ?_
      refine aw_iload_n (i := 1) dX3_init_83 rfl rfl ?_
      replace hq := obind hq
      obtain ⟨h44, e45, hq⟩ := hq
      refine xw_new (r := (RX4, TX4, 1)) e45 q302 q304 q125 (by decide) rfl okX4 rfl dfX4 dX3_init_84 ?_
      refine aw_dup dX3_init_87 rfl ?_
      replace hq := obind hq
      obtain ⟨q46, e47, hq⟩ := hq
      refine aw_callIN (Y2 := YX4_init) (As := []) (rest := [.ref h.2.1, .int x1, va_rf o42]) (b := h.2.1) kX4_init rfl rfl q305 q306 dX3_init_88 rfl rfl (ct_X4_init g hst N h44 h.2.1 _ e47) (Nat.le_of_ble_eq_true rfl) (by simp only [List.map_cons, List.map_nil, List.sum_cons, List.sum_nil, cat_rf]; exact Nat.le_of_ble_eq_true rfl) (fun v9 h9 z9 y9 => ?_)
      obtain ⟨rfl, y9⟩ := y9
      rw [y9]
      refine aw_st (st' := [.ref h.2.1, .int x1, va_rf o42]) rfl ?_
      replace hq := obind hq
      obtain ⟨a48, e49, hq⟩ := hq
      subst e49
      replace hq := obind hq
      obtain ⟨h50, e51, hq⟩ := hq
      refine xw_aast (v := (some h.2.1)) e51 dX3_init_91 ?_
      refine aw_iinc (v := x1 + 1) (loc' := [some (.ref x0), some (.int (x1 + 1))]) dX3_init_92 rfl rfl (Nat.le_of_ble_eq_true rfl) rfl ?_
      refine aw_goto (tgt := 70) dX3_init_95 (by decide) ?_
      exact ih h50 x0 (x1 + 1) _ hq
def x_X3_init (g : AG) (N : Nat) (h : AH) (x0 : Nat) : Option AH :=
  (mkO g h 8 10 [.null, .null, .null, .null, .int 0, .int 0, .int 0, .float 0]).bind fun h1 => (x_J1_init g N h1 h.2.1).bind fun q3 => (wrV g q3 x0 [(2, 0)] (.ref h.2.1)).bind fun h5 => (mkO g h5 3 13 [.int 0, .null, .int 0]).bind fun h7 => (x_J4_init g N h7 h5.2.1).bind fun q9 => (wrV g q9 x0 [(2, 1)] (.ref h5.2.1)).bind fun h11 => (mkO g h11 9 14 [.null, .null, .null, .null, .int 0, .int 0, .null, .null, .null]).bind fun h13 => (x_J5_init g N h13 h11.2.1).bind fun q15 => (wrV g q15 x0 [(2, 2)] (.ref h11.2.1)).bind fun h17 => (mkO g h17 3 13 [.int 0, .null, .int 0]).bind fun h19 => (x_J4_init g N h19 h17.2.1).bind fun q21 => (wrV g q21 x0 [(2, 3)] (.ref h17.2.1)).bind fun h23 => (mkO g h23 3 13 [.int 0, .null, .int 0]).bind fun h25 => (x_J4_init g N h25 h23.2.1).bind fun q27 => (wrV g q27 x0 [(2, 4)] (.ref h23.2.1)).bind fun h29 => (mkA g h29 7 (11 : Int32) .null).bind fun h31 => (wrV g h31 x0 [(2, 9)] (.ref h29.2.1)).bind fun h33 => x_X3_init_70 g N  N h33 x0 (0 : Int32)
theorem ct_X3_init (g : AG) (hst : (gL g).stackTraces = false) (N : Nat) : ∀ (h : AH) (x0 : Nat) (q : AH), x_X3_init g N h x0 = some q → CT g YX3_init 6 [.ref x0] h (xV q) := by
  intro h x0 q hq
  refine CT.of rfl (by decide +kernel) (loc := [some (.ref x0), none]) (by first | exact Nat.le_of_ble_eq_true rfl | (simp only [lgl_rf, lgl_i, lgl_j, lgl_ref, lgl_nil]; exact Nat.le_of_ble_eq_true rfl)) (by first | rfl | (simp only [aent_rf, aent_i, aent_j, aent_ref, aent_nil]; rfl)) ?_
  unfold x_X3_init at hq
  refine aw_aload_n (i := 0) dX3_init_0 rfl rfl trivial ?_
  refine aw_objInit q216 qObjI qObjC (by omega) (Nat.le_of_ble_eq_true rfl) dX3_init_1 ?_
  refine aw_aload_n (i := 0) dX3_init_4 rfl rfl trivial ?_
  replace hq := obind hq
  obtain ⟨h1, e2, hq⟩ := hq
  refine xw_new (r := (RJ1, TJ1, 8)) e2 q217 q218 q120 (by decide) rfl okJ1 rfl dfJ1 dX3_init_5 ?_
  refine aw_dup dX3_init_8 rfl ?_
  replace hq := obind hq
  obtain ⟨q3, e4, hq⟩ := hq
  refine aw_callI (Y2 := YJ1_init) (As := []) (rest := [.ref h.2.1, .ref x0]) (b := h.2.1) kJ1_init rfl rfl q219 q220 dX3_init_9 rfl rfl (ct_J1_init g hst N h1 h.2.1 _ e4) (Nat.le_of_ble_eq_true rfl) (Nat.le_of_ble_eq_true rfl) (fun v9 h9 z9 y9 => ?_)
  obtain ⟨rfl, y9⟩ := y9
  rw [y9]
  refine aw_st (st' := [.ref h.2.1, .ref x0]) rfl ?_
  replace hq := obind hq
  obtain ⟨h5, e6, hq⟩ := hq
  refine xw_putF e6 fX3_12 tX3_0f rfl gX3_12 (fits_rf _ (some h.2.1)) dX3_init_12 ?_
  refine aw_aload_n (i := 0) dX3_init_15 rfl rfl trivial ?_
  replace hq := obind hq
  obtain ⟨h7, e8, hq⟩ := hq
  refine xw_new (r := (RJ4, TJ4, 3)) e8 q249 q250 q123 (by decide) rfl okJ4 rfl dfJ4 dX3_init_16 ?_
  refine aw_dup dX3_init_19 rfl ?_
  replace hq := obind hq
  obtain ⟨q9, e10, hq⟩ := hq
  refine aw_callI (Y2 := YJ4_init) (As := []) (rest := [.ref h5.2.1, .ref x0]) (b := h5.2.1) kJ4_init rfl rfl q251 q252 dX3_init_20 rfl rfl (ct_J4_init g hst N h7 h5.2.1 _ e10) (Nat.le_of_ble_eq_true rfl) (Nat.le_of_ble_eq_true rfl) (fun v9 h9 z9 y9 => ?_)
  obtain ⟨rfl, y9⟩ := y9
  rw [y9]
  refine aw_st (st' := [.ref h5.2.1, .ref x0]) rfl ?_
  replace hq := obind hq
  obtain ⟨h11, e12, hq⟩ := hq
  refine xw_putF e12 fX3_21 tX3_1f rfl gX3_21 (fits_rf _ (some h5.2.1)) dX3_init_23 ?_
  refine aw_aload_n (i := 0) dX3_init_26 rfl rfl trivial ?_
  replace hq := obind hq
  obtain ⟨h13, e14, hq⟩ := hq
  refine xw_new (r := (RJ5, TJ5, 9)) e14 q275 q276 q124 (by decide) rfl okJ5 rfl dfJ5 dX3_init_27 ?_
  refine aw_dup dX3_init_30 rfl ?_
  replace hq := obind hq
  obtain ⟨q15, e16, hq⟩ := hq
  refine aw_callI (Y2 := YJ5_init) (As := []) (rest := [.ref h11.2.1, .ref x0]) (b := h11.2.1) kJ5_init rfl rfl q277 q278 dX3_init_31 rfl rfl (ct_J5_init g hst N h13 h11.2.1 _ e16) (Nat.le_of_ble_eq_true rfl) (Nat.le_of_ble_eq_true rfl) (fun v9 h9 z9 y9 => ?_)
  obtain ⟨rfl, y9⟩ := y9
  rw [y9]
  refine aw_st (st' := [.ref h11.2.1, .ref x0]) rfl ?_
  replace hq := obind hq
  obtain ⟨h17, e18, hq⟩ := hq
  refine xw_putF e18 fX3_28 tX3_2f rfl gX3_28 (fits_rf _ (some h11.2.1)) dX3_init_34 ?_
  refine aw_aload_n (i := 0) dX3_init_37 rfl rfl trivial ?_
  replace hq := obind hq
  obtain ⟨h19, e20, hq⟩ := hq
  refine xw_new (r := (RJ4, TJ4, 3)) e20 q249 q250 q123 (by decide) rfl okJ4 rfl dfJ4 dX3_init_38 ?_
  refine aw_dup dX3_init_41 rfl ?_
  replace hq := obind hq
  obtain ⟨q21, e22, hq⟩ := hq
  refine aw_callI (Y2 := YJ4_init) (As := []) (rest := [.ref h17.2.1, .ref x0]) (b := h17.2.1) kJ4_init rfl rfl q251 q252 dX3_init_42 rfl rfl (ct_J4_init g hst N h19 h17.2.1 _ e22) (Nat.le_of_ble_eq_true rfl) (Nat.le_of_ble_eq_true rfl) (fun v9 h9 z9 y9 => ?_)
  obtain ⟨rfl, y9⟩ := y9
  rw [y9]
  refine aw_st (st' := [.ref h17.2.1, .ref x0]) rfl ?_
  replace hq := obind hq
  obtain ⟨h23, e24, hq⟩ := hq
  refine xw_putF e24 fX3_32 tX3_3f rfl gX3_32 (fits_rf _ (some h17.2.1)) dX3_init_45 ?_
  refine aw_aload_n (i := 0) dX3_init_48 rfl rfl trivial ?_
  replace hq := obind hq
  obtain ⟨h25, e26, hq⟩ := hq
  refine xw_new (r := (RJ4, TJ4, 3)) e26 q249 q250 q123 (by decide) rfl okJ4 rfl dfJ4 dX3_init_49 ?_
  refine aw_dup dX3_init_52 rfl ?_
  replace hq := obind hq
  obtain ⟨q27, e28, hq⟩ := hq
  refine aw_callI (Y2 := YJ4_init) (As := []) (rest := [.ref h23.2.1, .ref x0]) (b := h23.2.1) kJ4_init rfl rfl q251 q252 dX3_init_53 rfl rfl (ct_J4_init g hst N h25 h23.2.1 _ e28) (Nat.le_of_ble_eq_true rfl) (Nat.le_of_ble_eq_true rfl) (fun v9 h9 z9 y9 => ?_)
  obtain ⟨rfl, y9⟩ := y9
  rw [y9]
  refine aw_st (st' := [.ref h23.2.1, .ref x0]) rfl ?_
  replace hq := obind hq
  obtain ⟨h29, e30, hq⟩ := hq
  refine xw_putF e30 fX3_35 tX3_4f rfl gX3_35 (fits_rf _ (some h23.2.1)) dX3_init_56 ?_
  refine aw_aload_n (i := 0) dX3_init_59 rfl rfl trivial ?_
  refine aw_bipush (v := 11) dX3_init_60 (by decide) ?_
  replace hq := obind hq
  obtain ⟨h31, e32, hq⟩ := hq
  refine xw_anew e32 q302 q303 rfl (by decide) dX3_init_62 ?_
  replace hq := obind hq
  obtain ⟨h33, e34, hq⟩ := hq
  refine xw_putF e34 fX3_40 tX3_9f rfl gX3_40 (fits_rfA _ (some h29.2.1)) dX3_init_65 ?_
  refine aw_iconst (v := 0) dX3_init_68 (by decide) ?_
  refine aw_istore_n (i := 1) (loc' := [some (.ref x0), some (.int (0 : Int32))]) dX3_init_69 rfl (Nat.le_of_ble_eq_true rfl) rfl ?_
  exact p_x_X3_init_70 g hst N   N h33 x0 (0 : Int32) _ hq
theorem tX1_0f : ∀ q ∈ ([(0, 0)] : List (Nat × Nat)), aFt q.1 q.2 true (.array .byte) := by
  intro q hq
  simp only [List.mem_cons, List.not_mem_nil, or_false] at hq
  subst hq
  exact ⟨(RX1, TX1, 5), tyX1, Nat.le_of_ble_eq_true rfl, rfl, Nat.le_of_ble_eq_true rfl, okX1, rfl, rfl⟩
theorem gX1_9 : ∀ q ∈ ([(0, 0)] : List (Nat × Nat)), ∃ r0 : vw_C, aCl[q.1]? = some r0 ∧ (r0.2.1 q.2).1 = RX1 ∧ Cond.fieldLink RX1 9 (r0.2.1 q.2).1 (r0.2.1 q.2).2.1 (r0.2.1 q.2).2.2.1 ∈ lw_all := by
  intro q hq
  simp only [List.mem_cons, List.not_mem_nil, or_false] at hq
  subst hq
  exact ⟨(RX1, TX1, 5), rfl, rfl, q353⟩
theorem dfX2 : ∀ j, j < 9 → defaultValue (tyX2 j) = vp_V [.null, .int 0, .int 0, .int 0, .int 0, .int 0, .int 0, .null, .int 0] j := by decide +kernel
theorem tX1_2f : ∀ q ∈ ([(0, 2)] : List (Nat × Nat)), aFt q.1 q.2 true (.object "ProbeConsole$Parser") := by
  intro q hq
  simp only [List.mem_cons, List.not_mem_nil, or_false] at hq
  subst hq
  exact ⟨(RX1, TX1, 5), tyX1, Nat.le_of_ble_eq_true rfl, rfl, Nat.le_of_ble_eq_true rfl, okX1, rfl, rfl⟩
theorem gX1_18 : ∀ q ∈ ([(0, 2)] : List (Nat × Nat)), ∃ r0 : vw_C, aCl[q.1]? = some r0 ∧ (r0.2.1 q.2).1 = RX1 ∧ Cond.fieldLink RX1 18 (r0.2.1 q.2).1 (r0.2.1 q.2).2.1 (r0.2.1 q.2).2.2.1 ∈ lw_all := by
  intro q hq
  simp only [List.mem_cons, List.not_mem_nil, or_false] at hq
  subst hq
  exact ⟨(RX1, TX1, 5), rfl, rfl, q355⟩
theorem dfX3 : ∀ j, j < 10 → defaultValue (tyX3 j) = vp_V [.null, .null, .null, .null, .null, .int 0, .int 0, .int 0, .int 0, .null] j := by decide +kernel
theorem tX1_3f : ∀ q ∈ ([(0, 3)] : List (Nat × Nat)), aFt q.1 q.2 true (.object "ProbeConsole$Machine") := by
  intro q hq
  simp only [List.mem_cons, List.not_mem_nil, or_false] at hq
  subst hq
  exact ⟨(RX1, TX1, 5), tyX1, Nat.le_of_ble_eq_true rfl, rfl, Nat.le_of_ble_eq_true rfl, okX1, rfl, rfl⟩
theorem gX1_25 : ∀ q ∈ ([(0, 3)] : List (Nat × Nat)), ∃ r0 : vw_C, aCl[q.1]? = some r0 ∧ (r0.2.1 q.2).1 = RX1 ∧ Cond.fieldLink RX1 25 (r0.2.1 q.2).1 (r0.2.1 q.2).2.1 (r0.2.1 q.2).2.2.1 ∈ lw_all := by
  intro q hq
  simp only [List.mem_cons, List.not_mem_nil, or_false] at hq
  subst hq
  exact ⟨(RX1, TX1, 5), rfl, rfl, q356⟩
abbrev YX1_init : YC := (yX1_init, cX1_init, 1, none, [])
theorem kX1_init : aMk YX1_init 0 := ⟨rfl, q169, q116, ⟨by decide +kernel, by decide +kernel, by decide +kernel⟩, Nat.le_of_ble_eq_true rfl⟩
def x_X1_init (g : AG) (N : Nat) (h : AH) (x0 : Nat) : Option AH :=
  (mkA g h 3 (200 : Int32) (.int 0)).bind fun h1 => (wrV g h1 x0 [(0, 0)] (.ref h.2.1)).bind fun h3 => (mkO g h3 9 1 [.null, .int 0, .int 0, .int 0, .int 0, .int 0, .int 0, .null, .int 0]).bind fun h5 => (rdR h5 x0 [(0, 0)]).bind fun o7 => (x_X2_init g N h5 h3.2.1 o7).bind fun q9 => (wrV g q9 x0 [(0, 2)] (.ref h3.2.1)).bind fun h11 => (mkO g h11 10 2 [.null, .null, .null, .null, .null, .int 0, .int 0, .int 0, .int 0, .null]).bind fun h13 => (x_X3_init g N h13 h11.2.1).bind fun q15 => (wrV g q15 x0 [(0, 3)] (.ref h11.2.1)).bind fun h17 => some h17
theorem ct_X1_init (g : AG) (hst : (gL g).stackTraces = false) (N : Nat) : ∀ (h : AH) (x0 : Nat) (q : AH), x_X1_init g N h x0 = some q → CT g YX1_init 7 [.ref x0] h (xV q) := by
  intro h x0 q hq
  refine CT.of rfl (by decide +kernel) (loc := [some (.ref x0)]) (by first | exact Nat.le_of_ble_eq_true rfl | (simp only [lgl_rf, lgl_i, lgl_j, lgl_ref, lgl_nil]; exact Nat.le_of_ble_eq_true rfl)) (by first | rfl | (simp only [aent_rf, aent_i, aent_j, aent_ref, aent_nil]; rfl)) ?_
  unfold x_X1_init at hq
  refine aw_aload_n (i := 0) dX1_init_0 rfl rfl trivial ?_
  refine aw_objInit q170 qObjI qObjC (by omega) (Nat.le_of_ble_eq_true rfl) dX1_init_1 ?_
  refine aw_aload_n (i := 0) dX1_init_4 rfl rfl trivial ?_
  refine aw_sipush (v := 200) dX1_init_5 (by decide) ?_
  replace hq := obind hq
  obtain ⟨h1, e2, hq⟩ := hq
  refine xw_newa (atype := .byte) e2 q210 rfl (by decide) rfl (by decide) dX1_init_8 ?_
  replace hq := obind hq
  obtain ⟨h3, e4, hq⟩ := hq
  refine xw_putF e4 fX1_9 tX1_0f rfl gX1_9 (fits_rfA _ (some h.2.1)) dX1_init_10 ?_
  refine aw_aload_n (i := 0) dX1_init_13 rfl rfl trivial ?_
  replace hq := obind hq
  obtain ⟨h5, e6, hq⟩ := hq
  refine xw_new (r := (RX2, TX2, 9)) e6 q173 q174 q117 (by decide) rfl okX2 rfl dfX2 dX1_init_14 ?_
  refine aw_dup dX1_init_17 rfl ?_
  refine aw_aload_n (i := 0) dX1_init_18 rfl rfl trivial ?_
  replace hq := obind hq
  obtain ⟨o7, e8, hq⟩ := hq
  refine xw_getR e8 fX1_9 dX1_init_19 ?_
  replace hq := obind hq
  obtain ⟨q9, e10, hq⟩ := hq
  refine aw_callI (Y2 := YX2_init) (As := [va_rf o7]) (rest := [.ref h3.2.1, .ref x0]) (b := h3.2.1) kX2_init rfl rfl q175 q176 dX1_init_22 rfl rfl (ct_X2_init g hst N h5 h3.2.1 o7 _ e10) (Nat.le_of_ble_eq_true rfl) (Nat.le_of_ble_eq_true rfl) (fun v9 h9 z9 y9 => ?_)
  obtain ⟨rfl, y9⟩ := y9
  rw [y9]
  refine aw_st (st' := [.ref h3.2.1, .ref x0]) rfl ?_
  replace hq := obind hq
  obtain ⟨h11, e12, hq⟩ := hq
  refine xw_putF e12 fX1_18 tX1_2f rfl gX1_18 (fits_rf _ (some h3.2.1)) dX1_init_25 ?_
  refine aw_aload_n (i := 0) dX1_init_28 rfl rfl trivial ?_
  replace hq := obind hq
  obtain ⟨h13, e14, hq⟩ := hq
  refine xw_new (r := (RX3, TX3, 10)) e14 q211 q212 q118 (by decide) rfl okX3 rfl dfX3 dX1_init_29 ?_
  refine aw_dup dX1_init_32 rfl ?_
  replace hq := obind hq
  obtain ⟨q15, e16, hq⟩ := hq
  refine aw_callI (Y2 := YX3_init) (As := []) (rest := [.ref h11.2.1, .ref x0]) (b := h11.2.1) kX3_init rfl rfl q213 q214 dX1_init_33 rfl rfl (ct_X3_init g hst N h13 h11.2.1 _ e16) (Nat.le_of_ble_eq_true rfl) (Nat.le_of_ble_eq_true rfl) (fun v9 h9 z9 y9 => ?_)
  obtain ⟨rfl, y9⟩ := y9
  rw [y9]
  refine aw_st (st' := [.ref h11.2.1, .ref x0]) rfl ?_
  replace hq := obind hq
  obtain ⟨h17, e18, hq⟩ := hq
  refine xw_putF e18 fX1_25 tX1_3f rfl gX1_25 (fits_rf _ (some h11.2.1)) dX1_init_36 ?_
  cases hq
  exact aw_vret dX1_init_39 rfl ⟨rfl, rfl⟩
theorem fX1_185 : ∀ q ∈ ([(2, 7)] : List (Nat × Nat)), aFl RX1 185 q.1 q.2 := by
  intro q hq
  simp only [List.mem_cons, List.not_mem_nil, or_false] at hq
  subst hq
  exact aFl.ofN (RX3, TX3, 10) rfl (Nat.le_of_ble_eq_true rfl) q329
abbrev YX1_invoked : YC := (yX1_invoked, cX1_invoked, 1, (some .int), [])
theorem kX1_invoked : aMk YX1_invoked 0 := ⟨rfl, q1920, q116, ⟨by decide +kernel, by decide +kernel, by decide +kernel⟩, Nat.le_of_ble_eq_true rfl⟩
def x_X1_invoked (g : AG) (N : Nat) (h : AH) (x0 : Nat) : Option (Int32 × AH) :=
  (rdR h x0 [(0, 3)]).bind fun o1 => (o1).bind fun a3 => (rdI h a3 [(2, 7)]).bind fun i5 => some (i5, h)
theorem ct_X1_invoked (g : AG) (hst : (gL g).stackTraces = false) (N : Nat) : ∀ (h : AH) (x0 : Nat) (q : (Int32 × AH)), x_X1_invoked g N h x0 = some q → CT g YX1_invoked 1 [.ref x0] h (xI q) := by
  intro h x0 q hq
  refine CT.of rfl (by decide +kernel) (loc := [some (.ref x0)]) (by first | exact Nat.le_of_ble_eq_true rfl | (simp only [lgl_rf, lgl_i, lgl_j, lgl_ref, lgl_nil]; exact Nat.le_of_ble_eq_true rfl)) (by first | rfl | (simp only [aent_rf, aent_i, aent_j, aent_ref, aent_nil]; rfl)) ?_
  unfold x_X1_invoked at hq
  refine aw_aload_n (i := 0) dX1_invoked_0 rfl rfl trivial ?_
  replace hq := obind hq
  obtain ⟨o1, e2, hq⟩ := hq
  refine xw_getR e2 fX1_25 dX1_invoked_1 ?_
  replace hq := obind hq
  obtain ⟨a3, e4, hq⟩ := hq
  subst e4
  replace hq := obind hq
  obtain ⟨i5, e6, hq⟩ := hq
  refine xw_getI e6 fX1_185 dX1_invoked_4 ?_
  cases hq
  exact aw_ireturn dX1_invoked_7 rfl rfl ⟨rfl, rfl⟩
abbrev YX1_keeps : YC := (yX1_keeps, cX1_keeps, 1, (some .int), [])
theorem kX1_keeps : aMk YX1_keeps 0 := ⟨rfl, q1941, q116, ⟨by decide +kernel, by decide +kernel, by decide +kernel⟩, Nat.le_of_ble_eq_true rfl⟩
def x_X1_keeps (g : AG) (N : Nat) (h : AH) (x0 : Nat) : Option (Int32 × AH) :=
  (rdR h x0 [(0, 3)]).bind fun o1 => (o1).bind fun a3 => (rdR h a3 [(2, 4)]).bind fun o5 => (o5).bind fun a7 => bif clB h a7 [13] then ((x_J4_size g N h a7).bind fun q10 => some (q10.1, q10.2)) else none
theorem ct_X1_keeps (g : AG) (hst : (gL g).stackTraces = false) (N : Nat) : ∀ (h : AH) (x0 : Nat) (q : (Int32 × AH)), x_X1_keeps g N h x0 = some q → CT g YX1_keeps 2 [.ref x0] h (xI q) := by
  intro h x0 q hq
  refine CT.of rfl (by decide +kernel) (loc := [some (.ref x0)]) (by first | exact Nat.le_of_ble_eq_true rfl | (simp only [lgl_rf, lgl_i, lgl_j, lgl_ref, lgl_nil]; exact Nat.le_of_ble_eq_true rfl)) (by first | rfl | (simp only [aent_rf, aent_i, aent_j, aent_ref, aent_nil]; rfl)) ?_
  unfold x_X1_keeps at hq
  refine aw_aload_n (i := 0) dX1_keeps_0 rfl rfl trivial ?_
  replace hq := obind hq
  obtain ⟨o1, e2, hq⟩ := hq
  refine xw_getR e2 fX1_25 dX1_keeps_1 ?_
  replace hq := obind hq
  obtain ⟨a3, e4, hq⟩ := hq
  subst e4
  replace hq := obind hq
  obtain ⟨o5, e6, hq⟩ := hq
  refine xw_getR e6 fX1_207 dX1_keeps_4 ?_
  replace hq := obind hq
  obtain ⟨a7, e8, hq⟩ := hq
  subst e8
  replace hq := cond_t hq
  obtain ⟨z9, hq⟩ := hq
  obtain ⟨fs9, ha9⟩ := clB1 z9
  replace hq := obind hq
  obtain ⟨q10, e11, hq⟩ := hq
  refine aw_callF (Y2 := YJ4_size) (As := []) (rest := []) (r := (RJ4, TJ4, 3)) (x := ⟨"java/util/List", "size", "()I"⟩) kJ4_size ha9 rfl (by decide) (by decide) ⟨by decide +kernel, by decide +kernel, by decide +kernel⟩ q378 q384 q382 dX1_keeps_7 rfl rfl (ct_J4_size g hst N h a7 _ e11) (Nat.le_of_ble_eq_true rfl) (Nat.le_of_ble_eq_true rfl) (fun v9 h9 z9 y9 => ?_)
  obtain ⟨rfl, rfl⟩ := y9
  refine aw_st (st' := [.int q10.1]) rfl ?_
  cases hq
  exact aw_ireturn dX1_keeps_12 rfl rfl ⟨rfl, rfl⟩
theorem fX8_7 : ∀ q ∈ ([(6, 0)] : List (Nat × Nat)), aFl RX8 7 q.1 q.2 := by
  intro q hq
  simp only [List.mem_cons, List.not_mem_nil, or_false] at hq
  subst hq
  exact aFl.of (RX8, TX8, 4) rfl (Nat.le_of_ble_eq_true rfl) q1079
theorem okX8 : aCK (RX8, TX8, 4) tyX8 := ⟨in_X8, tyX8_ok, nmX8⟩
theorem tX8_0f : ∀ q ∈ ([(6, 0)] : List (Nat × Nat)), aFt q.1 q.2 true .int := by
  intro q hq
  simp only [List.mem_cons, List.not_mem_nil, or_false] at hq
  subst hq
  exact ⟨(RX8, TX8, 4), tyX8, Nat.le_of_ble_eq_true rfl, rfl, Nat.le_of_ble_eq_true rfl, okX8, rfl, rfl⟩
theorem gX8_7 : ∀ q ∈ ([(6, 0)] : List (Nat × Nat)), ∃ r0 : vw_C, aCl[q.1]? = some r0 ∧ (r0.2.1 q.2).1 = RX8 ∧ Cond.fieldLink RX8 7 (r0.2.1 q.2).1 (r0.2.1 q.2).2.1 (r0.2.1 q.2).2.2.1 ∈ lw_all := by
  intro q hq
  simp only [List.mem_cons, List.not_mem_nil, or_false] at hq
  subst hq
  exact ⟨(RX8, TX8, 4), rfl, rfl, q1079⟩
theorem fX8_13 : ∀ q ∈ ([(6, 1)] : List (Nat × Nat)), aFl RX8 13 q.1 q.2 := by
  intro q hq
  simp only [List.mem_cons, List.not_mem_nil, or_false] at hq
  subst hq
  exact aFl.of (RX8, TX8, 4) rfl (Nat.le_of_ble_eq_true rfl) q1081
theorem tX8_1f : ∀ q ∈ ([(6, 1)] : List (Nat × Nat)), aFt q.1 q.2 true (.object "java/lang/String") := by
  intro q hq
  simp only [List.mem_cons, List.not_mem_nil, or_false] at hq
  subst hq
  exact ⟨(RX8, TX8, 4), tyX8, Nat.le_of_ble_eq_true rfl, rfl, Nat.le_of_ble_eq_true rfl, okX8, rfl, rfl⟩
theorem gX8_13 : ∀ q ∈ ([(6, 1)] : List (Nat × Nat)), ∃ r0 : vw_C, aCl[q.1]? = some r0 ∧ (r0.2.1 q.2).1 = RX8 ∧ Cond.fieldLink RX8 13 (r0.2.1 q.2).1 (r0.2.1 q.2).2.1 (r0.2.1 q.2).2.2.1 ∈ lw_all := by
  intro q hq
  simp only [List.mem_cons, List.not_mem_nil, or_false] at hq
  subst hq
  exact ⟨(RX8, TX8, 4), rfl, rfl, q1081⟩
theorem fX8_17 : ∀ q ∈ ([(6, 2)] : List (Nat × Nat)), aFl RX8 17 q.1 q.2 := by
  intro q hq
  simp only [List.mem_cons, List.not_mem_nil, or_false] at hq
  subst hq
  exact aFl.of (RX8, TX8, 4) rfl (Nat.le_of_ble_eq_true rfl) q1084
theorem tX8_2f : ∀ q ∈ ([(6, 2)] : List (Nat × Nat)), aFt q.1 q.2 true .int := by
  intro q hq
  simp only [List.mem_cons, List.not_mem_nil, or_false] at hq
  subst hq
  exact ⟨(RX8, TX8, 4), tyX8, Nat.le_of_ble_eq_true rfl, rfl, Nat.le_of_ble_eq_true rfl, okX8, rfl, rfl⟩
theorem gX8_17 : ∀ q ∈ ([(6, 2)] : List (Nat × Nat)), ∃ r0 : vw_C, aCl[q.1]? = some r0 ∧ (r0.2.1 q.2).1 = RX8 ∧ Cond.fieldLink RX8 17 (r0.2.1 q.2).1 (r0.2.1 q.2).2.1 (r0.2.1 q.2).2.2.1 ∈ lw_all := by
  intro q hq
  simp only [List.mem_cons, List.not_mem_nil, or_false] at hq
  subst hq
  exact ⟨(RX8, TX8, 4), rfl, rfl, q1084⟩
theorem fX8_20 : ∀ q ∈ ([(6, 3)] : List (Nat × Nat)), aFl RX8 20 q.1 q.2 := by
  intro q hq
  simp only [List.mem_cons, List.not_mem_nil, or_false] at hq
  subst hq
  exact aFl.of (RX8, TX8, 4) rfl (Nat.le_of_ble_eq_true rfl) q1087
theorem tX8_3f : ∀ q ∈ ([(6, 3)] : List (Nat × Nat)), aFt q.1 q.2 true (.object "ProbeConsole$Node") := by
  intro q hq
  simp only [List.mem_cons, List.not_mem_nil, or_false] at hq
  subst hq
  exact ⟨(RX8, TX8, 4), tyX8, Nat.le_of_ble_eq_true rfl, rfl, Nat.le_of_ble_eq_true rfl, okX8, rfl, rfl⟩
theorem gX8_20 : ∀ q ∈ ([(6, 3)] : List (Nat × Nat)), ∃ r0 : vw_C, aCl[q.1]? = some r0 ∧ (r0.2.1 q.2).1 = RX8 ∧ Cond.fieldLink RX8 20 (r0.2.1 q.2).1 (r0.2.1 q.2).2.1 (r0.2.1 q.2).2.2.1 ∈ lw_all := by
  intro q hq
  simp only [List.mem_cons, List.not_mem_nil, or_false] at hq
  subst hq
  exact ⟨(RX8, TX8, 4), rfl, rfl, q1087⟩
abbrev YX8_init : YC := (yX8_init, cX8_init, 5, none, [])
theorem kX8_init : aMk YX8_init 4 := ⟨rfl, q1077, q149, ⟨by decide +kernel, by decide +kernel, by decide +kernel⟩, Nat.le_of_ble_eq_true rfl⟩
def x_X8_init (g : AG) (N : Nat) (h : AH) (x0 : Nat) (x1 : Int32) (r2 : Option Nat) (x3 : Int32) (r4 : Option Nat) : Option AH :=
  (wrV g h x0 [(6, 0)] (.int x1)).bind fun h1 => (wrV g h1 x0 [(6, 1)] (va_rf r2)).bind fun h3 => (wrV g h3 x0 [(6, 2)] (.int x3)).bind fun h5 => (wrV g h5 x0 [(6, 3)] (va_rf r4)).bind fun h7 => some h7
theorem ct_X8_init (g : AG) (hst : (gL g).stackTraces = false) (N : Nat) : ∀ (h : AH) (x0 : Nat) (x1 : Int32) (r2 : Option Nat) (x3 : Int32) (r4 : Option Nat) (q : AH), x_X8_init g N h x0 x1 r2 x3 r4 = some q → CT g YX8_init 3 [.ref x0, .int x1, va_rf r2, .int x3, va_rf r4] h (xV q) := by
  intro h x0 x1 r2 x3 r4 q hq
  refine CT.of rfl (by decide +kernel) (loc := [some (.ref x0), some (.int x1), some (va_rf r2), some (.int x3), some (va_rf r4)]) (by first | exact Nat.le_of_ble_eq_true rfl | (simp only [lgl_rf, lgl_i, lgl_j, lgl_ref, lgl_nil]; exact Nat.le_of_ble_eq_true rfl)) (by first | rfl | (simp only [aent_rf, aent_i, aent_j, aent_ref, aent_nil]; rfl)) ?_
  unfold x_X8_init at hq
  refine aw_aload_n (i := 0) dX8_init_0 rfl rfl trivial ?_
  refine aw_objInit q1078 qObjI qObjC (by omega) (Nat.le_of_ble_eq_true rfl) dX8_init_1 ?_
  refine aw_aload_n (i := 0) dX8_init_4 rfl rfl trivial ?_
  refine aw_iload_n (i := 1) dX8_init_5 rfl rfl ?_
  replace hq := obind hq
  obtain ⟨h1, e2, hq⟩ := hq
  refine xw_putF e2 fX8_7 tX8_0f rfl gX8_7 ⟨rfl, rfl⟩ dX8_init_6 ?_
  refine aw_aload_n (i := 0) dX8_init_9 rfl rfl trivial ?_
  refine aw_aload_n (i := 2) dX8_init_10 rfl rfl (aIsR_rf _) ?_
  replace hq := obind hq
  obtain ⟨h3, e4, hq⟩ := hq
  refine xw_putF e4 fX8_13 tX8_1f rfl gX8_13 (fits_rf _ r2) dX8_init_11 ?_
  refine aw_aload_n (i := 0) dX8_init_14 rfl rfl trivial ?_
  refine aw_iload_n (i := 3) dX8_init_15 rfl rfl ?_
  replace hq := obind hq
  obtain ⟨h5, e6, hq⟩ := hq
  refine xw_putF e6 fX8_17 tX8_2f rfl gX8_17 ⟨rfl, rfl⟩ dX8_init_16 ?_
  refine aw_aload_n (i := 0) dX8_init_19 rfl rfl trivial ?_
  refine aw_aload dX8_init_20 rfl (aIsR_rf _) ?_
  replace hq := obind hq
  obtain ⟨h7, e8, hq⟩ := hq
  refine xw_putF e8 fX8_20 tX8_3f rfl gX8_20 (fits_rf _ r4) dX8_init_22 ?_
  cases hq
  exact aw_vret dX8_init_25 rfl ⟨rfl, rfl⟩
theorem dfX8 : ∀ j, j < 4 → defaultValue (tyX8 j) = vp_V [.int 0, .null, .int 0, .null] j := by decide +kernel
abbrev YX2_method : YC := (yX2_method, cX2_method, 6, (some (.object "ProbeConsole$Method")), [(5, 141, 142, 28)])
theorem kX2_method : aMkW YX2_method 2 := ⟨rfl, q390, q117, ⟨by decide +kernel, by decide +kernel, by decide +kernel⟩, Nat.le_of_ble_eq_true rfl⟩
def x_X2_method_120 (g : AG) (N : Nat) (h : AH) (x0 : Nat) (x1 : Int32) (x2 : Int32) (r3 : Option Nat) (x4 : Int32) (r5 : Option Nat) (s1 : Int32) : Option (Option Nat × AH) :=
  (rdI h x0 [(1, 2)]).bind fun i74 => bif clB h x0 [1] then ((x_X2_want g N h x0 s1 (1 : Int32) i74).bind fun q77 => tcase q77.1 (fun E79 => if E79 = "java/lang/IllegalStateException" then (some ((none), q77.2)) else (none)) (fun v80 => (mkO g q77.2 4 6 [.int 0, .null, .int 0, .null]).bind fun h82 => (x_X8_init g N h82 q77.2.2.1 x2 r3 x4 r5).bind fun q84 => some ((some q77.2.2.1), q84))) else none
theorem p_x_X2_method_120 (g : AG) (hst : (gL g).stackTraces = false) (N : Nat) : ∀ (h : AH) (x0 : Nat) (x1 : Int32) (x2 : Int32) (r3 : Option Nat) (x4 : Int32) (r5 : Option Nat) (s1 : Int32) (q : (Option Nat × AH)), x_X2_method_120 g N h x0 x1 x2 r3 x4 r5 s1 = some q → AW g YX2_method 515 (xR q) h [some (.ref x0), some (.int x1), some (.int x2), some (va_rf r3), some (.int x4), some (va_rf r5)] 120 [.int s1, .ref x0] := by
  intro h x0 x1 x2 r3 x4 r5 s1 q hq
  unfold x_X2_method_120 at hq
  refine aw_iconst (v := 1) dX2_method_120 (by decide) ?_
  refine aw_aload_n (i := 0) dX2_method_121 rfl rfl trivial ?_
  replace hq := obind hq
  obtain ⟨i74, e75, hq⟩ := hq
  refine xw_getI e75 fX2_38 dX2_method_122 ?_
  replace hq := cond_t hq
  obtain ⟨z76, hq⟩ := hq
  obtain ⟨fs9, ha9⟩ := clB1 z76
  replace hq := obind hq
  obtain ⟨q77, e78, hq⟩ := hq
  refine aw_callVX (Y2 := YX2_want) (As := [.int s1, .int (1 : Int32), .int i74]) (rest := []) (r := (RX2, TX2, 9)) kX2_want ha9 rfl rfl q407 q408 q409 dX2_method_125 rfl rfl (ct_X2_want g hst N h x0 s1 (1 : Int32) i74 _ e78) (Nat.le_of_ble_eq_true rfl) (Nat.le_of_ble_eq_true rfl) (fun v9 h9 z9 y9 => ?_) (fun E79 h9 z9 y9 => ?_)
  rotate_left
  · obtain ⟨e9, rfl⟩ := tV_exc y9
    replace hq := tcase_l e9 hq
    by_cases c81 : E79 = "java/lang/IllegalStateException"
    · rw [if_pos c81] at hq
      subst c81
      refine xw_catch (x := ⟨5, 141, 142, 28⟩) (i := 3) (loc' := [some (.ref x0), some (.int x1), some (.int x2), none, some (.int x4), some (va_rf r5)]) (pc9 := 143) dX2_method_142 rfl (pre := []) (suf := []) rfl (fun z hz => by cases hz) (by decide) (by decide) q391 q412 (Nat.le_of_ble_eq_true rfl) rfl (Or.inr ⟨3, rfl, dX2_method_142⟩) (fun _ => by first | rfl | (unfold akill; first | rfl | (split <;> first | rfl | (rename_i zz; simp at zz)))) (Nat.le_of_ble_eq_true rfl) ?_
      refine aw_null dX2_method_143 ?_
      cases hq
      exact aw_areturn dX2_method_144 rfl (Or.inl ⟨_, rfl⟩) trivial ⟨rfl, rfl⟩
    rw [if_neg c81] at hq
    cases hq
  obtain ⟨v80, e9, rfl, rfl⟩ := tV_ret y9
  replace hq := tcase_r e9 hq
  refine aw_st (st' := []) rfl ?_
  replace hq := obind hq
  obtain ⟨h82, e83, hq⟩ := hq
  refine xw_new (r := (RX8, TX8, 4)) e83 q1073 q1074 q149 (by decide) rfl okX8 rfl dfX8 dX2_method_128 ?_
  refine aw_dup dX2_method_131 rfl ?_
  refine aw_iload_n (i := 2) dX2_method_132 rfl rfl ?_
  refine aw_aload_n (i := 3) dX2_method_133 rfl rfl (aIsR_rf _) ?_
  refine aw_iload dX2_method_134 rfl ?_
  refine aw_aload dX2_method_136 rfl (aIsR_rf _) ?_
  replace hq := obind hq
  obtain ⟨q84, e85, hq⟩ := hq
  refine aw_callI (Y2 := YX8_init) (As := [.int x2, va_rf r3, .int x4, va_rf r5]) (rest := [.ref q77.2.2.1]) (b := q77.2.2.1) kX8_init rfl rfl q1075 q1076 dX2_method_138 rfl rfl (ct_X8_init g hst N h82 q77.2.2.1 x2 r3 x4 r5 _ e85) (Nat.le_of_ble_eq_true rfl) (Nat.le_of_ble_eq_true rfl) (fun v9 h9 z9 y9 => ?_)
  obtain ⟨rfl, y9⟩ := y9
  rw [y9]
  refine aw_st (st' := [.ref q77.2.2.1]) rfl ?_
  cases hq
  exact aw_areturn dX2_method_141 rfl (Or.inl ⟨_, rfl⟩) trivial ⟨rfl, rfl⟩
def x_X2_method_61 (g : AG) (N : Nat) (h : AH) (x0 : Nat) (x1 : Int32) (x2 : Int32) (r3 : Option Nat) (x4 : Int32) (s1 : Int32) : Option (Option Nat × AH) :=
  (rdI h x0 [(1, 2)]).bind fun i37 => bif clB h x0 [1] then ((x_X2_want g N h x0 s1 (1 : Int32) i37).bind fun q40 => tcase q40.1 (fun E42 => if E42 = "java/lang/IllegalStateException" then (some ((none), q40.2)) else (none)) (fun v43 => (rdI q40.2 x0 [(1, 2)]).bind fun i45 => (wrV g q40.2 x0 [(1, 2)] (.int (i45 + (1 : Int32)))).bind fun h47 => bif clB h47 x0 [1] then ((x_X2_take g N h47 x0 (41 : Int32)).bind fun q50 => tcase q50.1 (fun E52 => if E52 = "java/lang/IllegalStateException" then (some ((none), q50.2)) else (none)) (fun v53 => bif clB q50.2 x0 [1] then ((x_X2_take g N q50.2 x0 (61 : Int32)).bind fun q56 => tcase q56.1 (fun E58 => if E58 = "java/lang/IllegalStateException" then (some ((none), q56.2)) else (none)) (fun v59 => bif clB q56.2 (gS g 2) [17] then ((x_J13_substring g N q56.2 (gS g 2) (0 : Int32) x4).bind fun q62 => bif clB q62.2 x0 [1] then ((x_X2_whole g N q62.2 x0 q62.1 (1 : Int32)).bind fun q65 => tcase q65.1 (fun E67 => if E67 = "java/lang/IllegalStateException" then (some ((none), q65.2)) else (none)) (fun v68 => bif clB q65.2 x0 [1] then ((x_X2_peek g N q65.2 x0).bind fun q71 => if q71.1 = (-1 : Int32) then (x_X2_method_120 g N  q71.2 x0 x1 x2 r3 x4 v68 (1 : Int32)) else (x_X2_method_120 g N  q71.2 x0 x1 x2 r3 x4 v68 (0 : Int32))) else none)) else none) else none)) else none)) else none)) else none
theorem p_x_X2_method_61 (g : AG) (hst : (gL g).stackTraces = false) (N : Nat) : ∀ (h : AH) (x0 : Nat) (x1 : Int32) (x2 : Int32) (r3 : Option Nat) (x4 : Int32) (s1 : Int32) (q : (Option Nat × AH)), x_X2_method_61 g N h x0 x1 x2 r3 x4 s1 = some q → AW g YX2_method 515 (xR q) h [some (.ref x0), some (.int x1), some (.int x2), some (va_rf r3), some (.int x4), none] 61 [.int s1, .ref x0] := by
  intro h x0 x1 x2 r3 x4 s1 q hq
  unfold x_X2_method_61 at hq
  refine aw_iconst (v := 1) dX2_method_61 (by decide) ?_
  refine aw_aload_n (i := 0) dX2_method_62 rfl rfl trivial ?_
  replace hq := obind hq
  obtain ⟨i37, e38, hq⟩ := hq
  refine xw_getI e38 fX2_38 dX2_method_63 ?_
  replace hq := cond_t hq
  obtain ⟨z39, hq⟩ := hq
  obtain ⟨fs9, ha9⟩ := clB1 z39
  replace hq := obind hq
  obtain ⟨q40, e41, hq⟩ := hq
  refine aw_callVX (Y2 := YX2_want) (As := [.int s1, .int (1 : Int32), .int i37]) (rest := []) (r := (RX2, TX2, 9)) kX2_want ha9 rfl rfl q407 q408 q409 dX2_method_66 rfl rfl (ct_X2_want g hst N h x0 s1 (1 : Int32) i37 _ e41) (Nat.le_of_ble_eq_true rfl) (Nat.le_of_ble_eq_true rfl) (fun v9 h9 z9 y9 => ?_) (fun E42 h9 z9 y9 => ?_)
  rotate_left
  · obtain ⟨e9, rfl⟩ := tV_exc y9
    replace hq := tcase_l e9 hq
    by_cases c44 : E42 = "java/lang/IllegalStateException"
    · rw [if_pos c44] at hq
      subst c44
      refine xw_catch (x := ⟨5, 141, 142, 28⟩) (i := 3) (loc' := [some (.ref x0), some (.int x1), some (.int x2), none, some (.int x4), none]) (pc9 := 143) dX2_method_142 rfl (pre := []) (suf := []) rfl (fun z hz => by cases hz) (by decide) (by decide) q391 q412 (Nat.le_of_ble_eq_true rfl) rfl (Or.inr ⟨3, rfl, dX2_method_142⟩) (fun _ => by first | rfl | (unfold akill; first | rfl | (split <;> first | rfl | (rename_i zz; simp at zz)))) (Nat.le_of_ble_eq_true rfl) ?_
      refine aw_null dX2_method_143 ?_
      cases hq
      exact aw_areturn dX2_method_144 rfl (Or.inl ⟨_, rfl⟩) trivial ⟨rfl, rfl⟩
    rw [if_neg c44] at hq
    cases hq
  obtain ⟨v43, e9, rfl, rfl⟩ := tV_ret y9
  replace hq := tcase_r e9 hq
  refine aw_st (st' := []) rfl ?_
  refine aw_aload_n (i := 0) dX2_method_69 rfl rfl trivial ?_
  refine aw_dup dX2_method_70 rfl ?_
  replace hq := obind hq
  obtain ⟨i45, e46, hq⟩ := hq
  refine xw_getI e46 fX2_38 dX2_method_71 ?_
  refine aw_iconst (v := 1) dX2_method_74 (by decide) ?_
  refine aw_iadd dX2_method_75 ?_
  replace hq := obind hq
  obtain ⟨h47, e48, hq⟩ := hq
  refine xw_put e48 fX2_38 tX2_2 ⟨rfl, rfl⟩ dX2_method_76 ?_
  refine aw_aload_n (i := 0) dX2_method_79 rfl rfl trivial ?_
  refine aw_bipush (v := 41) dX2_method_80 (by decide) ?_
  replace hq := cond_t hq
  obtain ⟨z49, hq⟩ := hq
  obtain ⟨fs9, ha9⟩ := clB1 z49
  replace hq := obind hq
  obtain ⟨q50, e51, hq⟩ := hq
  refine aw_callVX (Y2 := YX2_take) (As := [.int (41 : Int32)]) (rest := []) (r := (RX2, TX2, 9)) kX2_take ha9 rfl rfl q781 q783 qs4 dX2_method_82 rfl rfl (ct_X2_take g hst N h47 x0 (41 : Int32) _ e51) (Nat.le_of_ble_eq_true rfl) (Nat.le_of_ble_eq_true rfl) (fun v9 h9 z9 y9 => ?_) (fun E52 h9 z9 y9 => ?_)
  rotate_left
  · obtain ⟨e9, rfl⟩ := tV_exc y9
    replace hq := tcase_l e9 hq
    by_cases c54 : E52 = "java/lang/IllegalStateException"
    · rw [if_pos c54] at hq
      subst c54
      refine xw_catch (x := ⟨5, 141, 142, 28⟩) (i := 3) (loc' := [some (.ref x0), some (.int x1), some (.int x2), none, some (.int x4), none]) (pc9 := 143) dX2_method_142 rfl (pre := []) (suf := []) rfl (fun z hz => by cases hz) (by decide) (by decide) q391 q412 (Nat.le_of_ble_eq_true rfl) rfl (Or.inr ⟨3, rfl, dX2_method_142⟩) (fun _ => by first | rfl | (unfold akill; first | rfl | (split <;> first | rfl | (rename_i zz; simp at zz)))) (Nat.le_of_ble_eq_true rfl) ?_
      refine aw_null dX2_method_143 ?_
      cases hq
      exact aw_areturn dX2_method_144 rfl (Or.inl ⟨_, rfl⟩) trivial ⟨rfl, rfl⟩
    rw [if_neg c54] at hq
    cases hq
  obtain ⟨v53, e9, rfl, rfl⟩ := tV_ret y9
  replace hq := tcase_r e9 hq
  refine aw_st (st' := []) rfl ?_
  refine aw_aload_n (i := 0) dX2_method_85 rfl rfl trivial ?_
  refine aw_bipush (v := 61) dX2_method_86 (by decide) ?_
  replace hq := cond_t hq
  obtain ⟨z55, hq⟩ := hq
  obtain ⟨fs9, ha9⟩ := clB1 z55
  replace hq := obind hq
  obtain ⟨q56, e57, hq⟩ := hq
  refine aw_callVX (Y2 := YX2_take) (As := [.int (61 : Int32)]) (rest := []) (r := (RX2, TX2, 9)) kX2_take ha9 rfl rfl q781 q783 qs4 dX2_method_88 rfl rfl (ct_X2_take g hst N q50.2 x0 (61 : Int32) _ e57) (Nat.le_of_ble_eq_true rfl) (Nat.le_of_ble_eq_true rfl) (fun v9 h9 z9 y9 => ?_) (fun E58 h9 z9 y9 => ?_)
  rotate_left
  · obtain ⟨e9, rfl⟩ := tV_exc y9
    replace hq := tcase_l e9 hq
    by_cases c60 : E58 = "java/lang/IllegalStateException"
    · rw [if_pos c60] at hq
      subst c60
      refine xw_catch (x := ⟨5, 141, 142, 28⟩) (i := 3) (loc' := [some (.ref x0), some (.int x1), some (.int x2), none, some (.int x4), none]) (pc9 := 143) dX2_method_142 rfl (pre := []) (suf := []) rfl (fun z hz => by cases hz) (by decide) (by decide) q391 q412 (Nat.le_of_ble_eq_true rfl) rfl (Or.inr ⟨3, rfl, dX2_method_142⟩) (fun _ => by first | rfl | (unfold akill; first | rfl | (split <;> first | rfl | (rename_i zz; simp at zz)))) (Nat.le_of_ble_eq_true rfl) ?_
      refine aw_null dX2_method_143 ?_
      cases hq
      exact aw_areturn dX2_method_144 rfl (Or.inl ⟨_, rfl⟩) trivial ⟨rfl, rfl⟩
    rw [if_neg c60] at hq
    cases hq
  obtain ⟨v59, e9, rfl, rfl⟩ := tV_ret y9
  replace hq := tcase_r e9 hq
  refine aw_st (st' := []) rfl ?_
  refine aw_aload_n (i := 0) dX2_method_91 rfl rfl trivial ?_
  refine aw_ldcS (i := 2) rfl dX2_method_92 ?_
  refine aw_iconst (v := 0) dX2_method_94 (by decide) ?_
  refine aw_iload dX2_method_95 rfl ?_
  replace hq := cond_t hq
  obtain ⟨z61, hq⟩ := hq
  obtain ⟨fs9, ha9⟩ := clB1 z61
  replace hq := obind hq
  obtain ⟨q62, e63, hq⟩ := hq
  refine aw_callV (Y2 := YJ13_substring) (As := [.int (0 : Int32), .int x4]) (rest := [.ref x0]) (r := (RJ13, TJ13, 4)) kJ13_substring ha9 rfl rfl q786 q787 q788 dX2_method_97 rfl rfl (ct_J13_substring g hst N q56.2 (gS g 2) (0 : Int32) x4 _ e63) (Nat.le_of_ble_eq_true rfl) (Nat.le_of_ble_eq_true rfl) (fun v9 h9 z9 y9 => ?_)
  obtain ⟨rfl, rfl⟩ := y9
  refine aw_st (st' := [va_rf q62.1, .ref x0]) rfl ?_
  refine aw_iconst (v := 1) dX2_method_100 (by decide) ?_
  replace hq := cond_t hq
  obtain ⟨z64, hq⟩ := hq
  obtain ⟨fs9, ha9⟩ := clB1 z64
  replace hq := obind hq
  obtain ⟨q65, e66, hq⟩ := hq
  refine aw_callVX (Y2 := YX2_whole) (As := [va_rf q62.1, .int (1 : Int32)]) (rest := []) (r := (RX2, TX2, 9)) kX2_whole ha9 rfl rfl q810 q812 qs5 dX2_method_101 rfl rfl (ct_X2_whole g hst N q62.2 x0 q62.1 (1 : Int32) _ e66) (Nat.le_of_ble_eq_true rfl) (Nat.le_of_ble_eq_true rfl) (fun v9 h9 z9 y9 => ?_) (fun E67 h9 z9 y9 => ?_)
  rotate_left
  · obtain ⟨e9, rfl⟩ := tR_exc y9
    replace hq := tcase_l e9 hq
    by_cases c69 : E67 = "java/lang/IllegalStateException"
    · rw [if_pos c69] at hq
      subst c69
      refine xw_catch (x := ⟨5, 141, 142, 28⟩) (i := 3) (loc' := [some (.ref x0), some (.int x1), some (.int x2), none, some (.int x4), none]) (pc9 := 143) dX2_method_142 rfl (pre := []) (suf := []) rfl (fun z hz => by cases hz) (by decide) (by decide) q391 q412 (Nat.le_of_ble_eq_true rfl) rfl (Or.inr ⟨3, rfl, dX2_method_142⟩) (fun _ => by first | rfl | (unfold akill; first | rfl | (split <;> first | rfl | (rename_i zz; simp at zz)))) (Nat.le_of_ble_eq_true rfl) ?_
      refine aw_null dX2_method_143 ?_
      cases hq
      exact aw_areturn dX2_method_144 rfl (Or.inl ⟨_, rfl⟩) trivial ⟨rfl, rfl⟩
    rw [if_neg c69] at hq
    cases hq
  obtain ⟨v68, e9, rfl, rfl⟩ := tR_ret y9
  replace hq := tcase_r e9 hq
  refine aw_st (st' := [va_rf v68]) rfl ?_
  refine aw_astore (loc' := [some (.ref x0), some (.int x1), some (.int x2), some (va_rf r3), some (.int x4), some (va_rf v68)]) dX2_method_104 (Nat.le_of_ble_eq_true rfl) (aIsR_rf _) rfl ?_
  refine aw_aload_n (i := 0) dX2_method_106 rfl rfl trivial ?_
  refine aw_aload_n (i := 0) dX2_method_107 rfl rfl trivial ?_
  replace hq := cond_t hq
  obtain ⟨z70, hq⟩ := hq
  obtain ⟨fs9, ha9⟩ := clB1 z70
  replace hq := obind hq
  obtain ⟨q71, e72, hq⟩ := hq
  refine aw_callV (Y2 := YX2_peek) (As := []) (rest := [.ref x0]) (r := (RX2, TX2, 9)) kX2_peek ha9 rfl rfl q400 q401 q402 dX2_method_108 rfl rfl (ct_X2_peek g hst N q65.2 x0 _ e72) (Nat.le_of_ble_eq_true rfl) (Nat.le_of_ble_eq_true rfl) (fun v9 h9 z9 y9 => ?_)
  obtain ⟨rfl, rfl⟩ := y9
  refine aw_st (st' := [.int q71.1, .ref x0]) rfl ?_
  refine aw_iconst (v := (-1)) dX2_method_111 (by decide) ?_
  refine aw_icmp_ne (tgt := 119) dX2_method_112 (by decide) (fun c73 => ?_) (fun c73 => ?_)
  · rw [if_neg c73] at hq
    refine aw_iconst (v := 0) dX2_method_119 (by decide) ?_
    exact p_x_X2_method_120 g hst N   q71.2 x0 x1 x2 r3 x4 v68 (0 : Int32) _ hq
  · rw [if_pos c73] at hq
    refine aw_iconst (v := 1) dX2_method_115 (by decide) ?_
    refine aw_goto (tgt := 120) dX2_method_116 (by decide) ?_
    exact p_x_X2_method_120 g hst N   q71.2 x0 x1 x2 r3 x4 v68 (1 : Int32) _ hq
def x_X2_method_60 (g : AG) (N : Nat) (h : AH) (x0 : Nat) (x1 : Int32) (x2 : Int32) (r3 : Option Nat) (x4 : Int32) : Option (Option Nat × AH) :=
  x_X2_method_61 g N  h x0 x1 x2 r3 x4 (0 : Int32)
theorem p_x_X2_method_60 (g : AG) (hst : (gL g).stackTraces = false) (N : Nat) : ∀ (h : AH) (x0 : Nat) (x1 : Int32) (x2 : Int32) (r3 : Option Nat) (x4 : Int32) (q : (Option Nat × AH)), x_X2_method_60 g N h x0 x1 x2 r3 x4 = some q → AW g YX2_method 515 (xR q) h [some (.ref x0), some (.int x1), some (.int x2), some (va_rf r3), some (.int x4), none] 60 [.ref x0] := by
  intro h x0 x1 x2 r3 x4 q hq
  unfold x_X2_method_60 at hq
  refine aw_iconst (v := 0) dX2_method_60 (by decide) ?_
  exact p_x_X2_method_61 g hst N   h x0 x1 x2 r3 x4 (0 : Int32) _ hq
def x_X2_method (g : AG) (N : Nat) (h : AH) (x0 : Nat) (x1 : Int32) (x2 : Int32) : Option (Option Nat × AH) :=
  bif clB h x0 [1] then ((x_X2_begin g N h x0 x1).bind fun q2 => bif clB q2 x0 [1] then ((x_X2_isOfName g N q2 x0).bind fun q5 => (rdI q5.2 x0 [(1, 2)]).bind fun i7 => bif clB q5.2 x0 [1] then ((x_X2_want g N q5.2 x0 q5.1 (1 : Int32) i7).bind fun q10 => tcase q10.1 (fun E12 => if E12 = "java/lang/IllegalStateException" then (some ((none), q10.2)) else (none)) (fun v13 => bif clB q10.2 x0 [1] then ((x_X2_row g N q10.2 x0).bind fun q16 => tcase q16.1 (fun E18 => if E18 = "java/lang/IllegalStateException" then (some ((none), q16.2)) else (none)) (fun v19 => bif clB q16.2 x0 [1] then ((x_X2_isName g N q16.2 x0 v19 (0 : Int32)).bind fun q22 => tcase q22.1 (fun E24 => if E24 = "java/lang/IllegalStateException" then (some ((none), q22.2)) else (none)) (fun v25 => bif clB q22.2 x0 [1] then ((x_X2_take g N q22.2 x0 (40 : Int32)).bind fun q28 => tcase q28.1 (fun E30 => if E30 = "java/lang/IllegalStateException" then (some ((none), q28.2)) else (none)) (fun v31 => bif clB q28.2 x0 [1] then ((x_X2_peek g N q28.2 x0).bind fun q34 => if (q34.1 - (48 : Int32)) < 0 then (x_X2_method_60 g N  q34.2 x0 x1 x2 v19 (q34.1 - (48 : Int32))) else (if (3 : Int32) < (q34.1 - (48 : Int32)) then (x_X2_method_60 g N  q34.2 x0 x1 x2 v19 (q34.1 - (48 : Int32))) else (x_X2_method_61 g N  q34.2 x0 x1 x2 v19 (q34.1 - (48 : Int32)) (1 : Int32)))) else none)) else none)) else none)) else none)) else none) else none) else none
theorem ct_X2_method (g : AG) (hst : (gL g).stackTraces = false) (N : Nat) : ∀ (h : AH) (x0 : Nat) (x1 : Int32) (x2 : Int32) (q : (Option Nat × AH)), x_X2_method g N h x0 x1 x2 = some q → CT g YX2_method 515 [.ref x0, .int x1, .int x2] h (xR q) := by
  intro h x0 x1 x2 q hq
  refine CT.ofW rfl (by decide +kernel) (loc := [some (.ref x0), some (.int x1), some (.int x2), none, none, none]) (by first | exact Nat.le_of_ble_eq_true rfl | (simp only [lgl_rf, lgl_i, lgl_j, lgl_ref, lgl_nil]; exact Nat.le_of_ble_eq_true rfl)) (by first | rfl | (simp only [aent_rf, aent_i, aent_j, aent_ref, aent_nil]; rfl)) ?_
  unfold x_X2_method at hq
  refine aw_aload_n (i := 0) dX2_method_0 rfl rfl trivial ?_
  refine aw_iload_n (i := 1) dX2_method_1 rfl rfl ?_
  replace hq := cond_t hq
  obtain ⟨z1, hq⟩ := hq
  obtain ⟨fs9, ha9⟩ := clB1 z1
  replace hq := obind hq
  obtain ⟨q2, e3, hq⟩ := hq
  refine aw_callV (Y2 := YX2_begin) (As := [.int x1]) (rest := []) (r := (RX2, TX2, 9)) kX2_begin ha9 rfl rfl q392 q393 q394 dX2_method_2 rfl rfl (ct_X2_begin g hst N h x0 x1 _ e3) (Nat.le_of_ble_eq_true rfl) (Nat.le_of_ble_eq_true rfl) (fun v9 h9 z9 y9 => ?_)
  obtain ⟨rfl, y9⟩ := y9
  rw [y9]
  refine aw_st (st' := []) rfl ?_
  refine aw_aload_n (i := 0) dX2_method_5 rfl rfl trivial ?_
  refine aw_aload_n (i := 0) dX2_method_6 rfl rfl trivial ?_
  replace hq := cond_t hq
  obtain ⟨z4, hq⟩ := hq
  obtain ⟨fs9, ha9⟩ := clB1 z4
  replace hq := obind hq
  obtain ⟨q5, e6, hq⟩ := hq
  refine aw_callV (Y2 := YX2_isOfName) (As := []) (rest := [.ref x0]) (r := (RX2, TX2, 9)) kX2_isOfName ha9 rfl rfl q396 q398 qs0 dX2_method_7 rfl rfl (ct_X2_isOfName g hst N q2 x0 _ e6) (Nat.le_of_ble_eq_true rfl) (Nat.le_of_ble_eq_true rfl) (fun v9 h9 z9 y9 => ?_)
  obtain ⟨rfl, rfl⟩ := y9
  refine aw_st (st' := [.int q5.1, .ref x0]) rfl ?_
  refine aw_iconst (v := 1) dX2_method_10 (by decide) ?_
  refine aw_aload_n (i := 0) dX2_method_11 rfl rfl trivial ?_
  replace hq := obind hq
  obtain ⟨i7, e8, hq⟩ := hq
  refine xw_getI e8 fX2_38 dX2_method_12 ?_
  replace hq := cond_t hq
  obtain ⟨z9, hq⟩ := hq
  obtain ⟨fs9, ha9⟩ := clB1 z9
  replace hq := obind hq
  obtain ⟨q10, e11, hq⟩ := hq
  refine aw_callVX (Y2 := YX2_want) (As := [.int q5.1, .int (1 : Int32), .int i7]) (rest := []) (r := (RX2, TX2, 9)) kX2_want ha9 rfl rfl q407 q408 q409 dX2_method_15 rfl rfl (ct_X2_want g hst N q5.2 x0 q5.1 (1 : Int32) i7 _ e11) (Nat.le_of_ble_eq_true rfl) (Nat.le_of_ble_eq_true rfl) (fun v9 h9 z9 y9 => ?_) (fun E12 h9 z9 y9 => ?_)
  rotate_left
  · obtain ⟨e9, rfl⟩ := tV_exc y9
    replace hq := tcase_l e9 hq
    by_cases c14 : E12 = "java/lang/IllegalStateException"
    · rw [if_pos c14] at hq
      subst c14
      refine xw_catch (x := ⟨5, 141, 142, 28⟩) (i := 3) (loc' := [some (.ref x0), some (.int x1), some (.int x2), none, none, none]) (pc9 := 143) dX2_method_142 rfl (pre := []) (suf := []) rfl (fun z hz => by cases hz) (by decide) (by decide) q391 q412 (Nat.le_of_ble_eq_true rfl) rfl (Or.inr ⟨3, rfl, dX2_method_142⟩) (fun _ => by first | rfl | (unfold akill; first | rfl | (split <;> first | rfl | (rename_i zz; simp at zz)))) (Nat.le_of_ble_eq_true rfl) ?_
      refine aw_null dX2_method_143 ?_
      cases hq
      exact aw_areturn dX2_method_144 rfl (Or.inl ⟨_, rfl⟩) trivial ⟨rfl, rfl⟩
    rw [if_neg c14] at hq
    cases hq
  obtain ⟨v13, e9, rfl, rfl⟩ := tV_ret y9
  replace hq := tcase_r e9 hq
  refine aw_st (st' := []) rfl ?_
  refine aw_aload_n (i := 0) dX2_method_18 rfl rfl trivial ?_
  replace hq := cond_t hq
  obtain ⟨z15, hq⟩ := hq
  obtain ⟨fs9, ha9⟩ := clB1 z15
  replace hq := obind hq
  obtain ⟨q16, e17, hq⟩ := hq
  refine aw_callVX (Y2 := YX2_row) (As := []) (rest := []) (r := (RX2, TX2, 9)) kX2_row ha9 rfl rfl q478 q480 qs2 dX2_method_19 rfl rfl (ct_X2_row g hst N q10.2 x0 _ e17) (Nat.le_of_ble_eq_true rfl) (Nat.le_of_ble_eq_true rfl) (fun v9 h9 z9 y9 => ?_) (fun E18 h9 z9 y9 => ?_)
  rotate_left
  · obtain ⟨e9, rfl⟩ := tR_exc y9
    replace hq := tcase_l e9 hq
    by_cases c20 : E18 = "java/lang/IllegalStateException"
    · rw [if_pos c20] at hq
      subst c20
      refine xw_catch (x := ⟨5, 141, 142, 28⟩) (i := 3) (loc' := [some (.ref x0), some (.int x1), some (.int x2), none, none, none]) (pc9 := 143) dX2_method_142 rfl (pre := []) (suf := []) rfl (fun z hz => by cases hz) (by decide) (by decide) q391 q412 (Nat.le_of_ble_eq_true rfl) rfl (Or.inr ⟨3, rfl, dX2_method_142⟩) (fun _ => by first | rfl | (unfold akill; first | rfl | (split <;> first | rfl | (rename_i zz; simp at zz)))) (Nat.le_of_ble_eq_true rfl) ?_
      refine aw_null dX2_method_143 ?_
      cases hq
      exact aw_areturn dX2_method_144 rfl (Or.inl ⟨_, rfl⟩) trivial ⟨rfl, rfl⟩
    rw [if_neg c20] at hq
    cases hq
  obtain ⟨v19, e9, rfl, rfl⟩ := tR_ret y9
  replace hq := tcase_r e9 hq
  refine aw_st (st' := [va_rf v19]) rfl ?_
  refine aw_astore_n (i := 3) (loc' := [some (.ref x0), some (.int x1), some (.int x2), some (va_rf v19), none, none]) dX2_method_22 rfl (Nat.le_of_ble_eq_true rfl) (aIsR_rf _) rfl ?_
  refine aw_aload_n (i := 0) dX2_method_23 rfl rfl trivial ?_
  refine aw_aload_n (i := 3) dX2_method_24 rfl rfl (aIsR_rf _) ?_
  refine aw_iconst (v := 0) dX2_method_25 (by decide) ?_
  replace hq := cond_t hq
  obtain ⟨z21, hq⟩ := hq
  obtain ⟨fs9, ha9⟩ := clB1 z21
  replace hq := obind hq
  obtain ⟨q22, e23, hq⟩ := hq
  refine aw_callVX (Y2 := YX2_isName) (As := [va_rf v19, .int (0 : Int32)]) (rest := []) (r := (RX2, TX2, 9)) kX2_isName ha9 rfl rfl q761 q763 qs3 dX2_method_26 rfl rfl (ct_X2_isName g hst N q16.2 x0 v19 (0 : Int32) _ e23) (Nat.le_of_ble_eq_true rfl) (Nat.le_of_ble_eq_true rfl) (fun v9 h9 z9 y9 => ?_) (fun E24 h9 z9 y9 => ?_)
  rotate_left
  · obtain ⟨e9, rfl⟩ := tV_exc y9
    replace hq := tcase_l e9 hq
    by_cases c26 : E24 = "java/lang/IllegalStateException"
    · rw [if_pos c26] at hq
      subst c26
      refine xw_catch (x := ⟨5, 141, 142, 28⟩) (i := 3) (loc' := [some (.ref x0), some (.int x1), some (.int x2), none, none, none]) (pc9 := 143) dX2_method_142 rfl (pre := []) (suf := []) rfl (fun z hz => by cases hz) (by decide) (by decide) q391 q412 (Nat.le_of_ble_eq_true rfl) rfl (Or.inr ⟨3, rfl, dX2_method_142⟩) (fun _ => by first | rfl | (unfold akill; first | rfl | (split <;> first | rfl | (rename_i zz; simp at zz)))) (Nat.le_of_ble_eq_true rfl) ?_
      refine aw_null dX2_method_143 ?_
      cases hq
      exact aw_areturn dX2_method_144 rfl (Or.inl ⟨_, rfl⟩) trivial ⟨rfl, rfl⟩
    rw [if_neg c26] at hq
    cases hq
  obtain ⟨v25, e9, rfl, rfl⟩ := tV_ret y9
  replace hq := tcase_r e9 hq
  refine aw_st (st' := []) rfl ?_
  refine aw_aload_n (i := 0) dX2_method_29 rfl rfl trivial ?_
  refine aw_bipush (v := 40) dX2_method_30 (by decide) ?_
  replace hq := cond_t hq
  obtain ⟨z27, hq⟩ := hq
  obtain ⟨fs9, ha9⟩ := clB1 z27
  replace hq := obind hq
  obtain ⟨q28, e29, hq⟩ := hq
  refine aw_callVX (Y2 := YX2_take) (As := [.int (40 : Int32)]) (rest := []) (r := (RX2, TX2, 9)) kX2_take ha9 rfl rfl q781 q783 qs4 dX2_method_32 rfl rfl (ct_X2_take g hst N q22.2 x0 (40 : Int32) _ e29) (Nat.le_of_ble_eq_true rfl) (Nat.le_of_ble_eq_true rfl) (fun v9 h9 z9 y9 => ?_) (fun E30 h9 z9 y9 => ?_)
  rotate_left
  · obtain ⟨e9, rfl⟩ := tV_exc y9
    replace hq := tcase_l e9 hq
    by_cases c32 : E30 = "java/lang/IllegalStateException"
    · rw [if_pos c32] at hq
      subst c32
      refine xw_catch (x := ⟨5, 141, 142, 28⟩) (i := 3) (loc' := [some (.ref x0), some (.int x1), some (.int x2), none, none, none]) (pc9 := 143) dX2_method_142 rfl (pre := []) (suf := []) rfl (fun z hz => by cases hz) (by decide) (by decide) q391 q412 (Nat.le_of_ble_eq_true rfl) rfl (Or.inr ⟨3, rfl, dX2_method_142⟩) (fun _ => by first | rfl | (unfold akill; first | rfl | (split <;> first | rfl | (rename_i zz; simp at zz)))) (Nat.le_of_ble_eq_true rfl) ?_
      refine aw_null dX2_method_143 ?_
      cases hq
      exact aw_areturn dX2_method_144 rfl (Or.inl ⟨_, rfl⟩) trivial ⟨rfl, rfl⟩
    rw [if_neg c32] at hq
    cases hq
  obtain ⟨v31, e9, rfl, rfl⟩ := tV_ret y9
  replace hq := tcase_r e9 hq
  refine aw_st (st' := []) rfl ?_
  refine aw_aload_n (i := 0) dX2_method_35 rfl rfl trivial ?_
  replace hq := cond_t hq
  obtain ⟨z33, hq⟩ := hq
  obtain ⟨fs9, ha9⟩ := clB1 z33
  replace hq := obind hq
  obtain ⟨q34, e35, hq⟩ := hq
  refine aw_callV (Y2 := YX2_peek) (As := []) (rest := []) (r := (RX2, TX2, 9)) kX2_peek ha9 rfl rfl q400 q401 q402 dX2_method_36 rfl rfl (ct_X2_peek g hst N q28.2 x0 _ e35) (Nat.le_of_ble_eq_true rfl) (Nat.le_of_ble_eq_true rfl) (fun v9 h9 z9 y9 => ?_)
  obtain ⟨rfl, rfl⟩ := y9
  refine aw_st (st' := [.int q34.1]) rfl ?_
  refine aw_bipush (v := 48) dX2_method_39 (by decide) ?_
  refine aw_isub dX2_method_41 ?_
  refine aw_istore (loc' := [some (.ref x0), some (.int x1), some (.int x2), some (va_rf v19), some (.int (q34.1 - (48 : Int32))), none]) dX2_method_42 (Nat.le_of_ble_eq_true rfl) (aset1_rf rfl) ?_
  refine aw_aload_n (i := 0) dX2_method_44 rfl rfl trivial ?_
  refine aw_iload dX2_method_45 rfl ?_
  refine aw_if_lt (tgt := 60) dX2_method_47 (by decide) (fun c36 => ?_) (fun c36 => ?_)
  · rw [if_pos c36] at hq
    exact p_x_X2_method_60 g hst N   q34.2 x0 x1 x2 v19 (q34.1 - (48 : Int32)) _ hq
  · rw [if_neg c36] at hq
    refine aw_iload dX2_method_50 rfl ?_
    refine aw_iconst (v := 3) dX2_method_52 (by decide) ?_
    refine aw_icmp_gt (tgt := 60) dX2_method_53 (by decide) (fun c86 => ?_) (fun c86 => ?_)
    · rw [if_pos c86] at hq
      exact p_x_X2_method_60 g hst N   q34.2 x0 x1 x2 v19 (q34.1 - (48 : Int32)) _ hq
    · rw [if_neg c86] at hq
      refine aw_iconst (v := 1) dX2_method_56 (by decide) ?_
      refine aw_goto (tgt := 61) dX2_method_57 (by decide) ?_
      exact p_x_X2_method_61 g hst N   q34.2 x0 x1 x2 v19 (q34.1 - (48 : Int32)) (1 : Int32) _ hq
abbrev YX3_key : YC := (yX3_key, cX3_key, 2, (some (.object "java/lang/String")), [])
theorem kX3_key : aMk YX3_key 2 := ⟨rfl, q1100, q118, ⟨by decide +kernel, by decide +kernel, by decide +kernel⟩, Nat.le_of_ble_eq_true rfl⟩
def x_X3_key (g : AG) (N : Nat) (h : AH) (r0 : Option Nat) (x1 : Int32) : Option (Option Nat × AH) :=
  (mkO g h 4 16 [.null, .int 0, .int 0, .int 0]).bind fun h1 => (x_J12_init g N h1 h.2.1).bind fun q3 => bif clB q3 h.2.1 [16] then ((x_J12_append_3 g N q3 h.2.1 r0).bind fun q6 => (q6.1).bind fun a8 => bif clB q6.2 a8 [16] then ((x_J12_append_2 g N q6.2 a8 x1).bind fun q11 => (q11.1).bind fun a13 => bif clB q11.2 a13 [16] then ((x_J12_toString g N q11.2 a13).bind fun q16 => some (q16.1, q16.2)) else none) else none) else none
theorem ct_X3_key (g : AG) (hst : (gL g).stackTraces = false) (N : Nat) : ∀ (h : AH) (r0 : Option Nat) (x1 : Int32) (q : (Option Nat × AH)), x_X3_key g N h r0 x1 = some q → CT g YX3_key 11 [va_rf r0, .int x1] h (xR q) := by
  intro h r0 x1 q hq
  refine CT.of rfl (by decide +kernel) (loc := [some (va_rf r0), some (.int x1)]) (by first | exact Nat.le_of_ble_eq_true rfl | (simp only [lgl_rf, lgl_i, lgl_j, lgl_ref, lgl_nil]; exact Nat.le_of_ble_eq_true rfl)) (by first | rfl | (simp only [aent_rf, aent_i, aent_j, aent_ref, aent_nil]; rfl)) ?_
  unfold x_X3_key at hq
  replace hq := obind hq
  obtain ⟨h1, e2, hq⟩ := hq
  refine xw_new (r := (RJ12, TJ12, 4)) e2 q1101 q483 q133 (by decide) rfl okJ12 rfl dfJ12 dX3_key_0 ?_
  refine aw_dup dX3_key_3 rfl ?_
  replace hq := obind hq
  obtain ⟨q3, e4, hq⟩ := hq
  refine aw_callI (Y2 := YJ12_init) (As := []) (rest := [.ref h.2.1]) (b := h.2.1) kJ12_init rfl rfl q1102 q485 dX3_key_4 rfl rfl (ct_J12_init g hst N h1 h.2.1 _ e4) (Nat.le_of_ble_eq_true rfl) (Nat.le_of_ble_eq_true rfl) (fun v9 h9 z9 y9 => ?_)
  obtain ⟨rfl, y9⟩ := y9
  rw [y9]
  refine aw_st (st' := [.ref h.2.1]) rfl ?_
  refine aw_aload_n (i := 0) dX3_key_7 rfl rfl (aIsR_rf _) ?_
  replace hq := cond_t hq
  obtain ⟨z5, hq⟩ := hq
  obtain ⟨fs9, ha9⟩ := clB1 z5
  replace hq := obind hq
  obtain ⟨q6, e7, hq⟩ := hq
  refine aw_callV (Y2 := YJ12_append_3) (As := [va_rf r0]) (rest := []) (r := (RJ12, TJ12, 4)) kJ12_append_3 ha9 rfl rfl q1103 q691 q692 dX3_key_8 rfl rfl (ct_J12_append_3 g hst N q3 h.2.1 r0 _ e7) (Nat.le_of_ble_eq_true rfl) (Nat.le_of_ble_eq_true rfl) (fun v9 h9 z9 y9 => ?_)
  obtain ⟨rfl, rfl⟩ := y9
  refine aw_st (st' := [va_rf q6.1]) rfl ?_
  refine aw_iload_n (i := 1) dX3_key_11 rfl rfl ?_
  replace hq := obind hq
  obtain ⟨a8, e9, hq⟩ := hq
  rw [e9]
  replace hq := cond_t hq
  obtain ⟨z10, hq⟩ := hq
  obtain ⟨fs9, ha9⟩ := clB1 z10
  replace hq := obind hq
  obtain ⟨q11, e12, hq⟩ := hq
  refine aw_callV (Y2 := YJ12_append_2) (As := [.int x1]) (rest := []) (r := (RJ12, TJ12, 4)) kJ12_append_2 ha9 rfl rfl q1104 q656 q657 dX3_key_12 rfl rfl (ct_J12_append_2 g hst N q6.2 a8 x1 _ e12) (Nat.le_of_ble_eq_true rfl) (Nat.le_of_ble_eq_true rfl) (fun v9 h9 z9 y9 => ?_)
  obtain ⟨rfl, rfl⟩ := y9
  refine aw_st (st' := [va_rf q11.1]) rfl ?_
  replace hq := obind hq
  obtain ⟨a13, e14, hq⟩ := hq
  rw [e14]
  replace hq := cond_t hq
  obtain ⟨z15, hq⟩ := hq
  obtain ⟨fs9, ha9⟩ := clB1 z15
  replace hq := obind hq
  obtain ⟨q16, e17, hq⟩ := hq
  refine aw_callV (Y2 := YJ12_toString) (As := []) (rest := []) (r := (RJ12, TJ12, 4)) kJ12_toString ha9 rfl rfl q1105 q616 q617 dX3_key_15 rfl rfl (ct_J12_toString g hst N q11.2 a13 _ e17) (Nat.le_of_ble_eq_true rfl) (Nat.le_of_ble_eq_true rfl) (fun v9 h9 z9 y9 => ?_)
  obtain ⟨rfl, rfl⟩ := y9
  refine aw_st (st' := [va_rf q16.1]) rfl ?_
  cases hq
  exact aw_areturn dX3_key_18 rfl (Or.inl ⟨_, rfl⟩) (aIsR_rf _) ⟨rfl, rfl⟩
