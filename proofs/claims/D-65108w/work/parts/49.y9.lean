/-! THE COMPONENT AND THE JDK as functions of the heap, and their contracts: printed by wip gen/dec2.py -/
set_option maxRecDepth 100000
theorem fJ27_7 : ∀ q ∈ ([(11, 0), (12, 2)] : List (Nat × Nat)), aFl RJ27 7 q.1 q.2 := by
  intro q hq
  simp only [List.mem_cons, List.not_mem_nil, or_false] at hq
  rcases hq with rfl | rfl
  · exact aFl.of (RJ27, TJ27, 4) rfl (Nat.le_of_ble_eq_true rfl) q1563
  · exact aFl.of (RJ29, TJ29, 11) rfl (Nat.le_of_ble_eq_true rfl) q1563
theorem okJ27 : aCK (RJ27, TJ27, 4) tyJ27 := ⟨in_J27, tyJ27_ok, nmJ27⟩
theorem okJ29 : aCK (RJ29, TJ29, 11) tyJ29 := ⟨in_J29, tyJ29_ok, nmJ29⟩
theorem tJ27_0_J29_2f : ∀ q ∈ ([(11, 0), (12, 2)] : List (Nat × Nat)), aFt q.1 q.2 true .int := by
  intro q hq
  simp only [List.mem_cons, List.not_mem_nil, or_false] at hq
  rcases hq with rfl | rfl
  · exact ⟨(RJ27, TJ27, 4), tyJ27, Nat.le_of_ble_eq_true rfl, rfl, Nat.le_of_ble_eq_true rfl, okJ27, rfl, rfl⟩
  · exact ⟨(RJ29, TJ29, 11), tyJ29, Nat.le_of_ble_eq_true rfl, rfl, Nat.le_of_ble_eq_true rfl, okJ29, rfl, rfl⟩
theorem gJ27_7 : ∀ q ∈ ([(11, 0), (12, 2)] : List (Nat × Nat)), ∃ r0 : vw_C, aCl[q.1]? = some r0 ∧ (r0.2.1 q.2).1 = RJ27 ∧ Cond.fieldLink RJ27 7 (r0.2.1 q.2).1 (r0.2.1 q.2).2.1 (r0.2.1 q.2).2.2.1 ∈ lw_all := by
  intro q hq
  simp only [List.mem_cons, List.not_mem_nil, or_false] at hq
  rcases hq with rfl | rfl
  · exact ⟨(RJ27, TJ27, 4), rfl, rfl, q1563⟩
  · exact ⟨(RJ29, TJ29, 11), rfl, rfl, q1563⟩
theorem fJ27_13 : ∀ q ∈ ([(11, 1), (12, 3)] : List (Nat × Nat)), aFl RJ27 13 q.1 q.2 := by
  intro q hq
  simp only [List.mem_cons, List.not_mem_nil, or_false] at hq
  rcases hq with rfl | rfl
  · exact aFl.of (RJ27, TJ27, 4) rfl (Nat.le_of_ble_eq_true rfl) q1567
  · exact aFl.of (RJ29, TJ29, 11) rfl (Nat.le_of_ble_eq_true rfl) q1567
theorem tJ27_1_J29_3f : ∀ q ∈ ([(11, 1), (12, 3)] : List (Nat × Nat)), aFt q.1 q.2 true (.object "java/lang/Object") := by
  intro q hq
  simp only [List.mem_cons, List.not_mem_nil, or_false] at hq
  rcases hq with rfl | rfl
  · exact ⟨(RJ27, TJ27, 4), tyJ27, Nat.le_of_ble_eq_true rfl, rfl, Nat.le_of_ble_eq_true rfl, okJ27, rfl, rfl⟩
  · exact ⟨(RJ29, TJ29, 11), tyJ29, Nat.le_of_ble_eq_true rfl, rfl, Nat.le_of_ble_eq_true rfl, okJ29, rfl, rfl⟩
theorem gJ27_13 : ∀ q ∈ ([(11, 1), (12, 3)] : List (Nat × Nat)), ∃ r0 : vw_C, aCl[q.1]? = some r0 ∧ (r0.2.1 q.2).1 = RJ27 ∧ Cond.fieldLink RJ27 13 (r0.2.1 q.2).1 (r0.2.1 q.2).2.1 (r0.2.1 q.2).2.2.1 ∈ lw_all := by
  intro q hq
  simp only [List.mem_cons, List.not_mem_nil, or_false] at hq
  rcases hq with rfl | rfl
  · exact ⟨(RJ27, TJ27, 4), rfl, rfl, q1567⟩
  · exact ⟨(RJ29, TJ29, 11), rfl, rfl, q1567⟩
theorem fJ27_17 : ∀ q ∈ ([(11, 2), (12, 4)] : List (Nat × Nat)), aFl RJ27 17 q.1 q.2 := by
  intro q hq
  simp only [List.mem_cons, List.not_mem_nil, or_false] at hq
  rcases hq with rfl | rfl
  · exact aFl.of (RJ27, TJ27, 4) rfl (Nat.le_of_ble_eq_true rfl) q1571
  · exact aFl.of (RJ29, TJ29, 11) rfl (Nat.le_of_ble_eq_true rfl) q1571
theorem tJ27_2_J29_4 : ∀ q ∈ ([(11, 2), (12, 4)] : List (Nat × Nat)), aFt q.1 q.2 false (.object "java/lang/Object") := by
  intro q hq
  simp only [List.mem_cons, List.not_mem_nil, or_false] at hq
  rcases hq with rfl | rfl
  · exact ⟨(RJ27, TJ27, 4), tyJ27, Nat.le_of_ble_eq_true rfl, rfl, Nat.le_of_ble_eq_true rfl, okJ27, rfl, rfl⟩
  · exact ⟨(RJ29, TJ29, 11), tyJ29, Nat.le_of_ble_eq_true rfl, rfl, Nat.le_of_ble_eq_true rfl, okJ29, rfl, rfl⟩
theorem fJ27_20 : ∀ q ∈ ([(11, 3), (12, 5)] : List (Nat × Nat)), aFl RJ27 20 q.1 q.2 := by
  intro q hq
  simp only [List.mem_cons, List.not_mem_nil, or_false] at hq
  rcases hq with rfl | rfl
  · exact aFl.of (RJ27, TJ27, 4) rfl (Nat.le_of_ble_eq_true rfl) q1573
  · exact aFl.of (RJ29, TJ29, 11) rfl (Nat.le_of_ble_eq_true rfl) q1573
theorem tJ27_3_J29_5 : ∀ q ∈ ([(11, 3), (12, 5)] : List (Nat × Nat)), aFt q.1 q.2 false (.object "java/util/HashMap$Node") := by
  intro q hq
  simp only [List.mem_cons, List.not_mem_nil, or_false] at hq
  rcases hq with rfl | rfl
  · exact ⟨(RJ27, TJ27, 4), tyJ27, Nat.le_of_ble_eq_true rfl, rfl, Nat.le_of_ble_eq_true rfl, okJ27, rfl, rfl⟩
  · exact ⟨(RJ29, TJ29, 11), tyJ29, Nat.le_of_ble_eq_true rfl, rfl, Nat.le_of_ble_eq_true rfl, okJ29, rfl, rfl⟩
abbrev YJ27_init : YC := (yJ27_init, cJ27_init, 5, none, [])
theorem kJ27_init : aMk YJ27_init 4 := ⟨rfl, q1561, q154, ⟨by decide +kernel, by decide +kernel, by decide +kernel⟩, Nat.le_of_ble_eq_true rfl⟩
def x_J27_init (g : AG) (N : Nat) (h : AH) (x0 : Nat) (x1 : Int32) (r2 : Option Nat) (r3 : Option Nat) (r4 : Option Nat) : Option AH :=
  (wrV g h x0 [(11, 0), (12, 2)] (.int x1)).bind fun h1 => (wrV g h1 x0 [(11, 1), (12, 3)] (va_rf r2)).bind fun h3 => (wrV g h3 x0 [(11, 2), (12, 4)] (va_rf r3)).bind fun h5 => (wrV g h5 x0 [(11, 3), (12, 5)] (va_rf r4)).bind fun h7 => some h7
theorem ct_J27_init (g : AG) (hst : (gL g).stackTraces = false) (N : Nat) : ∀ (h : AH) (x0 : Nat) (x1 : Int32) (r2 : Option Nat) (r3 : Option Nat) (r4 : Option Nat) (q : AH), x_J27_init g N h x0 x1 r2 r3 r4 = some q → CT g YJ27_init 3 [.ref x0, .int x1, va_rf r2, va_rf r3, va_rf r4] h (xV q) := by
  intro h x0 x1 r2 r3 r4 q hq
  refine CT.of rfl (by decide +kernel) (loc := [some (.ref x0), some (.int x1), some (va_rf r2), some (va_rf r3), some (va_rf r4)]) (by first | exact Nat.le_of_ble_eq_true rfl | (simp only [lgl_rf, lgl_i, lgl_j, lgl_ref, lgl_nil]; exact Nat.le_of_ble_eq_true rfl)) (by first | rfl | (simp only [aent_rf, aent_i, aent_j, aent_ref, aent_nil]; rfl)) ?_
  unfold x_J27_init at hq
  refine aw_aload_n (i := 0) dJ27_init_0 rfl rfl trivial ?_
  refine aw_objInit q1562 qObjI qObjC (by omega) (Nat.le_of_ble_eq_true rfl) dJ27_init_1 ?_
  refine aw_aload_n (i := 0) dJ27_init_4 rfl rfl trivial ?_
  refine aw_iload_n (i := 1) dJ27_init_5 rfl rfl ?_
  replace hq := obind hq
  obtain ⟨h1, e2, hq⟩ := hq
  refine xw_putF e2 fJ27_7 tJ27_0_J29_2f rfl gJ27_7 ⟨rfl, rfl⟩ dJ27_init_6 ?_
  refine aw_aload_n (i := 0) dJ27_init_9 rfl rfl trivial ?_
  refine aw_aload_n (i := 2) dJ27_init_10 rfl rfl (aIsR_rf _) ?_
  replace hq := obind hq
  obtain ⟨h3, e4, hq⟩ := hq
  refine xw_putF e4 fJ27_13 tJ27_1_J29_3f rfl gJ27_13 (fits_rf _ r2) dJ27_init_11 ?_
  refine aw_aload_n (i := 0) dJ27_init_14 rfl rfl trivial ?_
  refine aw_aload_n (i := 3) dJ27_init_15 rfl rfl (aIsR_rf _) ?_
  replace hq := obind hq
  obtain ⟨h5, e6, hq⟩ := hq
  refine xw_put e6 fJ27_17 tJ27_2_J29_4 (fits_rf _ r3) dJ27_init_16 ?_
  refine aw_aload_n (i := 0) dJ27_init_19 rfl rfl trivial ?_
  refine aw_aload dJ27_init_20 rfl (aIsR_rf _) ?_
  replace hq := obind hq
  obtain ⟨h7, e8, hq⟩ := hq
  refine xw_put e8 fJ27_20 tJ27_3_J29_5 (fits_rf _ r4) dJ27_init_22 ?_
  cases hq
  exact aw_vret dJ27_init_25 rfl ⟨rfl, rfl⟩
theorem dfJ27 : ∀ j, j < 4 → defaultValue (tyJ27 j) = vp_V [.int 0, .null, .null, .null] j := by decide +kernel
abbrev YJ1_newNode : YC := (yJ1_newNode, cJ1_newNode, 5, (some (.object "java/util/HashMap$Node")), [])
theorem kJ1_newNode : aMk YJ1_newNode 4 := ⟨rfl, q1609, q120, ⟨by decide +kernel, by decide +kernel, by decide +kernel⟩, Nat.le_of_ble_eq_true rfl⟩
def x_J1_newNode (g : AG) (N : Nat) (h : AH) (x0 : Nat) (x1 : Int32) (r2 : Option Nat) (r3 : Option Nat) (r4 : Option Nat) : Option (Option Nat × AH) :=
  (mkO g h 4 11 [.int 0, .null, .null, .null]).bind fun h1 => (x_J27_init g N h1 h.2.1 x1 r2 r3 r4).bind fun q3 => some ((some h.2.1), q3)
theorem ct_J1_newNode (g : AG) (hst : (gL g).stackTraces = false) (N : Nat) : ∀ (h : AH) (x0 : Nat) (x1 : Int32) (r2 : Option Nat) (r3 : Option Nat) (r4 : Option Nat) (q : (Option Nat × AH)), x_J1_newNode g N h x0 x1 r2 r3 r4 = some q → CT g YJ1_newNode 4 [.ref x0, .int x1, va_rf r2, va_rf r3, va_rf r4] h (xR q) := by
  intro h x0 x1 r2 r3 r4 q hq
  refine CT.of rfl (by decide +kernel) (loc := [some (.ref x0), some (.int x1), some (va_rf r2), some (va_rf r3), some (va_rf r4)]) (by first | exact Nat.le_of_ble_eq_true rfl | (simp only [lgl_rf, lgl_i, lgl_j, lgl_ref, lgl_nil]; exact Nat.le_of_ble_eq_true rfl)) (by first | rfl | (simp only [aent_rf, aent_i, aent_j, aent_ref, aent_nil]; rfl)) ?_
  unfold x_J1_newNode at hq
  replace hq := obind hq
  obtain ⟨h1, e2, hq⟩ := hq
  refine xw_new (r := (RJ27, TJ27, 4)) e2 q1543 q1558 q154 (by decide) rfl okJ27 rfl dfJ27 dJ1_newNode_0 ?_
  refine aw_dup dJ1_newNode_3 rfl ?_
  refine aw_iload_n (i := 1) dJ1_newNode_4 rfl rfl ?_
  refine aw_aload_n (i := 2) dJ1_newNode_5 rfl rfl (aIsR_rf _) ?_
  refine aw_aload_n (i := 3) dJ1_newNode_6 rfl rfl (aIsR_rf _) ?_
  refine aw_aload dJ1_newNode_7 rfl (aIsR_rf _) ?_
  replace hq := obind hq
  obtain ⟨q3, e4, hq⟩ := hq
  refine aw_callI (Y2 := YJ27_init) (As := [.int x1, va_rf r2, va_rf r3, va_rf r4]) (rest := [.ref h.2.1]) (b := h.2.1) kJ27_init rfl rfl q1559 q1560 dJ1_newNode_9 rfl rfl (ct_J27_init g hst N h1 h.2.1 x1 r2 r3 r4 _ e4) (Nat.le_of_ble_eq_true rfl) (Nat.le_of_ble_eq_true rfl) (fun v9 h9 z9 y9 => ?_)
  obtain ⟨rfl, y9⟩ := y9
  rw [y9]
  refine aw_st (st' := [.ref h.2.1]) rfl ?_
  cases hq
  exact aw_areturn dJ1_newNode_12 rfl (Or.inl ⟨_, rfl⟩) trivial ⟨rfl, rfl⟩
abbrev YJ28_init : YC := (yJ28_init, cJ28_init, 5, none, [])
theorem kJ28_init : aMk YJ28_init 4 := ⟨rfl, q1624, q155, ⟨by decide +kernel, by decide +kernel, by decide +kernel⟩, Nat.le_of_ble_eq_true rfl⟩
def x_J28_init (g : AG) (N : Nat) (h : AH) (x0 : Nat) (x1 : Int32) (r2 : Option Nat) (r3 : Option Nat) (r4 : Option Nat) : Option AH :=
  (x_J27_init g N h x0 x1 r2 r3 r4).bind fun q1 => some q1
theorem ct_J28_init (g : AG) (hst : (gL g).stackTraces = false) (N : Nat) : ∀ (h : AH) (x0 : Nat) (x1 : Int32) (r2 : Option Nat) (r3 : Option Nat) (r4 : Option Nat) (q : AH), x_J28_init g N h x0 x1 r2 r3 r4 = some q → CT g YJ28_init 4 [.ref x0, .int x1, va_rf r2, va_rf r3, va_rf r4] h (xV q) := by
  intro h x0 x1 r2 r3 r4 q hq
  refine CT.of rfl (by decide +kernel) (loc := [some (.ref x0), some (.int x1), some (va_rf r2), some (va_rf r3), some (va_rf r4)]) (by first | exact Nat.le_of_ble_eq_true rfl | (simp only [lgl_rf, lgl_i, lgl_j, lgl_ref, lgl_nil]; exact Nat.le_of_ble_eq_true rfl)) (by first | rfl | (simp only [aent_rf, aent_i, aent_j, aent_ref, aent_nil]; rfl)) ?_
  unfold x_J28_init at hq
  refine aw_aload_n (i := 0) dJ28_init_0 rfl rfl trivial ?_
  refine aw_iload_n (i := 1) dJ28_init_1 rfl rfl ?_
  refine aw_aload_n (i := 2) dJ28_init_2 rfl rfl (aIsR_rf _) ?_
  refine aw_aload_n (i := 3) dJ28_init_3 rfl rfl (aIsR_rf _) ?_
  refine aw_aload dJ28_init_4 rfl (aIsR_rf _) ?_
  replace hq := obind hq
  obtain ⟨q1, e2, hq⟩ := hq
  refine aw_callI (Y2 := YJ27_init) (As := [.int x1, va_rf r2, va_rf r3, va_rf r4]) (rest := []) (b := x0) kJ27_init rfl rfl q1625 q1560 dJ28_init_6 rfl rfl (ct_J27_init g hst N h x0 x1 r2 r3 r4 _ e2) (Nat.le_of_ble_eq_true rfl) (Nat.le_of_ble_eq_true rfl) (fun v9 h9 z9 y9 => ?_)
  obtain ⟨rfl, y9⟩ := y9
  rw [y9]
  refine aw_st (st' := []) rfl ?_
  cases hq
  exact aw_vret dJ28_init_9 rfl ⟨rfl, rfl⟩
abbrev YJ29_init : YC := (yJ29_init, cJ29_init, 5, none, [])
theorem kJ29_init : aMk YJ29_init 4 := ⟨rfl, q1621, q156, ⟨by decide +kernel, by decide +kernel, by decide +kernel⟩, Nat.le_of_ble_eq_true rfl⟩
def x_J29_init (g : AG) (N : Nat) (h : AH) (x0 : Nat) (x1 : Int32) (r2 : Option Nat) (r3 : Option Nat) (r4 : Option Nat) : Option AH :=
  (x_J28_init g N h x0 x1 r2 r3 r4).bind fun q1 => some q1
theorem ct_J29_init (g : AG) (hst : (gL g).stackTraces = false) (N : Nat) : ∀ (h : AH) (x0 : Nat) (x1 : Int32) (r2 : Option Nat) (r3 : Option Nat) (r4 : Option Nat) (q : AH), x_J29_init g N h x0 x1 r2 r3 r4 = some q → CT g YJ29_init 5 [.ref x0, .int x1, va_rf r2, va_rf r3, va_rf r4] h (xV q) := by
  intro h x0 x1 r2 r3 r4 q hq
  refine CT.of rfl (by decide +kernel) (loc := [some (.ref x0), some (.int x1), some (va_rf r2), some (va_rf r3), some (va_rf r4)]) (by first | exact Nat.le_of_ble_eq_true rfl | (simp only [lgl_rf, lgl_i, lgl_j, lgl_ref, lgl_nil]; exact Nat.le_of_ble_eq_true rfl)) (by first | rfl | (simp only [aent_rf, aent_i, aent_j, aent_ref, aent_nil]; rfl)) ?_
  unfold x_J29_init at hq
  refine aw_aload_n (i := 0) dJ29_init_0 rfl rfl trivial ?_
  refine aw_iload_n (i := 1) dJ29_init_1 rfl rfl ?_
  refine aw_aload_n (i := 2) dJ29_init_2 rfl rfl (aIsR_rf _) ?_
  refine aw_aload_n (i := 3) dJ29_init_3 rfl rfl (aIsR_rf _) ?_
  refine aw_aload dJ29_init_4 rfl (aIsR_rf _) ?_
  replace hq := obind hq
  obtain ⟨q1, e2, hq⟩ := hq
  refine aw_callI (Y2 := YJ28_init) (As := [.int x1, va_rf r2, va_rf r3, va_rf r4]) (rest := []) (b := x0) kJ28_init rfl rfl q1622 q1623 dJ29_init_6 rfl rfl (ct_J28_init g hst N h x0 x1 r2 r3 r4 _ e2) (Nat.le_of_ble_eq_true rfl) (Nat.le_of_ble_eq_true rfl) (fun v9 h9 z9 y9 => ?_)
  obtain ⟨rfl, y9⟩ := y9
  rw [y9]
  refine aw_st (st' := []) rfl ?_
  cases hq
  exact aw_vret dJ29_init_9 rfl ⟨rfl, rfl⟩
theorem dfJ29 : ∀ j, j < 11 → defaultValue (tyJ29 j) = vp_V [.null, .null, .int 0, .null, .null, .null, .null, .null, .null, .null, .int 0] j := by decide +kernel
abbrev YJ1_newTreeNode : YC := (yJ1_newTreeNode, cJ1_newTreeNode, 5, (some (.object "java/util/HashMap$TreeNode")), [])
theorem kJ1_newTreeNode : aMk YJ1_newTreeNode 4 := ⟨rfl, q1617, q120, ⟨by decide +kernel, by decide +kernel, by decide +kernel⟩, Nat.le_of_ble_eq_true rfl⟩
def x_J1_newTreeNode (g : AG) (N : Nat) (h : AH) (x0 : Nat) (x1 : Int32) (r2 : Option Nat) (r3 : Option Nat) (r4 : Option Nat) : Option (Option Nat × AH) :=
  (mkO g h 11 12 [.null, .null, .int 0, .null, .null, .null, .null, .null, .null, .null, .int 0]).bind fun h1 => (x_J29_init g N h1 h.2.1 x1 r2 r3 r4).bind fun q3 => some ((some h.2.1), q3)
theorem ct_J1_newTreeNode (g : AG) (hst : (gL g).stackTraces = false) (N : Nat) : ∀ (h : AH) (x0 : Nat) (x1 : Int32) (r2 : Option Nat) (r3 : Option Nat) (r4 : Option Nat) (q : (Option Nat × AH)), x_J1_newTreeNode g N h x0 x1 r2 r3 r4 = some q → CT g YJ1_newTreeNode 6 [.ref x0, .int x1, va_rf r2, va_rf r3, va_rf r4] h (xR q) := by
  intro h x0 x1 r2 r3 r4 q hq
  refine CT.of rfl (by decide +kernel) (loc := [some (.ref x0), some (.int x1), some (va_rf r2), some (va_rf r3), some (va_rf r4)]) (by first | exact Nat.le_of_ble_eq_true rfl | (simp only [lgl_rf, lgl_i, lgl_j, lgl_ref, lgl_nil]; exact Nat.le_of_ble_eq_true rfl)) (by first | rfl | (simp only [aent_rf, aent_i, aent_j, aent_ref, aent_nil]; rfl)) ?_
  unfold x_J1_newTreeNode at hq
  replace hq := obind hq
  obtain ⟨h1, e2, hq⟩ := hq
  refine xw_new (r := (RJ29, TJ29, 11)) e2 q1261 q1618 q156 (by decide) rfl okJ29 rfl dfJ29 dJ1_newTreeNode_0 ?_
  refine aw_dup dJ1_newTreeNode_3 rfl ?_
  refine aw_iload_n (i := 1) dJ1_newTreeNode_4 rfl rfl ?_
  refine aw_aload_n (i := 2) dJ1_newTreeNode_5 rfl rfl (aIsR_rf _) ?_
  refine aw_aload_n (i := 3) dJ1_newTreeNode_6 rfl rfl (aIsR_rf _) ?_
  refine aw_aload dJ1_newTreeNode_7 rfl (aIsR_rf _) ?_
  replace hq := obind hq
  obtain ⟨q3, e4, hq⟩ := hq
  refine aw_callI (Y2 := YJ29_init) (As := [.int x1, va_rf r2, va_rf r3, va_rf r4]) (rest := [.ref h.2.1]) (b := h.2.1) kJ29_init rfl rfl q1619 q1620 dJ1_newTreeNode_9 rfl rfl (ct_J29_init g hst N h1 h.2.1 x1 r2 r3 r4 _ e4) (Nat.le_of_ble_eq_true rfl) (Nat.le_of_ble_eq_true rfl) (fun v9 h9 z9 y9 => ?_)
  obtain ⟨rfl, y9⟩ := y9
  rw [y9]
  refine aw_st (st' := [.ref h.2.1]) rfl ?_
  cases hq
  exact aw_areturn dJ1_newTreeNode_12 rfl (Or.inl ⟨_, rfl⟩) trivial ⟨rfl, rfl⟩
theorem fJ1_162 : ∀ q ∈ ([(11, 2), (12, 4)] : List (Nat × Nat)), aFl RJ1 162 q.1 q.2 := by
  intro q hq
  simp only [List.mem_cons, List.not_mem_nil, or_false] at hq
  rcases hq with rfl | rfl
  · exact aFl.of (RJ27, TJ27, 4) rfl (Nat.le_of_ble_eq_true rfl) q1572
  · exact aFl.of (RJ29, TJ29, 11) rfl (Nat.le_of_ble_eq_true rfl) q1572
abbrev YJ1_replacementNode : YC := (yJ1_replacementNode, cJ1_replacementNode, 3, (some (.object "java/util/HashMap$Node")), [])
theorem kJ1_replacementNode : aMk YJ1_replacementNode 2 := ⟨rfl, q1557, q120, ⟨by decide +kernel, by decide +kernel, by decide +kernel⟩, Nat.le_of_ble_eq_true rfl⟩
def x_J1_replacementNode (g : AG) (N : Nat) (h : AH) (x0 : Nat) (r1 : Option Nat) (r2 : Option Nat) : Option (Option Nat × AH) :=
  (mkO g h 4 11 [.int 0, .null, .null, .null]).bind fun h1 => (r1).bind fun a3 => (rdI h1 a3 [(11, 0), (12, 2)]).bind fun i5 => (rdR h1 a3 [(11, 1), (12, 3)]).bind fun o7 => (rdR h1 a3 [(11, 2), (12, 4)]).bind fun o9 => (x_J27_init g N h1 h.2.1 i5 o7 o9 r2).bind fun q11 => some ((some h.2.1), q11)
theorem ct_J1_replacementNode (g : AG) (hst : (gL g).stackTraces = false) (N : Nat) : ∀ (h : AH) (x0 : Nat) (r1 : Option Nat) (r2 : Option Nat) (q : (Option Nat × AH)), x_J1_replacementNode g N h x0 r1 r2 = some q → CT g YJ1_replacementNode 4 [.ref x0, va_rf r1, va_rf r2] h (xR q) := by
  intro h x0 r1 r2 q hq
  refine CT.of rfl (by decide +kernel) (loc := [some (.ref x0), some (va_rf r1), some (va_rf r2)]) (by first | exact Nat.le_of_ble_eq_true rfl | (simp only [lgl_rf, lgl_i, lgl_j, lgl_ref, lgl_nil]; exact Nat.le_of_ble_eq_true rfl)) (by first | rfl | (simp only [aent_rf, aent_i, aent_j, aent_ref, aent_nil]; rfl)) ?_
  unfold x_J1_replacementNode at hq
  replace hq := obind hq
  obtain ⟨h1, e2, hq⟩ := hq
  refine xw_new (r := (RJ27, TJ27, 4)) e2 q1543 q1558 q154 (by decide) rfl okJ27 rfl dfJ27 dJ1_replacementNode_0 ?_
  refine aw_dup dJ1_replacementNode_3 rfl ?_
  refine aw_aload_n (i := 1) dJ1_replacementNode_4 rfl rfl (aIsR_rf _) ?_
  replace hq := obind hq
  obtain ⟨a3, e4, hq⟩ := hq
  subst e4
  replace hq := obind hq
  obtain ⟨i5, e6, hq⟩ := hq
  refine xw_getI e6 fJ1_168 dJ1_replacementNode_5 ?_
  refine aw_aload_n (i := 1) dJ1_replacementNode_8 rfl rfl trivial ?_
  replace hq := obind hq
  obtain ⟨o7, e8, hq⟩ := hq
  refine xw_getR e8 fJ1_170 dJ1_replacementNode_9 ?_
  refine aw_aload_n (i := 1) dJ1_replacementNode_12 rfl rfl trivial ?_
  replace hq := obind hq
  obtain ⟨o9, e10, hq⟩ := hq
  refine xw_getR e10 fJ1_162 dJ1_replacementNode_13 ?_
  refine aw_aload_n (i := 2) dJ1_replacementNode_16 rfl rfl (aIsR_rf _) ?_
  replace hq := obind hq
  obtain ⟨q11, e12, hq⟩ := hq
  refine aw_callI (Y2 := YJ27_init) (As := [.int i5, va_rf o7, va_rf o9, va_rf r2]) (rest := [.ref h.2.1]) (b := h.2.1) kJ27_init rfl rfl q1559 q1560 dJ1_replacementNode_17 rfl rfl (ct_J27_init g hst N h1 h.2.1 i5 o7 o9 r2 _ e12) (Nat.le_of_ble_eq_true rfl) (Nat.le_of_ble_eq_true rfl) (fun v9 h9 z9 y9 => ?_)
  obtain ⟨rfl, y9⟩ := y9
  rw [y9]
  refine aw_st (st' := [.ref h.2.1]) rfl ?_
  cases hq
  exact aw_areturn dJ1_replacementNode_20 rfl (Or.inl ⟨_, rfl⟩) trivial ⟨rfl, rfl⟩
theorem fJ29_112 : ∀ q ∈ ([(11, 3), (12, 5)] : List (Nat × Nat)), aFl RJ29 112 q.1 q.2 := by
  intro q hq
  simp only [List.mem_cons, List.not_mem_nil, or_false] at hq
  rcases hq with rfl | rfl
  · exact aFl.of (RJ27, TJ27, 4) rfl (Nat.le_of_ble_eq_true rfl) q1576
  · exact aFl.of (RJ29, TJ29, 11) rfl (Nat.le_of_ble_eq_true rfl) q1576
abbrev YJ29_untreeify : YC := (yJ29_untreeify, cJ29_untreeify, 6, (some (.object "java/util/HashMap$Node")), [])
theorem kJ29_untreeify : aMk YJ29_untreeify 1 := ⟨rfl, q1553, q156, ⟨by decide +kernel, by decide +kernel, by decide +kernel⟩, Nat.le_of_ble_eq_true rfl⟩
def x_J29_untreeify_37 (g : AG) (N : Nat) (K7 : AH → Nat → Option Nat → Option Nat → Option Nat → Option Nat → Option (Option Nat × AH)) (h : AH) (x0 : Nat) (r1 : Option Nat) (r2 : Option Nat) (r3 : Option Nat) (r4 : Option Nat) (r5 : Option Nat) : Option (Option Nat × AH) :=
  (r4).bind fun a8 => (rdR h a8 [(11, 3), (12, 5)]).bind fun o10 => K7 h x0 r1 r2 r5 o10
theorem p_x_J29_untreeify_37 (g : AG) (hst : (gL g).stackTraces = false) (N : Nat) (K7 : AH → Nat → Option Nat → Option Nat → Option Nat → Option Nat → Option (Option Nat × AH)) (hK7 : ∀ (h : AH) (x0 : Nat) (r1 : Option Nat) (r2 : Option Nat) (r3 : Option Nat) (r4 : Option Nat) (q : (Option Nat × AH)), K7 h x0 r1 r2 r3 r4 = some q → AW g YJ29_untreeify 5 (xR q) h [some (.ref x0), some (va_rf r1), some (va_rf r2), some (va_rf r3), some (va_rf r4), none] 7 []) : ∀ (h : AH) (x0 : Nat) (r1 : Option Nat) (r2 : Option Nat) (r3 : Option Nat) (r4 : Option Nat) (r5 : Option Nat) (q : (Option Nat × AH)), x_J29_untreeify_37 g N K7 h x0 r1 r2 r3 r4 r5 = some q → AW g YJ29_untreeify 5 (xR q) h [some (.ref x0), some (va_rf r1), some (va_rf r2), some (va_rf r3), some (va_rf r4), some (va_rf r5)] 37 [] := by
  intro h x0 r1 r2 r3 r4 r5 q hq
  unfold x_J29_untreeify_37 at hq
  refine aw_aload dJ29_untreeify_37 rfl (aIsR_rf _) ?_
  refine aw_astore_n (i := 3) (loc' := [some (.ref x0), some (va_rf r1), some (va_rf r2), some (va_rf r5), some (va_rf r4), some (va_rf r5)]) dJ29_untreeify_39 rfl (Nat.le_of_ble_eq_true rfl) (aIsR_rf _) (aset1_rf rfl) ?_
  refine aw_aload dJ29_untreeify_40 rfl (aIsR_rf _) ?_
  replace hq := obind hq
  obtain ⟨a8, e9, hq⟩ := hq
  subst e9
  replace hq := obind hq
  obtain ⟨o10, e11, hq⟩ := hq
  refine xw_getR e11 fJ29_112 dJ29_untreeify_42 ?_
  refine aw_astore (loc' := [some (.ref x0), some (va_rf r1), some (va_rf r2), some (va_rf r5), some (va_rf o10), some (va_rf r5)]) dJ29_untreeify_45 (Nat.le_of_ble_eq_true rfl) (aIsR_rf _) (aset1_rf rfl) ?_
  refine aw_goto (tgt := 7) dJ29_untreeify_47 (by decide) ?_
  refine aw_subl (loc' := [some (.ref x0), some (va_rf r1), some (va_rf r2), some (va_rf r5), some (va_rf o10), none]) ⟨Or.inr rfl, Or.inr rfl, Or.inr rfl, Or.inr rfl, Or.inr rfl, Or.inl rfl, trivial⟩ ?_
  exact hK7 h x0 r1 r2 r5 o10 _ hq
def x_J29_untreeify_7 (g : AG) (N : Nat) : Nat → AH → Nat → Option Nat → Option Nat → Option Nat → Option Nat → Option (Option Nat × AH)
  | 0, _, _, _, _, _, _ => none
  | n9 + 1, h, x0, r1, r2, r3, r4 =>
  ocase r4 (some (r2, h)) (fun a1 => (r1).bind fun a2 => bif clB h a2 [10] then ((x_J1_replacementNode g N h a2 (some a1) (none)).bind fun q5 => ocase r3 (x_J29_untreeify_37 g N (fun h x0 r1 r2 r3 r4 => x_J29_untreeify_7 g N n9 h x0 r1 r2 r3 r4) q5.2 x0 (some a2) q5.1 (none) (some a1) q5.1) (fun a7 => (wrV g q5.2 a7 [(11, 3), (12, 5)] (va_rf q5.1)).bind fun h12 => x_J29_untreeify_37 g N (fun h x0 r1 r2 r3 r4 => x_J29_untreeify_7 g N n9 h x0 r1 r2 r3 r4) h12 x0 (some a2) r2 (some a7) (some a1) q5.1)) else none)
theorem p_x_J29_untreeify_7 (g : AG) (hst : (gL g).stackTraces = false) (N : Nat) : ∀ (n9 : Nat) (h : AH) (x0 : Nat) (r1 : Option Nat) (r2 : Option Nat) (r3 : Option Nat) (r4 : Option Nat) (q : (Option Nat × AH)), x_J29_untreeify_7 g N n9 h x0 r1 r2 r3 r4 = some q → AW g YJ29_untreeify 5 (xR q) h [some (.ref x0), some (va_rf r1), some (va_rf r2), some (va_rf r3), some (va_rf r4), none] 7 [] := by
  intro n9
  induction n9 with
  | zero =>
    intro h x0 r1 r2 r3 r4 q hq
    cases hq
  | succ n9 ih =>
    intro h x0 r1 r2 r3 r4 q hq
    rw [x_J29_untreeify_7] at hq
    refine aw_aload dJ29_untreeify_7 rfl (aIsR_rf _) ?_
    rcases r4 with _ | a1
    · replace hq := ocase_n hq
      refine xw_ifnullN (tgt := 50) dJ29_untreeify_9 (by decide) ?_
      refine aw_aload_n (i := 2) dJ29_untreeify_50 rfl rfl (aIsR_rf _) ?_
      cases hq
      exact aw_areturn dJ29_untreeify_51 rfl (Or.inl ⟨_, rfl⟩) (aIsR_rf _) ⟨rfl, rfl⟩
    · replace hq := ocase_s hq
      refine xw_ifnullS (tgt := 50) dJ29_untreeify_9 (by decide) ?_
      refine aw_aload_n (i := 1) dJ29_untreeify_12 rfl rfl (aIsR_rf _) ?_
      refine aw_aload dJ29_untreeify_13 rfl trivial ?_
      refine aw_null dJ29_untreeify_15 ?_
      replace hq := obind hq
      obtain ⟨a2, e3, hq⟩ := hq
      subst e3
      replace hq := cond_t hq
      obtain ⟨z4, hq⟩ := hq
      obtain ⟨fs9, ha9⟩ := clB1 z4
      replace hq := obind hq
      obtain ⟨q5, e6, hq⟩ := hq
      refine aw_callV (Y2 := YJ1_replacementNode) (As := [.ref a1, .null]) (rest := []) (r := (RJ1, TJ1, 8)) kJ1_replacementNode ha9 rfl rfl q1554 q1555 q1556 dJ29_untreeify_16 rfl rfl (ct_J1_replacementNode g hst N h a2 (some a1) (none) _ e6) (Nat.le_of_ble_eq_true rfl) (Nat.le_of_ble_eq_true rfl) (fun v9 h9 z9 y9 => ?_)
      obtain ⟨rfl, rfl⟩ := y9
      refine aw_st (st' := [va_rf q5.1]) rfl ?_
      refine aw_astore (loc' := [some (.ref x0), some (.ref a2), some (va_rf r2), some (va_rf r3), some (.ref a1), some (va_rf q5.1)]) dJ29_untreeify_19 (Nat.le_of_ble_eq_true rfl) (aIsR_rf _) rfl ?_
      refine aw_aload_n (i := 3) dJ29_untreeify_21 rfl rfl (aIsR_rf _) ?_
      rcases r3 with _ | a7
      · replace hq := ocase_n hq
        refine xw_ifnonN (tgt := 31) dJ29_untreeify_22 (by decide) ?_
        refine aw_aload dJ29_untreeify_25 rfl (aIsR_rf _) ?_
        refine aw_astore_n (i := 2) (loc' := [some (.ref x0), some (.ref a2), some (va_rf q5.1), some (.null), some (.ref a1), some (va_rf q5.1)]) dJ29_untreeify_27 rfl (Nat.le_of_ble_eq_true rfl) (aIsR_rf _) rfl ?_
        refine aw_goto (tgt := 37) dJ29_untreeify_28 (by decide) ?_
        exact p_x_J29_untreeify_37 g hst N _ ih q5.2 x0 (some a2) q5.1 (none) (some a1) q5.1 _ hq
      · replace hq := ocase_s hq
        refine xw_ifnonS (tgt := 31) dJ29_untreeify_22 (by decide) ?_
        refine aw_aload_n (i := 3) dJ29_untreeify_31 rfl rfl trivial ?_
        refine aw_aload dJ29_untreeify_32 rfl (aIsR_rf _) ?_
        replace hq := obind hq
        obtain ⟨h12, e13, hq⟩ := hq
        refine xw_put e13 fJ29_112 tJ27_3_J29_5 (fits_rf _ q5.1) dJ29_untreeify_34 ?_
        exact p_x_J29_untreeify_37 g hst N _ ih h12 x0 (some a2) r2 (some a7) (some a1) q5.1 _ hq
def x_J29_untreeify (g : AG) (N : Nat) (h : AH) (x0 : Nat) (r1 : Option Nat) : Option (Option Nat × AH) :=
  x_J29_untreeify_7 g N  N h x0 r1 (none) (none) (some x0)
theorem ct_J29_untreeify (g : AG) (hst : (gL g).stackTraces = false) (N : Nat) : ∀ (h : AH) (x0 : Nat) (r1 : Option Nat) (q : (Option Nat × AH)), x_J29_untreeify g N h x0 r1 = some q → CT g YJ29_untreeify 5 [.ref x0, va_rf r1] h (xR q) := by
  intro h x0 r1 q hq
  refine CT.of rfl (by decide +kernel) (loc := [some (.ref x0), some (va_rf r1), none, none, none, none]) (by first | exact Nat.le_of_ble_eq_true rfl | (simp only [lgl_rf, lgl_i, lgl_j, lgl_ref, lgl_nil]; exact Nat.le_of_ble_eq_true rfl)) (by first | rfl | (simp only [aent_rf, aent_i, aent_j, aent_ref, aent_nil]; rfl)) ?_
  unfold x_J29_untreeify at hq
  refine aw_null dJ29_untreeify_0 ?_
  refine aw_astore_n (i := 2) (loc' := [some (.ref x0), some (va_rf r1), some (.null), none, none, none]) dJ29_untreeify_1 rfl (Nat.le_of_ble_eq_true rfl) trivial (aset1_rf rfl) ?_
  refine aw_null dJ29_untreeify_2 ?_
  refine aw_astore_n (i := 3) (loc' := [some (.ref x0), some (va_rf r1), some (.null), some (.null), none, none]) dJ29_untreeify_3 rfl (Nat.le_of_ble_eq_true rfl) trivial rfl ?_
  refine aw_aload_n (i := 0) dJ29_untreeify_4 rfl rfl trivial ?_
  refine aw_astore (loc' := [some (.ref x0), some (va_rf r1), some (.null), some (.null), some (.ref x0), none]) dJ29_untreeify_5 (Nat.le_of_ble_eq_true rfl) trivial rfl ?_
  exact p_x_J29_untreeify_7 g hst N   N h x0 r1 (none) (none) (some x0) _ hq
theorem tJ29_8 : ∀ q ∈ ([(12, 8)] : List (Nat × Nat)), aFt q.1 q.2 false (.object "java/util/HashMap$TreeNode") := by
  intro q hq
  simp only [List.mem_cons, List.not_mem_nil, or_false] at hq
  subst hq
  exact ⟨(RJ29, TJ29, 11), tyJ29, Nat.le_of_ble_eq_true rfl, rfl, Nat.le_of_ble_eq_true rfl, okJ29, rfl, rfl⟩
theorem tJ29_6 : ∀ q ∈ ([(12, 6)] : List (Nat × Nat)), aFt q.1 q.2 false (.object "java/util/HashMap$TreeNode") := by
  intro q hq
  simp only [List.mem_cons, List.not_mem_nil, or_false] at hq
  subst hq
  exact ⟨(RJ29, TJ29, 11), tyJ29, Nat.le_of_ble_eq_true rfl, rfl, Nat.le_of_ble_eq_true rfl, okJ29, rfl, rfl⟩
theorem fJ29_93 : ∀ q ∈ ([(12, 10)] : List (Nat × Nat)), aFl RJ29 93 q.1 q.2 := by
  intro q hq
  simp only [List.mem_cons, List.not_mem_nil, or_false] at hq
  subst hq
  exact aFl.of (RJ29, TJ29, 11) rfl (Nat.le_of_ble_eq_true rfl) q1631
theorem tJ29_10 : ∀ q ∈ ([(12, 10)] : List (Nat × Nat)), aFt q.1 q.2 false .boolean := by
  intro q hq
  simp only [List.mem_cons, List.not_mem_nil, or_false] at hq
  subst hq
  exact ⟨(RJ29, TJ29, 11), tyJ29, Nat.le_of_ble_eq_true rfl, rfl, Nat.le_of_ble_eq_true rfl, okJ29, rfl, rfl⟩
theorem tJ29_7 : ∀ q ∈ ([(12, 7)] : List (Nat × Nat)), aFt q.1 q.2 false (.object "java/util/HashMap$TreeNode") := by
  intro q hq
  simp only [List.mem_cons, List.not_mem_nil, or_false] at hq
  subst hq
  exact ⟨(RJ29, TJ29, 11), tyJ29, Nat.le_of_ble_eq_true rfl, rfl, Nat.le_of_ble_eq_true rfl, okJ29, rfl, rfl⟩
abbrev YJ29_rotateLeft : YC := (yJ29_rotateLeft, cJ29_rotateLeft, 5, (some (.object "java/util/HashMap$TreeNode")), [])
theorem kJ29_rotateLeft : aMk YJ29_rotateLeft 2 := ⟨rfl, q1597, q156, ⟨by decide +kernel, by decide +kernel, by decide +kernel⟩, Nat.le_of_ble_eq_true rfl⟩
def x_J29_rotateLeft_79 (g : AG) (N : Nat) (h : AH) (r0 : Option Nat) (r1 : Option Nat) (r2 : Option Nat) (r3 : Option Nat) (r4 : Option Nat) : Option (Option Nat × AH) :=
  (r2).bind fun a21 => (wrV g h a21 [(12, 7)] (va_rf r1)).bind fun h23 => (r1).bind fun a25 => (wrV g h23 a25 [(12, 6)] (.ref a21)).bind fun h27 => some (r0, h27)
theorem p_x_J29_rotateLeft_79 (g : AG) (hst : (gL g).stackTraces = false) (N : Nat) : ∀ (h : AH) (r0 : Option Nat) (r1 : Option Nat) (r2 : Option Nat) (r3 : Option Nat) (r4 : Option Nat) (q : (Option Nat × AH)), x_J29_rotateLeft_79 g N h r0 r1 r2 r3 r4 = some q → AW g YJ29_rotateLeft 1 (xR q) h [some (va_rf r0), some (va_rf r1), some (va_rf r2), some (va_rf r3), some (va_rf r4)] 79 [] := by
  intro h r0 r1 r2 r3 r4 q hq
  unfold x_J29_rotateLeft_79 at hq
  refine aw_aload_n (i := 2) dJ29_rotateLeft_79 rfl rfl (aIsR_rf _) ?_
  refine aw_aload_n (i := 1) dJ29_rotateLeft_80 rfl rfl (aIsR_rf _) ?_
  replace hq := obind hq
  obtain ⟨a21, e22, hq⟩ := hq
  subst e22
  replace hq := obind hq
  obtain ⟨h23, e24, hq⟩ := hq
  refine xw_put e24 fJ29_39 tJ29_7 (fits_rf _ r1) dJ29_rotateLeft_81 ?_
  refine aw_aload_n (i := 1) dJ29_rotateLeft_84 rfl rfl (aIsR_rf _) ?_
  refine aw_aload_n (i := 2) dJ29_rotateLeft_85 rfl rfl trivial ?_
  replace hq := obind hq
  obtain ⟨a25, e26, hq⟩ := hq
  subst e26
  replace hq := obind hq
  obtain ⟨h27, e28, hq⟩ := hq
  refine xw_put e28 fJ29_9 tJ29_6 (fits_rf _ (some a21)) dJ29_rotateLeft_86 ?_
  refine aw_aload_n (i := 0) dJ29_rotateLeft_89 rfl rfl (aIsR_rf _) ?_
  cases hq
  exact aw_areturn dJ29_rotateLeft_90 rfl (Or.inl ⟨_, rfl⟩) (aIsR_rf _) ⟨rfl, rfl⟩
def x_J29_rotateLeft_34 (g : AG) (N : Nat) (h : AH) (r0 : Option Nat) (r1 : Option Nat) (r2 : Option Nat) (r4 : Option Nat) : Option (Option Nat × AH) :=
  (r1).bind fun a10 => (rdR h a10 [(12, 6)]).bind fun o12 => (r2).bind fun a14 => (wrV g h a14 [(12, 6)] (va_rf o12)).bind fun h16 => ocase o12 ((wrV g h16 a14 [(12, 10)] (.int (0 : Int32))).bind fun h19 => x_J29_rotateLeft_79 g N  h19 (some a14) (some a10) (some a14) (none) r4) (fun a18 => (rdR h16 a18 [(12, 7)]).bind fun o29 => if o29 = (some a10) then ((wrV g h16 a18 [(12, 7)] (.ref a14)).bind fun h34 => x_J29_rotateLeft_79 g N  h34 r0 (some a10) (some a14) (some a18) r4) else ((wrV g h16 a18 [(12, 8)] (.ref a14)).bind fun h32 => x_J29_rotateLeft_79 g N  h32 r0 (some a10) (some a14) (some a18) r4))
theorem p_x_J29_rotateLeft_34 (g : AG) (hst : (gL g).stackTraces = false) (N : Nat) : ∀ (h : AH) (r0 : Option Nat) (r1 : Option Nat) (r2 : Option Nat) (r4 : Option Nat) (q : (Option Nat × AH)), x_J29_rotateLeft_34 g N h r0 r1 r2 r4 = some q → AW g YJ29_rotateLeft 1 (xR q) h [some (va_rf r0), some (va_rf r1), some (va_rf r2), none, some (va_rf r4)] 34 [] := by
  intro h r0 r1 r2 r4 q hq
  unfold x_J29_rotateLeft_34 at hq
  refine aw_aload_n (i := 2) dJ29_rotateLeft_34 rfl rfl (aIsR_rf _) ?_
  refine aw_aload_n (i := 1) dJ29_rotateLeft_35 rfl rfl (aIsR_rf _) ?_
  replace hq := obind hq
  obtain ⟨a10, e11, hq⟩ := hq
  subst e11
  replace hq := obind hq
  obtain ⟨o12, e13, hq⟩ := hq
  refine xw_getR e13 fJ29_9 dJ29_rotateLeft_36 ?_
  refine aw_dup_x1 dJ29_rotateLeft_39 (cat_rf _) (cat_rf _) ?_
  replace hq := obind hq
  obtain ⟨a14, e15, hq⟩ := hq
  subst e15
  replace hq := obind hq
  obtain ⟨h16, e17, hq⟩ := hq
  refine xw_put e17 fJ29_9 tJ29_6 (fits_rf _ o12) dJ29_rotateLeft_40 ?_
  refine aw_dup dJ29_rotateLeft_43 (cat_rf _) ?_
  refine aw_astore_n (i := 3) (loc' := [some (va_rf r0), some (.ref a10), some (.ref a14), some (va_rf o12), some (va_rf r4)]) dJ29_rotateLeft_44 rfl (Nat.le_of_ble_eq_true rfl) (aIsR_rf _) rfl ?_
  rcases o12 with _ | a18
  · replace hq := ocase_n hq
    refine xw_ifnonN (tgt := 58) dJ29_rotateLeft_45 (by decide) ?_
    refine aw_aload_n (i := 2) dJ29_rotateLeft_48 rfl rfl trivial ?_
    refine aw_dup dJ29_rotateLeft_49 rfl ?_
    refine aw_astore_n (i := 0) (loc' := [some (.ref a14), some (.ref a10), some (.ref a14), some (.null), some (va_rf r4)]) dJ29_rotateLeft_50 rfl (Nat.le_of_ble_eq_true rfl) trivial rfl ?_
    refine aw_iconst (v := 0) dJ29_rotateLeft_51 (by decide) ?_
    replace hq := obind hq
    obtain ⟨h19, e20, hq⟩ := hq
    refine xw_put e20 fJ29_93 tJ29_10 (isb_ok (by decide)) dJ29_rotateLeft_52 ?_
    refine aw_goto (tgt := 79) dJ29_rotateLeft_55 (by decide) ?_
    exact p_x_J29_rotateLeft_79 g hst N   h19 (some a14) (some a10) (some a14) (none) r4 _ hq
  · replace hq := ocase_s hq
    refine xw_ifnonS (tgt := 58) dJ29_rotateLeft_45 (by decide) ?_
    refine aw_aload_n (i := 3) dJ29_rotateLeft_58 rfl rfl trivial ?_
    replace hq := obind hq
    obtain ⟨o29, e30, hq⟩ := hq
    refine xw_getR e30 fJ29_39 dJ29_rotateLeft_59 ?_
    refine aw_aload_n (i := 1) dJ29_rotateLeft_62 rfl rfl trivial ?_
    refine xw_acmp_ne (v := o29) (w := (some a10)) (tgt := 74) dJ29_rotateLeft_63 (by decide) (fun c31 => ?_) (fun c31 => ?_)
    · rw [if_neg c31] at hq
      refine aw_aload_n (i := 3) dJ29_rotateLeft_74 rfl rfl trivial ?_
      refine aw_aload_n (i := 2) dJ29_rotateLeft_75 rfl rfl trivial ?_
      replace hq := obind hq
      obtain ⟨h32, e33, hq⟩ := hq
      refine xw_put e33 fJ29_42 tJ29_8 (fits_rf _ (some a14)) dJ29_rotateLeft_76 ?_
      exact p_x_J29_rotateLeft_79 g hst N   h32 r0 (some a10) (some a14) (some a18) r4 _ hq
    · rw [if_pos c31] at hq
      refine aw_aload_n (i := 3) dJ29_rotateLeft_66 rfl rfl trivial ?_
      refine aw_aload_n (i := 2) dJ29_rotateLeft_67 rfl rfl trivial ?_
      replace hq := obind hq
      obtain ⟨h34, e35, hq⟩ := hq
      refine xw_put e35 fJ29_39 tJ29_7 (fits_rf _ (some a14)) dJ29_rotateLeft_68 ?_
      refine aw_goto (tgt := 79) dJ29_rotateLeft_71 (by decide) ?_
      exact p_x_J29_rotateLeft_79 g hst N   h34 r0 (some a10) (some a14) (some a18) r4 _ hq
def x_J29_rotateLeft (g : AG) (N : Nat) (h : AH) (r0 : Option Nat) (r1 : Option Nat) : Option (Option Nat × AH) :=
  ocase r1 (some (r0, h)) (fun a1 => (rdR h a1 [(12, 8)]).bind fun o2 => ocase o2 (some (r0, h)) (fun a4 => (rdR h a4 [(12, 7)]).bind fun o5 => (wrV g h a1 [(12, 8)] (va_rf o5)).bind fun h7 => ocase o5 (x_J29_rotateLeft_34 g N  h7 r0 (some a1) (some a4) (none)) (fun a9 => (wrV g h7 a9 [(12, 6)] (.ref a1)).bind fun h36 => x_J29_rotateLeft_34 g N  h36 r0 (some a1) (some a4) (some a9))))
theorem ct_J29_rotateLeft (g : AG) (hst : (gL g).stackTraces = false) (N : Nat) : ∀ (h : AH) (r0 : Option Nat) (r1 : Option Nat) (q : (Option Nat × AH)), x_J29_rotateLeft g N h r0 r1 = some q → CT g YJ29_rotateLeft 1 [va_rf r0, va_rf r1] h (xR q) := by
  intro h r0 r1 q hq
  refine CT.of rfl (by decide +kernel) (loc := [some (va_rf r0), some (va_rf r1), none, none, none]) (by first | exact Nat.le_of_ble_eq_true rfl | (simp only [lgl_rf, lgl_i, lgl_j, lgl_ref, lgl_nil]; exact Nat.le_of_ble_eq_true rfl)) (by first | rfl | (simp only [aent_rf, aent_i, aent_j, aent_ref, aent_nil]; rfl)) ?_
  unfold x_J29_rotateLeft at hq
  refine aw_aload_n (i := 1) dJ29_rotateLeft_0 rfl rfl (aIsR_rf _) ?_
  rcases r1 with _ | a1
  · replace hq := ocase_n hq
    refine xw_ifnullN (tgt := 89) dJ29_rotateLeft_1 (by decide) ?_
    refine aw_aload_n (i := 0) dJ29_rotateLeft_89 rfl rfl (aIsR_rf _) ?_
    cases hq
    exact aw_areturn dJ29_rotateLeft_90 rfl (Or.inl ⟨_, rfl⟩) (aIsR_rf _) ⟨rfl, rfl⟩
  · replace hq := ocase_s hq
    refine xw_ifnullS (tgt := 89) dJ29_rotateLeft_1 (by decide) ?_
    refine aw_aload_n (i := 1) dJ29_rotateLeft_4 rfl rfl trivial ?_
    replace hq := obind hq
    obtain ⟨o2, e3, hq⟩ := hq
    refine xw_getR e3 fJ29_42 dJ29_rotateLeft_5 ?_
    refine aw_dup dJ29_rotateLeft_8 (cat_rf _) ?_
    refine aw_astore_n (i := 2) (loc' := [some (va_rf r0), some (.ref a1), some (va_rf o2), none, none]) dJ29_rotateLeft_9 rfl (Nat.le_of_ble_eq_true rfl) (aIsR_rf _) rfl ?_
    rcases o2 with _ | a4
    · replace hq := ocase_n hq
      refine xw_ifnullN (tgt := 89) dJ29_rotateLeft_10 (by decide) ?_
      refine aw_aload_n (i := 0) dJ29_rotateLeft_89 rfl rfl (aIsR_rf _) ?_
      cases hq
      exact aw_areturn dJ29_rotateLeft_90 rfl (Or.inl ⟨_, rfl⟩) (aIsR_rf _) ⟨rfl, rfl⟩
    · replace hq := ocase_s hq
      refine xw_ifnullS (tgt := 89) dJ29_rotateLeft_10 (by decide) ?_
      refine aw_aload_n (i := 1) dJ29_rotateLeft_13 rfl rfl trivial ?_
      refine aw_aload_n (i := 2) dJ29_rotateLeft_14 rfl rfl trivial ?_
      replace hq := obind hq
      obtain ⟨o5, e6, hq⟩ := hq
      refine xw_getR e6 fJ29_39 dJ29_rotateLeft_15 ?_
      refine aw_dup_x1 dJ29_rotateLeft_18 (cat_rf _) rfl ?_
      replace hq := obind hq
      obtain ⟨h7, e8, hq⟩ := hq
      refine xw_put e8 fJ29_42 tJ29_8 (fits_rf _ o5) dJ29_rotateLeft_19 ?_
      refine aw_dup dJ29_rotateLeft_22 (cat_rf _) ?_
      refine aw_astore (loc' := [some (va_rf r0), some (.ref a1), some (.ref a4), none, some (va_rf o5)]) dJ29_rotateLeft_23 (Nat.le_of_ble_eq_true rfl) (aIsR_rf _) rfl ?_
      rcases o5 with _ | a9
      · replace hq := ocase_n hq
        refine xw_ifnullN (tgt := 34) dJ29_rotateLeft_25 (by decide) ?_
        exact p_x_J29_rotateLeft_34 g hst N   h7 r0 (some a1) (some a4) (none) _ hq
      · replace hq := ocase_s hq
        refine xw_ifnullS (tgt := 34) dJ29_rotateLeft_25 (by decide) ?_
        refine aw_aload dJ29_rotateLeft_28 rfl trivial ?_
        refine aw_aload_n (i := 1) dJ29_rotateLeft_30 rfl rfl trivial ?_
        replace hq := obind hq
        obtain ⟨h36, e37, hq⟩ := hq
        refine xw_put e37 fJ29_9 tJ29_6 (fits_rf _ (some a1)) dJ29_rotateLeft_31 ?_
        exact p_x_J29_rotateLeft_34 g hst N   h36 r0 (some a1) (some a4) (some a9) _ hq
abbrev YJ29_rotateRight : YC := (yJ29_rotateRight, cJ29_rotateRight, 5, (some (.object "java/util/HashMap$TreeNode")), [])
theorem kJ29_rotateRight : aMk YJ29_rotateRight 2 := ⟨rfl, q1600, q156, ⟨by decide +kernel, by decide +kernel, by decide +kernel⟩, Nat.le_of_ble_eq_true rfl⟩
def x_J29_rotateRight_79 (g : AG) (N : Nat) (h : AH) (r0 : Option Nat) (r1 : Option Nat) (r2 : Option Nat) (r3 : Option Nat) (r4 : Option Nat) : Option (Option Nat × AH) :=
  (r2).bind fun a21 => (wrV g h a21 [(12, 8)] (va_rf r1)).bind fun h23 => (r1).bind fun a25 => (wrV g h23 a25 [(12, 6)] (.ref a21)).bind fun h27 => some (r0, h27)
theorem p_x_J29_rotateRight_79 (g : AG) (hst : (gL g).stackTraces = false) (N : Nat) : ∀ (h : AH) (r0 : Option Nat) (r1 : Option Nat) (r2 : Option Nat) (r3 : Option Nat) (r4 : Option Nat) (q : (Option Nat × AH)), x_J29_rotateRight_79 g N h r0 r1 r2 r3 r4 = some q → AW g YJ29_rotateRight 1 (xR q) h [some (va_rf r0), some (va_rf r1), some (va_rf r2), some (va_rf r3), some (va_rf r4)] 79 [] := by
  intro h r0 r1 r2 r3 r4 q hq
  unfold x_J29_rotateRight_79 at hq
  refine aw_aload_n (i := 2) dJ29_rotateRight_79 rfl rfl (aIsR_rf _) ?_
  refine aw_aload_n (i := 1) dJ29_rotateRight_80 rfl rfl (aIsR_rf _) ?_
  replace hq := obind hq
  obtain ⟨a21, e22, hq⟩ := hq
  subst e22
  replace hq := obind hq
  obtain ⟨h23, e24, hq⟩ := hq
  refine xw_put e24 fJ29_42 tJ29_8 (fits_rf _ r1) dJ29_rotateRight_81 ?_
  refine aw_aload_n (i := 1) dJ29_rotateRight_84 rfl rfl (aIsR_rf _) ?_
  refine aw_aload_n (i := 2) dJ29_rotateRight_85 rfl rfl trivial ?_
  replace hq := obind hq
  obtain ⟨a25, e26, hq⟩ := hq
  subst e26
  replace hq := obind hq
  obtain ⟨h27, e28, hq⟩ := hq
  refine xw_put e28 fJ29_9 tJ29_6 (fits_rf _ (some a21)) dJ29_rotateRight_86 ?_
  refine aw_aload_n (i := 0) dJ29_rotateRight_89 rfl rfl (aIsR_rf _) ?_
  cases hq
  exact aw_areturn dJ29_rotateRight_90 rfl (Or.inl ⟨_, rfl⟩) (aIsR_rf _) ⟨rfl, rfl⟩
def x_J29_rotateRight_34 (g : AG) (N : Nat) (h : AH) (r0 : Option Nat) (r1 : Option Nat) (r2 : Option Nat) (r4 : Option Nat) : Option (Option Nat × AH) :=
  (r1).bind fun a10 => (rdR h a10 [(12, 6)]).bind fun o12 => (r2).bind fun a14 => (wrV g h a14 [(12, 6)] (va_rf o12)).bind fun h16 => ocase o12 ((wrV g h16 a14 [(12, 10)] (.int (0 : Int32))).bind fun h19 => x_J29_rotateRight_79 g N  h19 (some a14) (some a10) (some a14) (none) r4) (fun a18 => (rdR h16 a18 [(12, 8)]).bind fun o29 => if o29 = (some a10) then ((wrV g h16 a18 [(12, 8)] (.ref a14)).bind fun h34 => x_J29_rotateRight_79 g N  h34 r0 (some a10) (some a14) (some a18) r4) else ((wrV g h16 a18 [(12, 7)] (.ref a14)).bind fun h32 => x_J29_rotateRight_79 g N  h32 r0 (some a10) (some a14) (some a18) r4))
theorem p_x_J29_rotateRight_34 (g : AG) (hst : (gL g).stackTraces = false) (N : Nat) : ∀ (h : AH) (r0 : Option Nat) (r1 : Option Nat) (r2 : Option Nat) (r4 : Option Nat) (q : (Option Nat × AH)), x_J29_rotateRight_34 g N h r0 r1 r2 r4 = some q → AW g YJ29_rotateRight 1 (xR q) h [some (va_rf r0), some (va_rf r1), some (va_rf r2), none, some (va_rf r4)] 34 [] := by
  intro h r0 r1 r2 r4 q hq
  unfold x_J29_rotateRight_34 at hq
  refine aw_aload_n (i := 2) dJ29_rotateRight_34 rfl rfl (aIsR_rf _) ?_
  refine aw_aload_n (i := 1) dJ29_rotateRight_35 rfl rfl (aIsR_rf _) ?_
  replace hq := obind hq
  obtain ⟨a10, e11, hq⟩ := hq
  subst e11
  replace hq := obind hq
  obtain ⟨o12, e13, hq⟩ := hq
  refine xw_getR e13 fJ29_9 dJ29_rotateRight_36 ?_
  refine aw_dup_x1 dJ29_rotateRight_39 (cat_rf _) (cat_rf _) ?_
  replace hq := obind hq
  obtain ⟨a14, e15, hq⟩ := hq
  subst e15
  replace hq := obind hq
  obtain ⟨h16, e17, hq⟩ := hq
  refine xw_put e17 fJ29_9 tJ29_6 (fits_rf _ o12) dJ29_rotateRight_40 ?_
  refine aw_dup dJ29_rotateRight_43 (cat_rf _) ?_
  refine aw_astore_n (i := 3) (loc' := [some (va_rf r0), some (.ref a10), some (.ref a14), some (va_rf o12), some (va_rf r4)]) dJ29_rotateRight_44 rfl (Nat.le_of_ble_eq_true rfl) (aIsR_rf _) rfl ?_
  rcases o12 with _ | a18
  · replace hq := ocase_n hq
    refine xw_ifnonN (tgt := 58) dJ29_rotateRight_45 (by decide) ?_
    refine aw_aload_n (i := 2) dJ29_rotateRight_48 rfl rfl trivial ?_
    refine aw_dup dJ29_rotateRight_49 rfl ?_
    refine aw_astore_n (i := 0) (loc' := [some (.ref a14), some (.ref a10), some (.ref a14), some (.null), some (va_rf r4)]) dJ29_rotateRight_50 rfl (Nat.le_of_ble_eq_true rfl) trivial rfl ?_
    refine aw_iconst (v := 0) dJ29_rotateRight_51 (by decide) ?_
    replace hq := obind hq
    obtain ⟨h19, e20, hq⟩ := hq
    refine xw_put e20 fJ29_93 tJ29_10 (isb_ok (by decide)) dJ29_rotateRight_52 ?_
    refine aw_goto (tgt := 79) dJ29_rotateRight_55 (by decide) ?_
    exact p_x_J29_rotateRight_79 g hst N   h19 (some a14) (some a10) (some a14) (none) r4 _ hq
  · replace hq := ocase_s hq
    refine xw_ifnonS (tgt := 58) dJ29_rotateRight_45 (by decide) ?_
    refine aw_aload_n (i := 3) dJ29_rotateRight_58 rfl rfl trivial ?_
    replace hq := obind hq
    obtain ⟨o29, e30, hq⟩ := hq
    refine xw_getR e30 fJ29_42 dJ29_rotateRight_59 ?_
    refine aw_aload_n (i := 1) dJ29_rotateRight_62 rfl rfl trivial ?_
    refine xw_acmp_ne (v := o29) (w := (some a10)) (tgt := 74) dJ29_rotateRight_63 (by decide) (fun c31 => ?_) (fun c31 => ?_)
    · rw [if_neg c31] at hq
      refine aw_aload_n (i := 3) dJ29_rotateRight_74 rfl rfl trivial ?_
      refine aw_aload_n (i := 2) dJ29_rotateRight_75 rfl rfl trivial ?_
      replace hq := obind hq
      obtain ⟨h32, e33, hq⟩ := hq
      refine xw_put e33 fJ29_39 tJ29_7 (fits_rf _ (some a14)) dJ29_rotateRight_76 ?_
      exact p_x_J29_rotateRight_79 g hst N   h32 r0 (some a10) (some a14) (some a18) r4 _ hq
    · rw [if_pos c31] at hq
      refine aw_aload_n (i := 3) dJ29_rotateRight_66 rfl rfl trivial ?_
      refine aw_aload_n (i := 2) dJ29_rotateRight_67 rfl rfl trivial ?_
      replace hq := obind hq
      obtain ⟨h34, e35, hq⟩ := hq
      refine xw_put e35 fJ29_42 tJ29_8 (fits_rf _ (some a14)) dJ29_rotateRight_68 ?_
      refine aw_goto (tgt := 79) dJ29_rotateRight_71 (by decide) ?_
      exact p_x_J29_rotateRight_79 g hst N   h34 r0 (some a10) (some a14) (some a18) r4 _ hq
def x_J29_rotateRight (g : AG) (N : Nat) (h : AH) (r0 : Option Nat) (r1 : Option Nat) : Option (Option Nat × AH) :=
  ocase r1 (some (r0, h)) (fun a1 => (rdR h a1 [(12, 7)]).bind fun o2 => ocase o2 (some (r0, h)) (fun a4 => (rdR h a4 [(12, 8)]).bind fun o5 => (wrV g h a1 [(12, 7)] (va_rf o5)).bind fun h7 => ocase o5 (x_J29_rotateRight_34 g N  h7 r0 (some a1) (some a4) (none)) (fun a9 => (wrV g h7 a9 [(12, 6)] (.ref a1)).bind fun h36 => x_J29_rotateRight_34 g N  h36 r0 (some a1) (some a4) (some a9))))
theorem ct_J29_rotateRight (g : AG) (hst : (gL g).stackTraces = false) (N : Nat) : ∀ (h : AH) (r0 : Option Nat) (r1 : Option Nat) (q : (Option Nat × AH)), x_J29_rotateRight g N h r0 r1 = some q → CT g YJ29_rotateRight 1 [va_rf r0, va_rf r1] h (xR q) := by
  intro h r0 r1 q hq
  refine CT.of rfl (by decide +kernel) (loc := [some (va_rf r0), some (va_rf r1), none, none, none]) (by first | exact Nat.le_of_ble_eq_true rfl | (simp only [lgl_rf, lgl_i, lgl_j, lgl_ref, lgl_nil]; exact Nat.le_of_ble_eq_true rfl)) (by first | rfl | (simp only [aent_rf, aent_i, aent_j, aent_ref, aent_nil]; rfl)) ?_
  unfold x_J29_rotateRight at hq
  refine aw_aload_n (i := 1) dJ29_rotateRight_0 rfl rfl (aIsR_rf _) ?_
  rcases r1 with _ | a1
  · replace hq := ocase_n hq
    refine xw_ifnullN (tgt := 89) dJ29_rotateRight_1 (by decide) ?_
    refine aw_aload_n (i := 0) dJ29_rotateRight_89 rfl rfl (aIsR_rf _) ?_
    cases hq
    exact aw_areturn dJ29_rotateRight_90 rfl (Or.inl ⟨_, rfl⟩) (aIsR_rf _) ⟨rfl, rfl⟩
  · replace hq := ocase_s hq
    refine xw_ifnullS (tgt := 89) dJ29_rotateRight_1 (by decide) ?_
    refine aw_aload_n (i := 1) dJ29_rotateRight_4 rfl rfl trivial ?_
    replace hq := obind hq
    obtain ⟨o2, e3, hq⟩ := hq
    refine xw_getR e3 fJ29_39 dJ29_rotateRight_5 ?_
    refine aw_dup dJ29_rotateRight_8 (cat_rf _) ?_
    refine aw_astore_n (i := 2) (loc' := [some (va_rf r0), some (.ref a1), some (va_rf o2), none, none]) dJ29_rotateRight_9 rfl (Nat.le_of_ble_eq_true rfl) (aIsR_rf _) rfl ?_
    rcases o2 with _ | a4
    · replace hq := ocase_n hq
      refine xw_ifnullN (tgt := 89) dJ29_rotateRight_10 (by decide) ?_
      refine aw_aload_n (i := 0) dJ29_rotateRight_89 rfl rfl (aIsR_rf _) ?_
      cases hq
      exact aw_areturn dJ29_rotateRight_90 rfl (Or.inl ⟨_, rfl⟩) (aIsR_rf _) ⟨rfl, rfl⟩
    · replace hq := ocase_s hq
      refine xw_ifnullS (tgt := 89) dJ29_rotateRight_10 (by decide) ?_
      refine aw_aload_n (i := 1) dJ29_rotateRight_13 rfl rfl trivial ?_
      refine aw_aload_n (i := 2) dJ29_rotateRight_14 rfl rfl trivial ?_
      replace hq := obind hq
      obtain ⟨o5, e6, hq⟩ := hq
      refine xw_getR e6 fJ29_42 dJ29_rotateRight_15 ?_
      refine aw_dup_x1 dJ29_rotateRight_18 (cat_rf _) rfl ?_
      replace hq := obind hq
      obtain ⟨h7, e8, hq⟩ := hq
      refine xw_put e8 fJ29_39 tJ29_7 (fits_rf _ o5) dJ29_rotateRight_19 ?_
      refine aw_dup dJ29_rotateRight_22 (cat_rf _) ?_
      refine aw_astore (loc' := [some (va_rf r0), some (.ref a1), some (.ref a4), none, some (va_rf o5)]) dJ29_rotateRight_23 (Nat.le_of_ble_eq_true rfl) (aIsR_rf _) rfl ?_
      rcases o5 with _ | a9
      · replace hq := ocase_n hq
        refine xw_ifnullN (tgt := 34) dJ29_rotateRight_25 (by decide) ?_
        exact p_x_J29_rotateRight_34 g hst N   h7 r0 (some a1) (some a4) (none) _ hq
      · replace hq := ocase_s hq
        refine xw_ifnullS (tgt := 34) dJ29_rotateRight_25 (by decide) ?_
        refine aw_aload dJ29_rotateRight_28 rfl trivial ?_
        refine aw_aload_n (i := 1) dJ29_rotateRight_30 rfl rfl trivial ?_
        replace hq := obind hq
        obtain ⟨h36, e37, hq⟩ := hq
        refine xw_put e37 fJ29_9 tJ29_6 (fits_rf _ (some a1)) dJ29_rotateRight_31 ?_
        exact p_x_J29_rotateRight_34 g hst N   h36 r0 (some a1) (some a4) (some a9) _ hq
