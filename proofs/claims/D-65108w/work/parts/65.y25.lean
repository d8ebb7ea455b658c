/-! THE COMPONENT AND THE JDK as functions of the heap, and their contracts: printed by wip gen/dec2.py -/
set_option maxRecDepth 100000
theorem fX3_99 : ∀ q ∈ ([(5, 3)] : List (Nat × Nat)), aFl RX3 99 q.1 q.2 := by
  intro q hq
  simp only [List.mem_cons, List.not_mem_nil, or_false] at hq
  subst hq
  exact aFl.ofN (RX6, TX6, 4) rfl (Nat.le_of_ble_eq_true rfl) q900
theorem casProbeConsole_Node : ∀ c ∈ ([5] : List Nat), ∃ r : vw_C, aCl[c]? = some r ∧ (r.1 = "ProbeConsole$Node" ∨ Cond.castable r.1 "ProbeConsole$Node" ∈ lw_tbl) := by
  intro c hc
  simp only [List.mem_cons, List.not_mem_nil, or_false] at hc
  subst hc
  exact ⟨(RX6, TX6, 4), rfl, Or.inl rfl⟩
theorem fX3_108 : ∀ q ∈ ([(5, 0)] : List (Nat × Nat)), aFl RX3 108 q.1 q.2 := by
  intro q hq
  simp only [List.mem_cons, List.not_mem_nil, or_false] at hq
  subst hq
  exact aFl.ofN (RX6, TX6, 4) rfl (Nat.le_of_ble_eq_true rfl) q894
theorem fX3_118 : ∀ q ∈ ([(2, 6)] : List (Nat × Nat)), aFl RX3 118 q.1 q.2 := by
  intro q hq
  simp only [List.mem_cons, List.not_mem_nil, or_false] at hq
  subst hq
  exact aFl.of (RX3, TX3, 10) rfl (Nat.le_of_ble_eq_true rfl) q327
theorem fX3_121 : ∀ q ∈ ([(5, 2)] : List (Nat × Nat)), aFl RX3 121 q.1 q.2 := by
  intro q hq
  simp only [List.mem_cons, List.not_mem_nil, or_false] at hq
  subst hq
  exact aFl.ofN (RX6, TX6, 4) rfl (Nat.le_of_ble_eq_true rfl) q898
theorem fX3_130 : ∀ q ∈ ([(5, 1)] : List (Nat × Nat)), aFl RX3 130 q.1 q.2 := by
  intro q hq
  simp only [List.mem_cons, List.not_mem_nil, or_false] at hq
  subst hq
  exact aFl.ofN (RX6, TX6, 4) rfl (Nat.le_of_ble_eq_true rfl) q896
theorem fX3_148 : ∀ q ∈ ([(7, 6)] : List (Nat × Nat)), aFl RX3 148 q.1 q.2 := by
  intro q hq
  simp only [List.mem_cons, List.not_mem_nil, or_false] at hq
  subst hq
  exact aFl.ofN (RX9, TX9, 8) rfl (Nat.le_of_ble_eq_true rfl) q1868
theorem fX3_153 : ∀ q ∈ ([(7, 4)] : List (Nat × Nat)), aFl RX3 153 q.1 q.2 := by
  intro q hq
  simp only [List.mem_cons, List.not_mem_nil, or_false] at hq
  subst hq
  exact aFl.ofN (RX9, TX9, 8) rfl (Nat.le_of_ble_eq_true rfl) q1862
theorem fX3_32 : ∀ q ∈ ([(2, 3)] : List (Nat × Nat)), aFl RX3 32 q.1 q.2 := by
  intro q hq
  simp only [List.mem_cons, List.not_mem_nil, or_false] at hq
  subst hq
  exact aFl.of (RX3, TX3, 10) rfl (Nat.le_of_ble_eq_true rfl) q321
theorem okX9 : aCK (RX9, TX9, 8) tyX9 := ⟨in_X9, tyX9_ok, nmX9⟩
theorem tX9_6 : ∀ q ∈ ([(7, 6)] : List (Nat × Nat)), aFt q.1 q.2 false .int := by
  intro q hq
  simp only [List.mem_cons, List.not_mem_nil, or_false] at hq
  subst hq
  exact ⟨(RX9, TX9, 8), tyX9, Nat.le_of_ble_eq_true rfl, rfl, Nat.le_of_ble_eq_true rfl, okX9, rfl, rfl⟩
theorem fX3_171 : ∀ q ∈ ([(7, 5)] : List (Nat × Nat)), aFl RX3 171 q.1 q.2 := by
  intro q hq
  simp only [List.mem_cons, List.not_mem_nil, or_false] at hq
  subst hq
  exact aFl.ofN (RX9, TX9, 8) rfl (Nat.le_of_ble_eq_true rfl) q1865
theorem dfX11 : ∀ j, j < 5 → defaultValue (tyX11 j) = vp_V [.int 0, .int 0, .int 0, .int 0, .int 0] j := by decide +kernel
theorem fX3_157 : ∀ q ∈ ([(7, 3)] : List (Nat × Nat)), aFl RX3 157 q.1 q.2 := by
  intro q hq
  simp only [List.mem_cons, List.not_mem_nil, or_false] at hq
  subst hq
  exact aFl.ofN (RX9, TX9, 8) rfl (Nat.le_of_ble_eq_true rfl) q1860
theorem fX3_184 : ∀ q ∈ ([(2, 8)] : List (Nat × Nat)), aFl RX3 184 q.1 q.2 := by
  intro q hq
  simp only [List.mem_cons, List.not_mem_nil, or_false] at hq
  subst hq
  exact aFl.of (RX3, TX3, 10) rfl (Nat.le_of_ble_eq_true rfl) q330
theorem tX3_6 : ∀ q ∈ ([(2, 6)] : List (Nat × Nat)), aFt q.1 q.2 false .boolean := by
  intro q hq
  simp only [List.mem_cons, List.not_mem_nil, or_false] at hq
  subst hq
  exact ⟨(RX3, TX3, 10), tyX3, Nat.le_of_ble_eq_true rfl, rfl, Nat.le_of_ble_eq_true rfl, okX3, rfl, rfl⟩
theorem fX3_28 : ∀ q ∈ ([(2, 2)] : List (Nat × Nat)), aFl RX3 28 q.1 q.2 := by
  intro q hq
  simp only [List.mem_cons, List.not_mem_nil, or_false] at hq
  subst hq
  exact aFl.of (RX3, TX3, 10) rfl (Nat.le_of_ble_eq_true rfl) q319
theorem casProbeConsole_Job : ∀ c ∈ ([7] : List Nat), ∃ r : vw_C, aCl[c]? = some r ∧ (r.1 = "ProbeConsole$Job" ∨ Cond.castable r.1 "ProbeConsole$Job" ∈ lw_tbl) := by
  intro c hc
  simp only [List.mem_cons, List.not_mem_nil, or_false] at hc
  subst hc
  exact ⟨(RX9, TX9, 8), rfl, Or.inl rfl⟩
theorem fX3_204 : ∀ q ∈ ([(7, 2)] : List (Nat × Nat)), aFl RX3 204 q.1 q.2 := by
  intro q hq
  simp only [List.mem_cons, List.not_mem_nil, or_false] at hq
  subst hq
  exact aFl.ofN (RX9, TX9, 8) rfl (Nat.le_of_ble_eq_true rfl) q1858
theorem fX3_214 : ∀ q ∈ ([(2, 7)] : List (Nat × Nat)), aFl RX3 214 q.1 q.2 := by
  intro q hq
  simp only [List.mem_cons, List.not_mem_nil, or_false] at hq
  subst hq
  exact aFl.of (RX3, TX3, 10) rfl (Nat.le_of_ble_eq_true rfl) q328
theorem tX3_7 : ∀ q ∈ ([(2, 7)] : List (Nat × Nat)), aFt q.1 q.2 false .int := by
  intro q hq
  simp only [List.mem_cons, List.not_mem_nil, or_false] at hq
  subst hq
  exact ⟨(RX3, TX3, 10), tyX3, Nat.le_of_ble_eq_true rfl, rfl, Nat.le_of_ble_eq_true rfl, okX3, rfl, rfl⟩
theorem fX3_40 : ∀ q ∈ ([(2, 9)] : List (Nat × Nat)), aFl RX3 40 q.1 q.2 := by
  intro q hq
  simp only [List.mem_cons, List.not_mem_nil, or_false] at hq
  subst hq
  exact aFl.of (RX3, TX3, 10) rfl (Nat.le_of_ble_eq_true rfl) q331
theorem fX3_221 : ∀ q ∈ ([(6, 3)] : List (Nat × Nat)), aFl RX3 221 q.1 q.2 := by
  intro q hq
  simp only [List.mem_cons, List.not_mem_nil, or_false] at hq
  subst hq
  exact aFl.ofN (RX8, TX8, 4) rfl (Nat.le_of_ble_eq_true rfl) q1088
abbrev YX3_two : YC := (yX3_two, cX3_two, 6, (some .int), [])
abbrev YX3_held : YC := (yX3_held, cX3_held, 5, (some .int), [])
abbrev YX3_invocation : YC := (yX3_invocation, cX3_invocation, 9, (some .int), [])
abbrev YX3_value : YC := (yX3_value, cX3_value, 5, (some .int), [])
abbrev YX3_watches : YC := (yX3_watches, cX3_watches, 7, (some .boolean), [])
abbrev YX3_probe : YC := (yX3_probe, cX3_probe, 10, none, [])
abbrev YX3_invoke : YC := (yX3_invoke, cX3_invoke, 8, (some .int), [])
abbrev R_X3 : Type := (AH → Nat → Option Nat → Option Nat → Int32 → Option (Int32 × AH)) × (AH → Nat → Option Nat → Option Nat → Int32 → Option (Int32 × AH)) × (AH → Nat → Option Nat → Option Nat → Int32 → Option (Int32 × AH)) × (AH → Nat → Option Nat → Option Nat → Int32 → Option (Int32 × AH)) × (AH → Nat → Int32 → Option Nat → Option Nat → Option Nat → Int32 → Option (Int32 × AH)) × (AH → Nat → Option Nat → Option Nat → Int32 → Int32 → Int32 → Option AH) × (AH → Nat → Option Nat → Int32 → Int32 → Int32 → Int32 → Option (Int32 × AH))
def Ok_X3 (g : AG) (n : Nat) (ρ : R_X3) : Prop := (∀ (h : AH) (x0 : Nat) (r1 : Option Nat) (r2 : Option Nat) (x3 : Int32) (q : (Int32 × AH)), ρ.1 h x0 r1 r2 x3 = some q → CT g YX3_two (10 + n) [.ref x0, va_rf r1, va_rf r2, .int x3] h (xI q)) ∧ (∀ (h : AH) (x0 : Nat) (r1 : Option Nat) (r2 : Option Nat) (x3 : Int32) (q : (Int32 × AH)), ρ.2.1 h x0 r1 r2 x3 = some q → CT g YX3_held (10 + n) [.ref x0, va_rf r1, va_rf r2, .int x3] h (xI q)) ∧ (∀ (h : AH) (x0 : Nat) (r1 : Option Nat) (r2 : Option Nat) (x3 : Int32) (q : (Int32 × AH)), ρ.2.2.1 h x0 r1 r2 x3 = some q → CT g YX3_invocation (10 + n) [.ref x0, va_rf r1, va_rf r2, .int x3] h (xI q)) ∧ (∀ (h : AH) (x0 : Nat) (r1 : Option Nat) (r2 : Option Nat) (x3 : Int32) (q : (Int32 × AH)), ρ.2.2.2.1 h x0 r1 r2 x3 = some q → CT g YX3_value (10 + n) [.ref x0, va_rf r1, va_rf r2, .int x3] h (xI q)) ∧ (∀ (h : AH) (x0 : Nat) (x1 : Int32) (r2 : Option Nat) (r3 : Option Nat) (r4 : Option Nat) (x5 : Int32) (q : (Int32 × AH)), ρ.2.2.2.2.1 h x0 x1 r2 r3 r4 x5 = some q → CT g YX3_watches (10 + n) [.ref x0, .int x1, va_rf r2, va_rf r3, va_rf r4, .int x5] h (xI q)) ∧ (∀ (h : AH) (x0 : Nat) (r1 : Option Nat) (r2 : Option Nat) (x3 : Int32) (x4 : Int32) (x5 : Int32) (q : AH), ρ.2.2.2.2.2.1 h x0 r1 r2 x3 x4 x5 = some q → CT g YX3_probe (10 + n) [.ref x0, va_rf r1, va_rf r2, .int x3, .int x4, .int x5] h (xV q)) ∧ (∀ (h : AH) (x0 : Nat) (r1 : Option Nat) (x2 : Int32) (x3 : Int32) (x4 : Int32) (x5 : Int32) (q : (Int32 × AH)), ρ.2.2.2.2.2.2 h x0 r1 x2 x3 x4 x5 = some q → CT g YX3_invoke (10 + n) [.ref x0, va_rf r1, .int x2, .int x3, .int x4, .int x5] h (xI q))
theorem kX3_two : aMk YX3_two 3 := ⟨rfl, q2117, q118, ⟨by decide +kernel, by decide +kernel, by decide +kernel⟩, Nat.le_of_ble_eq_true rfl⟩
def x_X3_two_185 (g : AG) (N : Nat) (ρ : R_X3) (h : AH) (x0 : Nat) (r1 : Option Nat) (r2 : Option Nat) (x3 : Int32) (x4 : Int32) (x5 : Int32) : Option (Int32 × AH) :=
  (r1).bind fun a41 => (rdR h a41 [(5, 0)]).bind fun o43 => bif clB h x0 [2] then ((x_X3_divide g N h x0 o43 x4 x5).bind fun q46 => some (q46.1, q46.2)) else none
theorem p_x_X3_two_185 (g : AG) (hst : (gL g).stackTraces = false) (N : Nat) (ρ : R_X3) (n : Nat) (hρ : Ok_X3 g n ρ) : ∀ (h : AH) (x0 : Nat) (r1 : Option Nat) (r2 : Option Nat) (x3 : Int32) (x4 : Int32) (x5 : Int32) (q : (Int32 × AH)), x_X3_two_185 g N ρ h x0 r1 r2 x3 x4 x5 = some q → AW g YX3_two (10 + n + 1) (xI q) h [some (.ref x0), some (va_rf r1), some (va_rf r2), some (.int x3), some (.int x4), some (.int x5)] 185 [] := by
  intro h x0 r1 r2 x3 x4 x5 q hq
  unfold x_X3_two_185 at hq
  refine aw_aload_n (i := 0) dX3_two_185 rfl rfl trivial ?_
  refine aw_aload_n (i := 1) dX3_two_186 rfl rfl (aIsR_rf _) ?_
  replace hq := obind hq
  obtain ⟨a41, e42, hq⟩ := hq
  subst e42
  replace hq := obind hq
  obtain ⟨o43, e44, hq⟩ := hq
  refine xw_getR e44 fX3_108 dX3_two_187 ?_
  refine aw_iload dX3_two_190 rfl ?_
  refine aw_iload dX3_two_192 rfl ?_
  replace hq := cond_t hq
  obtain ⟨z45, hq⟩ := hq
  obtain ⟨fs9, ha9⟩ := clB1 z45
  replace hq := obind hq
  obtain ⟨q46, e47, hq⟩ := hq
  refine aw_callV (Y2 := YX3_divide) (As := [va_rf o43, .int x4, .int x5]) (rest := []) (r := (RX3, TX3, 10)) kX3_divide ha9 rfl rfl q2118 q2120 qs53 dX3_two_194 rfl rfl (ct_X3_divide g hst N h x0 o43 x4 x5 _ e47) (by omega) (Nat.le_of_ble_eq_true rfl) (fun v9 h9 z9 y9 => ?_)
  obtain ⟨rfl, rfl⟩ := y9
  refine aw_st (st' := [.int q46.1]) rfl ?_
  cases hq
  exact aw_ireturn dX3_two_197 rfl rfl ⟨rfl, rfl⟩
def x_X3_two_52 (g : AG) (N : Nat) (ρ : R_X3) (h : AH) (x0 : Nat) (r1 : Option Nat) (r2 : Option Nat) (x3 : Int32) (x4 : Int32) (s0 : Int32) : Option (Int32 × AH) :=
  (rdI h x0 [(2, 5)]).bind fun i28 => if i28 = 0 then ((r1).bind fun a31 => (rdR h a31 [(5, 0)]).bind fun o33 => (o33).bind fun a35 => bif clB h a35 [19] then ((x_J22_ordinal g N h a35).bind fun q38 => if q38.1.toInt < 7 ∨ 14 < q38.1.toInt then (x_X3_two_185 g N ρ  q38.2 x0 (some a31) r2 x3 x4 s0) else (if q38.1 = 7 then (some ((x4 + s0), q38.2)) else (if q38.1 = 8 then (some ((x4 - s0), q38.2)) else (if q38.1 = 9 then (some ((x4 * s0), q38.2)) else (if q38.1 = 10 then (x_X3_two_185 g N ρ  q38.2 x0 (some a31) r2 x3 x4 s0) else (if q38.1 = 11 then (x_X3_two_185 g N ρ  q38.2 x0 (some a31) r2 x3 x4 s0) else (if q38.1 = 12 then (if s0 ≤ x4 then (some ((0 : Int32), q38.2)) else (some ((1 : Int32), q38.2))) else (if q38.1 = 13 then (if x4 = s0 then (some ((1 : Int32), q38.2)) else (some ((0 : Int32), q38.2))) else (if q38.1 = 14 then (if x4 ≤ s0 then (some ((0 : Int32), q38.2)) else (some ((1 : Int32), q38.2))) else (none)))))))))) else none) else (some (s0, h))
theorem p_x_X3_two_52 (g : AG) (hst : (gL g).stackTraces = false) (N : Nat) (ρ : R_X3) (n : Nat) (hρ : Ok_X3 g n ρ) : ∀ (h : AH) (x0 : Nat) (r1 : Option Nat) (r2 : Option Nat) (x3 : Int32) (x4 : Int32) (s0 : Int32) (q : (Int32 × AH)), x_X3_two_52 g N ρ h x0 r1 r2 x3 x4 s0 = some q → AW g YX3_two (10 + n + 1) (xI q) h [some (.ref x0), some (va_rf r1), some (va_rf r2), some (.int x3), some (.int x4), none] 52 [.int s0] := by
  intro h x0 r1 r2 x3 x4 s0 q hq
  unfold x_X3_two_52 at hq
  refine aw_istore (loc' := [some (.ref x0), some (va_rf r1), some (va_rf r2), some (.int x3), some (.int x4), some (.int s0)]) dX3_two_52 (Nat.le_of_ble_eq_true rfl) rfl ?_
  refine aw_aload_n (i := 0) dX3_two_54 rfl rfl trivial ?_
  replace hq := obind hq
  obtain ⟨i28, e29, hq⟩ := hq
  refine xw_getI e29 fX3_85 dX3_two_55 ?_
  refine aw_if_eq (tgt := 64) dX3_two_58 (by decide) (fun c30 => ?_) (fun c30 => ?_)
  · rw [if_pos c30] at hq
    refine aw_aload_n (i := 1) dX3_two_64 rfl rfl (aIsR_rf _) ?_
    replace hq := obind hq
    obtain ⟨a31, e32, hq⟩ := hq
    subst e32
    replace hq := obind hq
    obtain ⟨o33, e34, hq⟩ := hq
    refine xw_getR e34 fX3_108 dX3_two_65 ?_
    replace hq := obind hq
    obtain ⟨a35, e36, hq⟩ := hq
    subst e36
    replace hq := cond_t hq
    obtain ⟨z37, hq⟩ := hq
    obtain ⟨fs9, ha9⟩ := clB1 z37
    replace hq := obind hq
    obtain ⟨q38, e39, hq⟩ := hq
    refine aw_callU (Y2 := YJ22_ordinal) (As := []) (rest := []) (r := (RX7, TX7, 1)) (x := ⟨"ProbeConsole$Kind", "ordinal", "()I"⟩) kJ22_ordinal ha9 rfl rfl q2095 q1058 q1061 q1060 dX3_two_68 rfl rfl (ct_J22_ordinal g hst N h a35 _ e39) (by omega) (Nat.le_of_ble_eq_true rfl) (fun v9 h9 z9 y9 => ?_)
    obtain ⟨rfl, rfl⟩ := y9
    refine aw_st (st' := [.int q38.1]) rfl ?_
    by_cases c40 : q38.1.toInt < 7 ∨ 14 < q38.1.toInt
    · rw [if_pos c40] at hq
      refine aw_tableOut (tgt := 185) dX3_two_71 c40 (by decide) ?_
      exact p_x_X3_two_185 g hst N ρ n hρ   q38.2 x0 (some a31) r2 x3 x4 s0 _ hq
    rw [if_neg c40] at hq
    by_cases c48 : q38.1 = 7
    · rw [if_pos c48] at hq
      refine aw_tableIn (off := 45) (tgt := 116) dX3_two_71 (by rw [c48]; decide) (by rw [c48]; decide) (by rw [c48]; rfl) (by decide) ?_
      refine aw_iload dX3_two_116 rfl ?_
      refine aw_iload dX3_two_118 rfl ?_
      refine aw_iadd dX3_two_120 ?_
      refine aw_goto (tgt := 197) dX3_two_121 (by decide) ?_
      cases hq
      exact aw_ireturn dX3_two_197 rfl rfl ⟨rfl, rfl⟩
    rw [if_neg c48] at hq
    by_cases c49 : q38.1 = 8
    · rw [if_pos c49] at hq
      refine aw_tableIn (off := 53) (tgt := 124) dX3_two_71 (by rw [c49]; decide) (by rw [c49]; decide) (by rw [c49]; rfl) (by decide) ?_
      refine aw_iload dX3_two_124 rfl ?_
      refine aw_iload dX3_two_126 rfl ?_
      refine aw_isub dX3_two_128 ?_
      refine aw_goto (tgt := 197) dX3_two_129 (by decide) ?_
      cases hq
      exact aw_ireturn dX3_two_197 rfl rfl ⟨rfl, rfl⟩
    rw [if_neg c49] at hq
    by_cases c50 : q38.1 = 9
    · rw [if_pos c50] at hq
      refine aw_tableIn (off := 61) (tgt := 132) dX3_two_71 (by rw [c50]; decide) (by rw [c50]; decide) (by rw [c50]; rfl) (by decide) ?_
      refine aw_iload dX3_two_132 rfl ?_
      refine aw_iload dX3_two_134 rfl ?_
      refine aw_imul dX3_two_136 ?_
      refine aw_goto (tgt := 197) dX3_two_137 (by decide) ?_
      cases hq
      exact aw_ireturn dX3_two_197 rfl rfl ⟨rfl, rfl⟩
    rw [if_neg c50] at hq
    by_cases c51 : q38.1 = 10
    · rw [if_pos c51] at hq
      refine aw_tableIn (off := 114) (tgt := 185) dX3_two_71 (by rw [c51]; decide) (by rw [c51]; decide) (by rw [c51]; rfl) (by decide) ?_
      exact p_x_X3_two_185 g hst N ρ n hρ   q38.2 x0 (some a31) r2 x3 x4 s0 _ hq
    rw [if_neg c51] at hq
    by_cases c52 : q38.1 = 11
    · rw [if_pos c52] at hq
      refine aw_tableIn (off := 114) (tgt := 185) dX3_two_71 (by rw [c52]; decide) (by rw [c52]; decide) (by rw [c52]; rfl) (by decide) ?_
      exact p_x_X3_two_185 g hst N ρ n hρ   q38.2 x0 (some a31) r2 x3 x4 s0 _ hq
    rw [if_neg c52] at hq
    by_cases c53 : q38.1 = 12
    · rw [if_pos c53] at hq
      refine aw_tableIn (off := 69) (tgt := 140) dX3_two_71 (by rw [c53]; decide) (by rw [c53]; decide) (by rw [c53]; rfl) (by decide) ?_
      refine aw_iload dX3_two_140 rfl ?_
      refine aw_iload dX3_two_142 rfl ?_
      refine aw_icmp_ge (tgt := 151) dX3_two_144 (by decide) (fun c54 => ?_) (fun c54 => ?_)
      · rw [if_pos c54] at hq
        refine aw_iconst (v := 0) dX3_two_151 (by decide) ?_
        refine aw_goto (tgt := 197) dX3_two_152 (by decide) ?_
        cases hq
        exact aw_ireturn dX3_two_197 rfl rfl ⟨rfl, rfl⟩
      · rw [if_neg c54] at hq
        refine aw_iconst (v := 1) dX3_two_147 (by decide) ?_
        refine aw_goto (tgt := 197) dX3_two_148 (by decide) ?_
        cases hq
        exact aw_ireturn dX3_two_197 rfl rfl ⟨rfl, rfl⟩
    rw [if_neg c53] at hq
    by_cases c55 : q38.1 = 13
    · rw [if_pos c55] at hq
      refine aw_tableIn (off := 84) (tgt := 155) dX3_two_71 (by rw [c55]; decide) (by rw [c55]; decide) (by rw [c55]; rfl) (by decide) ?_
      refine aw_iload dX3_two_155 rfl ?_
      refine aw_iload dX3_two_157 rfl ?_
      refine aw_icmp_ne (tgt := 166) dX3_two_159 (by decide) (fun c56 => ?_) (fun c56 => ?_)
      · rw [if_neg c56] at hq
        refine aw_iconst (v := 0) dX3_two_166 (by decide) ?_
        refine aw_goto (tgt := 197) dX3_two_167 (by decide) ?_
        cases hq
        exact aw_ireturn dX3_two_197 rfl rfl ⟨rfl, rfl⟩
      · rw [if_pos c56] at hq
        refine aw_iconst (v := 1) dX3_two_162 (by decide) ?_
        refine aw_goto (tgt := 197) dX3_two_163 (by decide) ?_
        cases hq
        exact aw_ireturn dX3_two_197 rfl rfl ⟨rfl, rfl⟩
    rw [if_neg c55] at hq
    by_cases c57 : q38.1 = 14
    · rw [if_pos c57] at hq
      refine aw_tableIn (off := 99) (tgt := 170) dX3_two_71 (by rw [c57]; decide) (by rw [c57]; decide) (by rw [c57]; rfl) (by decide) ?_
      refine aw_iload dX3_two_170 rfl ?_
      refine aw_iload dX3_two_172 rfl ?_
      refine aw_icmp_le (tgt := 181) dX3_two_174 (by decide) (fun c58 => ?_) (fun c58 => ?_)
      · rw [if_pos c58] at hq
        refine aw_iconst (v := 0) dX3_two_181 (by decide) ?_
        refine aw_goto (tgt := 197) dX3_two_182 (by decide) ?_
        cases hq
        exact aw_ireturn dX3_two_197 rfl rfl ⟨rfl, rfl⟩
      · rw [if_neg c58] at hq
        refine aw_iconst (v := 1) dX3_two_177 (by decide) ?_
        refine aw_goto (tgt := 197) dX3_two_178 (by decide) ?_
        cases hq
        exact aw_ireturn dX3_two_197 rfl rfl ⟨rfl, rfl⟩
    rw [if_neg c57] at hq
    cases hq
  · rw [if_neg c30] at hq
    refine aw_iload dX3_two_61 rfl ?_
    cases hq
    exact aw_ireturn dX3_two_63 rfl rfl ⟨rfl, rfl⟩
def xb_X3_two (g : AG) (N : Nat) (ρ : R_X3) (h : AH) (x0 : Nat) (r1 : Option Nat) (r2 : Option Nat) (x3 : Int32) : Option (Int32 × AH) :=
  (r1).bind fun a1 => (rdR h a1 [(5, 3)]).bind fun o3 => (o3).bind fun a5 => bif clB h a5 [13] then ((x_J4_get g N h a5 (0 : Int32)).bind fun q8 => bif casB q8.2 q8.1 [5] then (bif clB q8.2 x0 [2] then ((ρ.2.2.2.1 q8.2 x0 q8.1 r2 x3).bind fun q12 => (rdI q12.2 x0 [(2, 5)]).bind fun i14 => if i14 = 0 then ((rdR q12.2 a1 [(5, 3)]).bind fun o17 => (o17).bind fun a19 => bif clB q12.2 a19 [13] then ((x_J4_get g N q12.2 a19 (1 : Int32)).bind fun q22 => bif casB q22.2 q22.1 [5] then (bif clB q22.2 x0 [2] then ((ρ.2.2.2.1 q22.2 x0 q22.1 r2 x3).bind fun q26 => x_X3_two_52 g N ρ  q26.2 x0 (some a1) r2 x3 q12.1 q26.1) else none) else none) else none) else (x_X3_two_52 g N ρ  q12.2 x0 (some a1) r2 x3 q12.1 q12.1)) else none) else none) else none
theorem cb_X3_two (g : AG) (hst : (gL g).stackTraces = false) (N : Nat) (ρ : R_X3) (n : Nat) (hρ : Ok_X3 g n ρ) : ∀ (h : AH) (x0 : Nat) (r1 : Option Nat) (r2 : Option Nat) (x3 : Int32) (q : (Int32 × AH)), xb_X3_two g N ρ h x0 r1 r2 x3 = some q → CT g YX3_two (10 + n + 1) [.ref x0, va_rf r1, va_rf r2, .int x3] h (xI q) := by
  intro h x0 r1 r2 x3 q hq
  refine CT.of rfl (by decide +kernel) (loc := [some (.ref x0), some (va_rf r1), some (va_rf r2), some (.int x3), none, none]) (by first | exact Nat.le_of_ble_eq_true rfl | (simp only [lgl_rf, lgl_i, lgl_j, lgl_ref, lgl_nil]; exact Nat.le_of_ble_eq_true rfl)) (by first | rfl | (simp only [aent_rf, aent_i, aent_j, aent_ref, aent_nil]; rfl)) ?_
  unfold xb_X3_two at hq
  refine aw_aload_n (i := 0) dX3_two_0 rfl rfl trivial ?_
  refine aw_aload_n (i := 1) dX3_two_1 rfl rfl (aIsR_rf _) ?_
  replace hq := obind hq
  obtain ⟨a1, e2, hq⟩ := hq
  subst e2
  replace hq := obind hq
  obtain ⟨o3, e4, hq⟩ := hq
  refine xw_getR e4 fX3_99 dX3_two_2 ?_
  refine aw_iconst (v := 0) dX3_two_5 (by decide) ?_
  replace hq := obind hq
  obtain ⟨a5, e6, hq⟩ := hq
  subst e6
  replace hq := cond_t hq
  obtain ⟨z7, hq⟩ := hq
  obtain ⟨fs9, ha9⟩ := clB1 z7
  replace hq := obind hq
  obtain ⟨q8, e9, hq⟩ := hq
  refine aw_callF (Y2 := YJ4_get) (As := [.int (0 : Int32)]) (rest := [.ref x0]) (r := (RJ4, TJ4, 3)) (x := ⟨"java/util/List", "get", "(I)Ljava/lang/Object;"⟩) kJ4_get ha9 rfl (by decide) (by decide) ⟨by decide +kernel, by decide +kernel, by decide +kernel⟩ q2101 q2004 q2002 dX3_two_6 rfl rfl (ct_J4_get g hst N h a5 (0 : Int32) _ e9) (by omega) (Nat.le_of_ble_eq_true rfl) (fun v9 h9 z9 y9 => ?_)
  obtain ⟨rfl, rfl⟩ := y9
  refine aw_st (st' := [va_rf q8.1, .ref x0]) rfl ?_
  replace hq := cond_t hq
  obtain ⟨z10, hq⟩ := hq
  refine xw_cast (r := q8.1) z10 q2102 casProbeConsole_Node dX3_two_11 ?_
  refine aw_aload_n (i := 2) dX3_two_14 rfl rfl (aIsR_rf _) ?_
  refine aw_iload_n (i := 3) dX3_two_15 rfl rfl ?_
  replace hq := cond_t hq
  obtain ⟨z11, hq⟩ := hq
  obtain ⟨fs9, ha9⟩ := clB1 z11
  replace hq := obind hq
  obtain ⟨q12, e13, hq⟩ := hq
  refine aw_callV (Y2 := YX3_value) (As := [va_rf q8.1, va_rf r2, .int x3]) (rest := []) (r := (RX3, TX3, 10)) kX3_value ha9 rfl rfl q2091 q2093 qs48 dX3_two_16 rfl rfl (hρ.2.2.2.1 q8.2 x0 q8.1 r2 x3 _ e13) (Nat.le_refl _) (Nat.le_of_ble_eq_true rfl) (fun v9 h9 z9 y9 => ?_)
  obtain ⟨rfl, rfl⟩ := y9
  refine aw_st (st' := [.int q12.1]) rfl ?_
  refine aw_istore (loc' := [some (.ref x0), some (.ref a1), some (va_rf r2), some (.int x3), some (.int q12.1), none]) dX3_two_19 (Nat.le_of_ble_eq_true rfl) rfl ?_
  refine aw_aload_n (i := 0) dX3_two_21 rfl rfl trivial ?_
  replace hq := obind hq
  obtain ⟨i14, e15, hq⟩ := hq
  refine xw_getI e15 fX3_85 dX3_two_22 ?_
  refine aw_if_eq (tgt := 33) dX3_two_25 (by decide) (fun c16 => ?_) (fun c16 => ?_)
  · rw [if_pos c16] at hq
    refine aw_aload_n (i := 0) dX3_two_33 rfl rfl trivial ?_
    refine aw_aload_n (i := 1) dX3_two_34 rfl rfl trivial ?_
    replace hq := obind hq
    obtain ⟨o17, e18, hq⟩ := hq
    refine xw_getR e18 fX3_99 dX3_two_35 ?_
    refine aw_iconst (v := 1) dX3_two_38 (by decide) ?_
    replace hq := obind hq
    obtain ⟨a19, e20, hq⟩ := hq
    subst e20
    replace hq := cond_t hq
    obtain ⟨z21, hq⟩ := hq
    obtain ⟨fs9, ha9⟩ := clB1 z21
    replace hq := obind hq
    obtain ⟨q22, e23, hq⟩ := hq
    refine aw_callF (Y2 := YJ4_get) (As := [.int (1 : Int32)]) (rest := [.ref x0]) (r := (RJ4, TJ4, 3)) (x := ⟨"java/util/List", "get", "(I)Ljava/lang/Object;"⟩) kJ4_get ha9 rfl (by decide) (by decide) ⟨by decide +kernel, by decide +kernel, by decide +kernel⟩ q2101 q2004 q2002 dX3_two_39 rfl rfl (ct_J4_get g hst N q12.2 a19 (1 : Int32) _ e23) (by omega) (Nat.le_of_ble_eq_true rfl) (fun v9 h9 z9 y9 => ?_)
    obtain ⟨rfl, rfl⟩ := y9
    refine aw_st (st' := [va_rf q22.1, .ref x0]) rfl ?_
    replace hq := cond_t hq
    obtain ⟨z24, hq⟩ := hq
    refine xw_cast (r := q22.1) z24 q2102 casProbeConsole_Node dX3_two_44 ?_
    refine aw_aload_n (i := 2) dX3_two_47 rfl rfl (aIsR_rf _) ?_
    refine aw_iload_n (i := 3) dX3_two_48 rfl rfl ?_
    replace hq := cond_t hq
    obtain ⟨z25, hq⟩ := hq
    obtain ⟨fs9, ha9⟩ := clB1 z25
    replace hq := obind hq
    obtain ⟨q26, e27, hq⟩ := hq
    refine aw_callV (Y2 := YX3_value) (As := [va_rf q22.1, va_rf r2, .int x3]) (rest := []) (r := (RX3, TX3, 10)) kX3_value ha9 rfl rfl q2091 q2093 qs48 dX3_two_49 rfl rfl (hρ.2.2.2.1 q22.2 x0 q22.1 r2 x3 _ e27) (Nat.le_refl _) (Nat.le_of_ble_eq_true rfl) (fun v9 h9 z9 y9 => ?_)
    obtain ⟨rfl, rfl⟩ := y9
    refine aw_st (st' := [.int q26.1]) rfl ?_
    exact p_x_X3_two_52 g hst N ρ n hρ   q26.2 x0 (some a1) r2 x3 q12.1 q26.1 _ hq
  · rw [if_neg c16] at hq
    refine aw_iload dX3_two_28 rfl ?_
    refine aw_goto (tgt := 52) dX3_two_30 (by decide) ?_
    exact p_x_X3_two_52 g hst N ρ n hρ   q12.2 x0 (some a1) r2 x3 q12.1 q12.1 _ hq
theorem kX3_held : aMk YX3_held 3 := ⟨rfl, q2112, q118, ⟨by decide +kernel, by decide +kernel, by decide +kernel⟩, Nat.le_of_ble_eq_true rfl⟩
def xb_X3_held (g : AG) (N : Nat) (ρ : R_X3) (h : AH) (x0 : Nat) (r1 : Option Nat) (r2 : Option Nat) (x3 : Int32) : Option (Int32 × AH) :=
  (r1).bind fun a1 => (rdR h a1 [(5, 3)]).bind fun o3 => (o3).bind fun a5 => bif clB h a5 [13] then ((x_J4_get g N h a5 (0 : Int32)).bind fun q8 => bif casB q8.2 q8.1 [5] then (bif clB q8.2 x0 [2] then ((ρ.2.2.2.1 q8.2 x0 q8.1 r2 x3).bind fun q12 => (rdI q12.2 x0 [(2, 5)]).bind fun i14 => if i14 = 0 then (some (q12.1, q12.2)) else ((rdI q12.2 x0 [(2, 6)]).bind fun i17 => if i17 = 0 then ((wrV g q12.2 x0 [(2, 5)] (.int (0 : Int32))).bind fun h20 => (rdR h20 a1 [(5, 3)]).bind fun o22 => (o22).bind fun a24 => bif clB h20 a24 [13] then ((x_J4_get g N h20 a24 (1 : Int32)).bind fun q27 => bif casB q27.2 q27.1 [5] then (bif clB q27.2 x0 [2] then ((ρ.2.2.2.1 q27.2 x0 q27.1 r2 x3).bind fun q31 => some (q31.1, q31.2)) else none) else none) else none) else (some (q12.1, q12.2)))) else none) else none) else none
theorem cb_X3_held (g : AG) (hst : (gL g).stackTraces = false) (N : Nat) (ρ : R_X3) (n : Nat) (hρ : Ok_X3 g n ρ) : ∀ (h : AH) (x0 : Nat) (r1 : Option Nat) (r2 : Option Nat) (x3 : Int32) (q : (Int32 × AH)), xb_X3_held g N ρ h x0 r1 r2 x3 = some q → CT g YX3_held (10 + n + 1) [.ref x0, va_rf r1, va_rf r2, .int x3] h (xI q) := by
  intro h x0 r1 r2 x3 q hq
  refine CT.of rfl (by decide +kernel) (loc := [some (.ref x0), some (va_rf r1), some (va_rf r2), some (.int x3), none]) (by first | exact Nat.le_of_ble_eq_true rfl | (simp only [lgl_rf, lgl_i, lgl_j, lgl_ref, lgl_nil]; exact Nat.le_of_ble_eq_true rfl)) (by first | rfl | (simp only [aent_rf, aent_i, aent_j, aent_ref, aent_nil]; rfl)) ?_
  unfold xb_X3_held at hq
  refine aw_aload_n (i := 0) dX3_held_0 rfl rfl trivial ?_
  refine aw_aload_n (i := 1) dX3_held_1 rfl rfl (aIsR_rf _) ?_
  replace hq := obind hq
  obtain ⟨a1, e2, hq⟩ := hq
  subst e2
  replace hq := obind hq
  obtain ⟨o3, e4, hq⟩ := hq
  refine xw_getR e4 fX3_99 dX3_held_2 ?_
  refine aw_iconst (v := 0) dX3_held_5 (by decide) ?_
  replace hq := obind hq
  obtain ⟨a5, e6, hq⟩ := hq
  subst e6
  replace hq := cond_t hq
  obtain ⟨z7, hq⟩ := hq
  obtain ⟨fs9, ha9⟩ := clB1 z7
  replace hq := obind hq
  obtain ⟨q8, e9, hq⟩ := hq
  refine aw_callF (Y2 := YJ4_get) (As := [.int (0 : Int32)]) (rest := [.ref x0]) (r := (RJ4, TJ4, 3)) (x := ⟨"java/util/List", "get", "(I)Ljava/lang/Object;"⟩) kJ4_get ha9 rfl (by decide) (by decide) ⟨by decide +kernel, by decide +kernel, by decide +kernel⟩ q2101 q2004 q2002 dX3_held_6 rfl rfl (ct_J4_get g hst N h a5 (0 : Int32) _ e9) (by omega) (Nat.le_of_ble_eq_true rfl) (fun v9 h9 z9 y9 => ?_)
  obtain ⟨rfl, rfl⟩ := y9
  refine aw_st (st' := [va_rf q8.1, .ref x0]) rfl ?_
  replace hq := cond_t hq
  obtain ⟨z10, hq⟩ := hq
  refine xw_cast (r := q8.1) z10 q2102 casProbeConsole_Node dX3_held_11 ?_
  refine aw_aload_n (i := 2) dX3_held_14 rfl rfl (aIsR_rf _) ?_
  refine aw_iload_n (i := 3) dX3_held_15 rfl rfl ?_
  replace hq := cond_t hq
  obtain ⟨z11, hq⟩ := hq
  obtain ⟨fs9, ha9⟩ := clB1 z11
  replace hq := obind hq
  obtain ⟨q12, e13, hq⟩ := hq
  refine aw_callV (Y2 := YX3_value) (As := [va_rf q8.1, va_rf r2, .int x3]) (rest := []) (r := (RX3, TX3, 10)) kX3_value ha9 rfl rfl q2091 q2093 qs48 dX3_held_16 rfl rfl (hρ.2.2.2.1 q8.2 x0 q8.1 r2 x3 _ e13) (Nat.le_refl _) (Nat.le_of_ble_eq_true rfl) (fun v9 h9 z9 y9 => ?_)
  obtain ⟨rfl, rfl⟩ := y9
  refine aw_st (st' := [.int q12.1]) rfl ?_
  refine aw_istore (loc' := [some (.ref x0), some (.ref a1), some (va_rf r2), some (.int x3), some (.int q12.1)]) dX3_held_19 (Nat.le_of_ble_eq_true rfl) rfl ?_
  refine aw_aload_n (i := 0) dX3_held_21 rfl rfl trivial ?_
  replace hq := obind hq
  obtain ⟨i14, e15, hq⟩ := hq
  refine xw_getI e15 fX3_85 dX3_held_22 ?_
  refine aw_if_eq (tgt := 35) dX3_held_25 (by decide) (fun c16 => ?_) (fun c16 => ?_)
  · rw [if_pos c16] at hq
    refine aw_iload dX3_held_35 rfl ?_
    cases hq
    exact aw_ireturn dX3_held_37 rfl rfl ⟨rfl, rfl⟩
  · rw [if_neg c16] at hq
    refine aw_aload_n (i := 0) dX3_held_28 rfl rfl trivial ?_
    replace hq := obind hq
    obtain ⟨i17, e18, hq⟩ := hq
    refine xw_getI e18 fX3_118 dX3_held_29 ?_
    refine aw_if_eq (tgt := 38) dX3_held_32 (by decide) (fun c19 => ?_) (fun c19 => ?_)
    · rw [if_pos c19] at hq
      refine aw_aload_n (i := 0) dX3_held_38 rfl rfl trivial ?_
      refine aw_iconst (v := 0) dX3_held_39 (by decide) ?_
      replace hq := obind hq
      obtain ⟨h20, e21, hq⟩ := hq
      refine xw_put e21 fX3_85 tX3_5 (isb_ok (by decide)) dX3_held_40 ?_
      refine aw_aload_n (i := 0) dX3_held_43 rfl rfl trivial ?_
      refine aw_aload_n (i := 1) dX3_held_44 rfl rfl trivial ?_
      replace hq := obind hq
      obtain ⟨o22, e23, hq⟩ := hq
      refine xw_getR e23 fX3_99 dX3_held_45 ?_
      refine aw_iconst (v := 1) dX3_held_48 (by decide) ?_
      replace hq := obind hq
      obtain ⟨a24, e25, hq⟩ := hq
      subst e25
      replace hq := cond_t hq
      obtain ⟨z26, hq⟩ := hq
      obtain ⟨fs9, ha9⟩ := clB1 z26
      replace hq := obind hq
      obtain ⟨q27, e28, hq⟩ := hq
      refine aw_callF (Y2 := YJ4_get) (As := [.int (1 : Int32)]) (rest := [.ref x0]) (r := (RJ4, TJ4, 3)) (x := ⟨"java/util/List", "get", "(I)Ljava/lang/Object;"⟩) kJ4_get ha9 rfl (by decide) (by decide) ⟨by decide +kernel, by decide +kernel, by decide +kernel⟩ q2101 q2004 q2002 dX3_held_49 rfl rfl (ct_J4_get g hst N h20 a24 (1 : Int32) _ e28) (by omega) (Nat.le_of_ble_eq_true rfl) (fun v9 h9 z9 y9 => ?_)
      obtain ⟨rfl, rfl⟩ := y9
      refine aw_st (st' := [va_rf q27.1, .ref x0]) rfl ?_
      replace hq := cond_t hq
      obtain ⟨z29, hq⟩ := hq
      refine xw_cast (r := q27.1) z29 q2102 casProbeConsole_Node dX3_held_54 ?_
      refine aw_aload_n (i := 2) dX3_held_57 rfl rfl (aIsR_rf _) ?_
      refine aw_iload_n (i := 3) dX3_held_58 rfl rfl ?_
      replace hq := cond_t hq
      obtain ⟨z30, hq⟩ := hq
      obtain ⟨fs9, ha9⟩ := clB1 z30
      replace hq := obind hq
      obtain ⟨q31, e32, hq⟩ := hq
      refine aw_callV (Y2 := YX3_value) (As := [va_rf q27.1, va_rf r2, .int x3]) (rest := []) (r := (RX3, TX3, 10)) kX3_value ha9 rfl rfl q2091 q2093 qs48 dX3_held_59 rfl rfl (hρ.2.2.2.1 q27.2 x0 q27.1 r2 x3 _ e32) (Nat.le_refl _) (Nat.le_of_ble_eq_true rfl) (fun v9 h9 z9 y9 => ?_)
      obtain ⟨rfl, rfl⟩ := y9
      refine aw_st (st' := [.int q31.1]) rfl ?_
      cases hq
      exact aw_ireturn dX3_held_62 rfl rfl ⟨rfl, rfl⟩
    · rw [if_neg c19] at hq
      refine aw_iload dX3_held_35 rfl ?_
      cases hq
      exact aw_ireturn dX3_held_37 rfl rfl ⟨rfl, rfl⟩
theorem kX3_invocation : aMk YX3_invocation 3 := ⟨rfl, q2099, q118, ⟨by decide +kernel, by decide +kernel, by decide +kernel⟩, Nat.le_of_ble_eq_true rfl⟩
def x_X3_invocation_121 (g : AG) (N : Nat) (ρ : R_X3) (h : AH) (x0 : Nat) (r1 : Option Nat) (r2 : Option Nat) (x3 : Int32) (x4 : Int32) (x5 : Int32) (x6 : Int32) (s0 : Int32) : Option (Int32 × AH) :=
  (rdI h x0 [(2, 5)]).bind fun i19 => if i19 = 0 then ((r1).bind fun a22 => (rdR h a22 [(5, 2)]).bind fun o24 => bif clB h x0 [2] then ((x_X3_find g N h x0 o24 x4).bind fun q27 => ocase q27.1 (bif clB q27.2 x0 [2] then ((x_X3_fail g N q27.2 x0 (-4 : Int32)).bind fun q31 => some (q31.1, q31.2)) else none) (fun a29 => bif clB q27.2 x0 [2] then ((ρ.2.2.2.2.2.2 q27.2 x0 (some a29) x5 x6 s0 (x3 + (1 : Int32))).bind fun q34 => some (q34.1, q34.2)) else none)) else none) else (some (s0, h))
theorem p_x_X3_invocation_121 (g : AG) (hst : (gL g).stackTraces = false) (N : Nat) (ρ : R_X3) (n : Nat) (hρ : Ok_X3 g n ρ) : ∀ (h : AH) (x0 : Nat) (r1 : Option Nat) (r2 : Option Nat) (x3 : Int32) (x4 : Int32) (x5 : Int32) (x6 : Int32) (s0 : Int32) (q : (Int32 × AH)), x_X3_invocation_121 g N ρ h x0 r1 r2 x3 x4 x5 x6 s0 = some q → AW g YX3_invocation (10 + n + 1) (xI q) h [some (.ref x0), some (va_rf r1), some (va_rf r2), some (.int x3), some (.int x4), some (.int x5), some (.int x6), none, none] 121 [.int s0] := by
  intro h x0 r1 r2 x3 x4 x5 x6 s0 q hq
  unfold x_X3_invocation_121 at hq
  refine aw_istore (loc' := [some (.ref x0), some (va_rf r1), some (va_rf r2), some (.int x3), some (.int x4), some (.int x5), some (.int x6), some (.int s0), none]) dX3_invocation_121 (Nat.le_of_ble_eq_true rfl) rfl ?_
  refine aw_aload_n (i := 0) dX3_invocation_123 rfl rfl trivial ?_
  replace hq := obind hq
  obtain ⟨i19, e20, hq⟩ := hq
  refine xw_getI e20 fX3_85 dX3_invocation_124 ?_
  refine aw_if_eq (tgt := 133) dX3_invocation_127 (by decide) (fun c21 => ?_) (fun c21 => ?_)
  · rw [if_pos c21] at hq
    refine aw_aload_n (i := 0) dX3_invocation_133 rfl rfl trivial ?_
    refine aw_aload_n (i := 1) dX3_invocation_134 rfl rfl (aIsR_rf _) ?_
    replace hq := obind hq
    obtain ⟨a22, e23, hq⟩ := hq
    subst e23
    replace hq := obind hq
    obtain ⟨o24, e25, hq⟩ := hq
    refine xw_getR e25 fX3_121 dX3_invocation_135 ?_
    refine aw_iload dX3_invocation_138 rfl ?_
    replace hq := cond_t hq
    obtain ⟨z26, hq⟩ := hq
    obtain ⟨fs9, ha9⟩ := clB1 z26
    replace hq := obind hq
    obtain ⟨q27, e28, hq⟩ := hq
    refine aw_callV (Y2 := YX3_find) (As := [va_rf o24, .int x4]) (rest := []) (r := (RX3, TX3, 10)) kX3_find ha9 rfl rfl q2103 q2105 qs50 dX3_invocation_140 rfl rfl (ct_X3_find g hst N h x0 o24 x4 _ e28) (by omega) (Nat.le_of_ble_eq_true rfl) (fun v9 h9 z9 y9 => ?_)
    obtain ⟨rfl, rfl⟩ := y9
    refine aw_st (st' := [va_rf q27.1]) rfl ?_
    refine aw_astore (loc' := [some (.ref x0), some (.ref a22), some (va_rf r2), some (.int x3), some (.int x4), some (.int x5), some (.int x6), some (.int s0), some (va_rf q27.1)]) dX3_invocation_143 (Nat.le_of_ble_eq_true rfl) (aIsR_rf _) rfl ?_
    refine aw_aload dX3_invocation_145 rfl (aIsR_rf _) ?_
    generalize q27.1 = v9 at hq ⊢
    rcases v9 with _ | a29
    · replace hq := ocase_n hq
      refine xw_ifnonN (tgt := 159) dX3_invocation_147 (by decide) ?_
      refine aw_aload_n (i := 0) dX3_invocation_150 rfl rfl trivial ?_
      refine aw_bipush (v := (-4)) dX3_invocation_151 (by decide) ?_
      replace hq := cond_t hq
      obtain ⟨z30, hq⟩ := hq
      obtain ⟨fs9, ha9⟩ := clB1 z30
      replace hq := obind hq
      obtain ⟨q31, e32, hq⟩ := hq
      refine aw_callV (Y2 := YX3_fail) (As := [.int (-4 : Int32)]) (rest := []) (r := (RX3, TX3, 10)) kX3_fail ha9 rfl rfl q2028 q2030 qs44 dX3_invocation_153 rfl rfl (ct_X3_fail g hst N q27.2 x0 (-4 : Int32) _ e32) (by omega) (Nat.le_of_ble_eq_true rfl) (fun v9 h9 z9 y9 => ?_)
      obtain ⟨rfl, rfl⟩ := y9
      refine aw_st (st' := [.int q31.1]) rfl ?_
      refine aw_goto (tgt := 174) dX3_invocation_156 (by decide) ?_
      cases hq
      exact aw_ireturn dX3_invocation_174 rfl rfl ⟨rfl, rfl⟩
    · replace hq := ocase_s hq
      refine xw_ifnonS (tgt := 159) dX3_invocation_147 (by decide) ?_
      refine aw_aload_n (i := 0) dX3_invocation_159 rfl rfl trivial ?_
      refine aw_aload dX3_invocation_160 rfl trivial ?_
      refine aw_iload dX3_invocation_162 rfl ?_
      refine aw_iload dX3_invocation_164 rfl ?_
      refine aw_iload dX3_invocation_166 rfl ?_
      refine aw_iload_n (i := 3) dX3_invocation_168 rfl rfl ?_
      refine aw_iconst (v := 1) dX3_invocation_169 (by decide) ?_
      refine aw_iadd dX3_invocation_170 ?_
      replace hq := cond_t hq
      obtain ⟨z33, hq⟩ := hq
      obtain ⟨fs9, ha9⟩ := clB1 z33
      replace hq := obind hq
      obtain ⟨q34, e35, hq⟩ := hq
      refine aw_callV (Y2 := YX3_invoke) (As := [.ref a29, .int x5, .int x6, .int s0, .int (x3 + (1 : Int32))]) (rest := []) (r := (RX3, TX3, 10)) kX3_invoke ha9 rfl rfl q2024 q2026 qs43 dX3_invocation_171 rfl rfl (hρ.2.2.2.2.2.2 q27.2 x0 (some a29) x5 x6 s0 (x3 + (1 : Int32)) _ e35) (Nat.le_refl _) (Nat.le_of_ble_eq_true rfl) (fun v9 h9 z9 y9 => ?_)
      obtain ⟨rfl, rfl⟩ := y9
      refine aw_st (st' := [.int q34.1]) rfl ?_
      cases hq
      exact aw_ireturn dX3_invocation_174 rfl rfl ⟨rfl, rfl⟩
  · rw [if_neg c21] at hq
    refine aw_iload dX3_invocation_130 rfl ?_
    cases hq
    exact aw_ireturn dX3_invocation_132 rfl rfl ⟨rfl, rfl⟩
def x_X3_invocation_80 (g : AG) (N : Nat) (ρ : R_X3) (h : AH) (x0 : Nat) (r1 : Option Nat) (r2 : Option Nat) (x3 : Int32) (x4 : Int32) (x5 : Int32) (s0 : Int32) : Option (Int32 × AH) :=
  (rdI h x0 [(2, 5)]).bind fun i15 => if i15 = 0 then (if x4 ≤ (2 : Int32) then (x_X3_invocation_121 g N ρ  h x0 r1 r2 x3 x4 x5 s0 (0 : Int32)) else ((r1).bind fun a36 => (rdR h a36 [(5, 3)]).bind fun o38 => (o38).bind fun a40 => bif clB h a40 [13] then ((x_J4_get g N h a40 (2 : Int32)).bind fun q43 => bif casB q43.2 q43.1 [5] then (bif clB q43.2 x0 [2] then ((ρ.2.2.2.1 q43.2 x0 q43.1 r2 x3).bind fun q47 => x_X3_invocation_121 g N ρ  q47.2 x0 (some a36) r2 x3 x4 x5 s0 q47.1) else none) else none) else none)) else (some (s0, h))
theorem p_x_X3_invocation_80 (g : AG) (hst : (gL g).stackTraces = false) (N : Nat) (ρ : R_X3) (n : Nat) (hρ : Ok_X3 g n ρ) : ∀ (h : AH) (x0 : Nat) (r1 : Option Nat) (r2 : Option Nat) (x3 : Int32) (x4 : Int32) (x5 : Int32) (s0 : Int32) (q : (Int32 × AH)), x_X3_invocation_80 g N ρ h x0 r1 r2 x3 x4 x5 s0 = some q → AW g YX3_invocation (10 + n + 1) (xI q) h [some (.ref x0), some (va_rf r1), some (va_rf r2), some (.int x3), some (.int x4), some (.int x5), none, none, none] 80 [.int s0] := by
  intro h x0 r1 r2 x3 x4 x5 s0 q hq
  unfold x_X3_invocation_80 at hq
  refine aw_istore (loc' := [some (.ref x0), some (va_rf r1), some (va_rf r2), some (.int x3), some (.int x4), some (.int x5), some (.int s0), none, none]) dX3_invocation_80 (Nat.le_of_ble_eq_true rfl) rfl ?_
  refine aw_aload_n (i := 0) dX3_invocation_82 rfl rfl trivial ?_
  replace hq := obind hq
  obtain ⟨i15, e16, hq⟩ := hq
  refine xw_getI e16 fX3_85 dX3_invocation_83 ?_
  refine aw_if_eq (tgt := 92) dX3_invocation_86 (by decide) (fun c17 => ?_) (fun c17 => ?_)
  · rw [if_pos c17] at hq
    refine aw_iload dX3_invocation_92 rfl ?_
    refine aw_iconst (v := 2) dX3_invocation_94 (by decide) ?_
    refine aw_icmp_le (tgt := 120) dX3_invocation_95 (by decide) (fun c18 => ?_) (fun c18 => ?_)
    · rw [if_pos c18] at hq
      refine aw_iconst (v := 0) dX3_invocation_120 (by decide) ?_
      exact p_x_X3_invocation_121 g hst N ρ n hρ   h x0 r1 r2 x3 x4 x5 s0 (0 : Int32) _ hq
    · rw [if_neg c18] at hq
      refine aw_aload_n (i := 0) dX3_invocation_98 rfl rfl trivial ?_
      refine aw_aload_n (i := 1) dX3_invocation_99 rfl rfl (aIsR_rf _) ?_
      replace hq := obind hq
      obtain ⟨a36, e37, hq⟩ := hq
      subst e37
      replace hq := obind hq
      obtain ⟨o38, e39, hq⟩ := hq
      refine xw_getR e39 fX3_99 dX3_invocation_100 ?_
      refine aw_iconst (v := 2) dX3_invocation_103 (by decide) ?_
      replace hq := obind hq
      obtain ⟨a40, e41, hq⟩ := hq
      subst e41
      replace hq := cond_t hq
      obtain ⟨z42, hq⟩ := hq
      obtain ⟨fs9, ha9⟩ := clB1 z42
      replace hq := obind hq
      obtain ⟨q43, e44, hq⟩ := hq
      refine aw_callF (Y2 := YJ4_get) (As := [.int (2 : Int32)]) (rest := [.ref x0]) (r := (RJ4, TJ4, 3)) (x := ⟨"java/util/List", "get", "(I)Ljava/lang/Object;"⟩) kJ4_get ha9 rfl (by decide) (by decide) ⟨by decide +kernel, by decide +kernel, by decide +kernel⟩ q2101 q2004 q2002 dX3_invocation_104 rfl rfl (ct_J4_get g hst N h a40 (2 : Int32) _ e44) (by omega) (Nat.le_of_ble_eq_true rfl) (fun v9 h9 z9 y9 => ?_)
      obtain ⟨rfl, rfl⟩ := y9
      refine aw_st (st' := [va_rf q43.1, .ref x0]) rfl ?_
      replace hq := cond_t hq
      obtain ⟨z45, hq⟩ := hq
      refine xw_cast (r := q43.1) z45 q2102 casProbeConsole_Node dX3_invocation_109 ?_
      refine aw_aload_n (i := 2) dX3_invocation_112 rfl rfl (aIsR_rf _) ?_
      refine aw_iload_n (i := 3) dX3_invocation_113 rfl rfl ?_
      replace hq := cond_t hq
      obtain ⟨z46, hq⟩ := hq
      obtain ⟨fs9, ha9⟩ := clB1 z46
      replace hq := obind hq
      obtain ⟨q47, e48, hq⟩ := hq
      refine aw_callV (Y2 := YX3_value) (As := [va_rf q43.1, va_rf r2, .int x3]) (rest := []) (r := (RX3, TX3, 10)) kX3_value ha9 rfl rfl q2091 q2093 qs48 dX3_invocation_114 rfl rfl (hρ.2.2.2.1 q43.2 x0 q43.1 r2 x3 _ e48) (Nat.le_refl _) (Nat.le_of_ble_eq_true rfl) (fun v9 h9 z9 y9 => ?_)
      obtain ⟨rfl, rfl⟩ := y9
      refine aw_st (st' := [.int q47.1]) rfl ?_
      refine aw_goto (tgt := 121) dX3_invocation_117 (by decide) ?_
      exact p_x_X3_invocation_121 g hst N ρ n hρ   q47.2 x0 (some a36) r2 x3 x4 x5 s0 q47.1 _ hq
  · rw [if_neg c17] at hq
    refine aw_iload dX3_invocation_89 rfl ?_
    cases hq
    exact aw_ireturn dX3_invocation_91 rfl rfl ⟨rfl, rfl⟩
def x_X3_invocation_39 (g : AG) (N : Nat) (ρ : R_X3) (h : AH) (x0 : Nat) (r1 : Option Nat) (r2 : Option Nat) (x3 : Int32) (x4 : Int32) (s0 : Int32) : Option (Int32 × AH) :=
  (rdI h x0 [(2, 5)]).bind fun i11 => if i11 = 0 then (if x4 ≤ (1 : Int32) then (x_X3_invocation_80 g N ρ  h x0 r1 r2 x3 x4 s0 (0 : Int32)) else ((r1).bind fun a49 => (rdR h a49 [(5, 3)]).bind fun o51 => (o51).bind fun a53 => bif clB h a53 [13] then ((x_J4_get g N h a53 (1 : Int32)).bind fun q56 => bif casB q56.2 q56.1 [5] then (bif clB q56.2 x0 [2] then ((ρ.2.2.2.1 q56.2 x0 q56.1 r2 x3).bind fun q60 => x_X3_invocation_80 g N ρ  q60.2 x0 (some a49) r2 x3 x4 s0 q60.1) else none) else none) else none)) else (some (s0, h))
theorem p_x_X3_invocation_39 (g : AG) (hst : (gL g).stackTraces = false) (N : Nat) (ρ : R_X3) (n : Nat) (hρ : Ok_X3 g n ρ) : ∀ (h : AH) (x0 : Nat) (r1 : Option Nat) (r2 : Option Nat) (x3 : Int32) (x4 : Int32) (s0 : Int32) (q : (Int32 × AH)), x_X3_invocation_39 g N ρ h x0 r1 r2 x3 x4 s0 = some q → AW g YX3_invocation (10 + n + 1) (xI q) h [some (.ref x0), some (va_rf r1), some (va_rf r2), some (.int x3), some (.int x4), none, none, none, none] 39 [.int s0] := by
  intro h x0 r1 r2 x3 x4 s0 q hq
  unfold x_X3_invocation_39 at hq
  refine aw_istore (loc' := [some (.ref x0), some (va_rf r1), some (va_rf r2), some (.int x3), some (.int x4), some (.int s0), none, none, none]) dX3_invocation_39 (Nat.le_of_ble_eq_true rfl) rfl ?_
  refine aw_aload_n (i := 0) dX3_invocation_41 rfl rfl trivial ?_
  replace hq := obind hq
  obtain ⟨i11, e12, hq⟩ := hq
  refine xw_getI e12 fX3_85 dX3_invocation_42 ?_
  refine aw_if_eq (tgt := 51) dX3_invocation_45 (by decide) (fun c13 => ?_) (fun c13 => ?_)
  · rw [if_pos c13] at hq
    refine aw_iload dX3_invocation_51 rfl ?_
    refine aw_iconst (v := 1) dX3_invocation_53 (by decide) ?_
    refine aw_icmp_le (tgt := 79) dX3_invocation_54 (by decide) (fun c14 => ?_) (fun c14 => ?_)
    · rw [if_pos c14] at hq
      refine aw_iconst (v := 0) dX3_invocation_79 (by decide) ?_
      exact p_x_X3_invocation_80 g hst N ρ n hρ   h x0 r1 r2 x3 x4 s0 (0 : Int32) _ hq
    · rw [if_neg c14] at hq
      refine aw_aload_n (i := 0) dX3_invocation_57 rfl rfl trivial ?_
      refine aw_aload_n (i := 1) dX3_invocation_58 rfl rfl (aIsR_rf _) ?_
      replace hq := obind hq
      obtain ⟨a49, e50, hq⟩ := hq
      subst e50
      replace hq := obind hq
      obtain ⟨o51, e52, hq⟩ := hq
      refine xw_getR e52 fX3_99 dX3_invocation_59 ?_
      refine aw_iconst (v := 1) dX3_invocation_62 (by decide) ?_
      replace hq := obind hq
      obtain ⟨a53, e54, hq⟩ := hq
      subst e54
      replace hq := cond_t hq
      obtain ⟨z55, hq⟩ := hq
      obtain ⟨fs9, ha9⟩ := clB1 z55
      replace hq := obind hq
      obtain ⟨q56, e57, hq⟩ := hq
      refine aw_callF (Y2 := YJ4_get) (As := [.int (1 : Int32)]) (rest := [.ref x0]) (r := (RJ4, TJ4, 3)) (x := ⟨"java/util/List", "get", "(I)Ljava/lang/Object;"⟩) kJ4_get ha9 rfl (by decide) (by decide) ⟨by decide +kernel, by decide +kernel, by decide +kernel⟩ q2101 q2004 q2002 dX3_invocation_63 rfl rfl (ct_J4_get g hst N h a53 (1 : Int32) _ e57) (by omega) (Nat.le_of_ble_eq_true rfl) (fun v9 h9 z9 y9 => ?_)
      obtain ⟨rfl, rfl⟩ := y9
      refine aw_st (st' := [va_rf q56.1, .ref x0]) rfl ?_
      replace hq := cond_t hq
      obtain ⟨z58, hq⟩ := hq
      refine xw_cast (r := q56.1) z58 q2102 casProbeConsole_Node dX3_invocation_68 ?_
      refine aw_aload_n (i := 2) dX3_invocation_71 rfl rfl (aIsR_rf _) ?_
      refine aw_iload_n (i := 3) dX3_invocation_72 rfl rfl ?_
      replace hq := cond_t hq
      obtain ⟨z59, hq⟩ := hq
      obtain ⟨fs9, ha9⟩ := clB1 z59
      replace hq := obind hq
      obtain ⟨q60, e61, hq⟩ := hq
      refine aw_callV (Y2 := YX3_value) (As := [va_rf q56.1, va_rf r2, .int x3]) (rest := []) (r := (RX3, TX3, 10)) kX3_value ha9 rfl rfl q2091 q2093 qs48 dX3_invocation_73 rfl rfl (hρ.2.2.2.1 q56.2 x0 q56.1 r2 x3 _ e61) (Nat.le_refl _) (Nat.le_of_ble_eq_true rfl) (fun v9 h9 z9 y9 => ?_)
      obtain ⟨rfl, rfl⟩ := y9
      refine aw_st (st' := [.int q60.1]) rfl ?_
      refine aw_goto (tgt := 80) dX3_invocation_76 (by decide) ?_
      exact p_x_X3_invocation_80 g hst N ρ n hρ   q60.2 x0 (some a49) r2 x3 x4 s0 q60.1 _ hq
  · rw [if_neg c13] at hq
    refine aw_iload dX3_invocation_48 rfl ?_
    cases hq
    exact aw_ireturn dX3_invocation_50 rfl rfl ⟨rfl, rfl⟩
def xb_X3_invocation (g : AG) (N : Nat) (ρ : R_X3) (h : AH) (x0 : Nat) (r1 : Option Nat) (r2 : Option Nat) (x3 : Int32) : Option (Int32 × AH) :=
  (r1).bind fun a1 => (rdR h a1 [(5, 3)]).bind fun o3 => (o3).bind fun a5 => bif clB h a5 [13] then ((x_J4_size g N h a5).bind fun q8 => if q8.1 ≤ 0 then (x_X3_invocation_39 g N ρ  q8.2 x0 (some a1) r2 x3 q8.1 (0 : Int32)) else ((rdR q8.2 a1 [(5, 3)]).bind fun o62 => (o62).bind fun a64 => bif clB q8.2 a64 [13] then ((x_J4_get g N q8.2 a64 (0 : Int32)).bind fun q67 => bif casB q67.2 q67.1 [5] then (bif clB q67.2 x0 [2] then ((ρ.2.2.2.1 q67.2 x0 q67.1 r2 x3).bind fun q71 => x_X3_invocation_39 g N ρ  q71.2 x0 (some a1) r2 x3 q8.1 q71.1) else none) else none) else none)) else none
theorem cb_X3_invocation (g : AG) (hst : (gL g).stackTraces = false) (N : Nat) (ρ : R_X3) (n : Nat) (hρ : Ok_X3 g n ρ) : ∀ (h : AH) (x0 : Nat) (r1 : Option Nat) (r2 : Option Nat) (x3 : Int32) (q : (Int32 × AH)), xb_X3_invocation g N ρ h x0 r1 r2 x3 = some q → CT g YX3_invocation (10 + n + 1) [.ref x0, va_rf r1, va_rf r2, .int x3] h (xI q) := by
  intro h x0 r1 r2 x3 q hq
  refine CT.of rfl (by decide +kernel) (loc := [some (.ref x0), some (va_rf r1), some (va_rf r2), some (.int x3), none, none, none, none, none]) (by first | exact Nat.le_of_ble_eq_true rfl | (simp only [lgl_rf, lgl_i, lgl_j, lgl_ref, lgl_nil]; exact Nat.le_of_ble_eq_true rfl)) (by first | rfl | (simp only [aent_rf, aent_i, aent_j, aent_ref, aent_nil]; rfl)) ?_
  unfold xb_X3_invocation at hq
  refine aw_aload_n (i := 1) dX3_invocation_0 rfl rfl (aIsR_rf _) ?_
  replace hq := obind hq
  obtain ⟨a1, e2, hq⟩ := hq
  subst e2
  replace hq := obind hq
  obtain ⟨o3, e4, hq⟩ := hq
  refine xw_getR e4 fX3_99 dX3_invocation_1 ?_
  replace hq := obind hq
  obtain ⟨a5, e6, hq⟩ := hq
  subst e6
  replace hq := cond_t hq
  obtain ⟨z7, hq⟩ := hq
  obtain ⟨fs9, ha9⟩ := clB1 z7
  replace hq := obind hq
  obtain ⟨q8, e9, hq⟩ := hq
  refine aw_callF (Y2 := YJ4_size) (As := []) (rest := []) (r := (RJ4, TJ4, 3)) (x := ⟨"java/util/List", "size", "()I"⟩) kJ4_size ha9 rfl (by decide) (by decide) ⟨by decide +kernel, by decide +kernel, by decide +kernel⟩ q2053 q384 q382 dX3_invocation_4 rfl rfl (ct_J4_size g hst N h a5 _ e9) (by omega) (Nat.le_of_ble_eq_true rfl) (fun v9 h9 z9 y9 => ?_)
  obtain ⟨rfl, rfl⟩ := y9
  refine aw_st (st' := [.int q8.1]) rfl ?_
  refine aw_istore (loc' := [some (.ref x0), some (.ref a1), some (va_rf r2), some (.int x3), some (.int q8.1), none, none, none, none]) dX3_invocation_9 (Nat.le_of_ble_eq_true rfl) rfl ?_
  refine aw_iload dX3_invocation_11 rfl ?_
  refine aw_if_le (tgt := 38) dX3_invocation_13 (by decide) (fun c10 => ?_) (fun c10 => ?_)
  · rw [if_pos c10] at hq
    refine aw_iconst (v := 0) dX3_invocation_38 (by decide) ?_
    exact p_x_X3_invocation_39 g hst N ρ n hρ   q8.2 x0 (some a1) r2 x3 q8.1 (0 : Int32) _ hq
  · rw [if_neg c10] at hq
    refine aw_aload_n (i := 0) dX3_invocation_16 rfl rfl trivial ?_
    refine aw_aload_n (i := 1) dX3_invocation_17 rfl rfl trivial ?_
    replace hq := obind hq
    obtain ⟨o62, e63, hq⟩ := hq
    refine xw_getR e63 fX3_99 dX3_invocation_18 ?_
    refine aw_iconst (v := 0) dX3_invocation_21 (by decide) ?_
    replace hq := obind hq
    obtain ⟨a64, e65, hq⟩ := hq
    subst e65
    replace hq := cond_t hq
    obtain ⟨z66, hq⟩ := hq
    obtain ⟨fs9, ha9⟩ := clB1 z66
    replace hq := obind hq
    obtain ⟨q67, e68, hq⟩ := hq
    refine aw_callF (Y2 := YJ4_get) (As := [.int (0 : Int32)]) (rest := [.ref x0]) (r := (RJ4, TJ4, 3)) (x := ⟨"java/util/List", "get", "(I)Ljava/lang/Object;"⟩) kJ4_get ha9 rfl (by decide) (by decide) ⟨by decide +kernel, by decide +kernel, by decide +kernel⟩ q2101 q2004 q2002 dX3_invocation_22 rfl rfl (ct_J4_get g hst N q8.2 a64 (0 : Int32) _ e68) (by omega) (Nat.le_of_ble_eq_true rfl) (fun v9 h9 z9 y9 => ?_)
    obtain ⟨rfl, rfl⟩ := y9
    refine aw_st (st' := [va_rf q67.1, .ref x0]) rfl ?_
    replace hq := cond_t hq
    obtain ⟨z69, hq⟩ := hq
    refine xw_cast (r := q67.1) z69 q2102 casProbeConsole_Node dX3_invocation_27 ?_
    refine aw_aload_n (i := 2) dX3_invocation_30 rfl rfl (aIsR_rf _) ?_
    refine aw_iload_n (i := 3) dX3_invocation_31 rfl rfl ?_
    replace hq := cond_t hq
    obtain ⟨z70, hq⟩ := hq
    obtain ⟨fs9, ha9⟩ := clB1 z70
    replace hq := obind hq
    obtain ⟨q71, e72, hq⟩ := hq
    refine aw_callV (Y2 := YX3_value) (As := [va_rf q67.1, va_rf r2, .int x3]) (rest := []) (r := (RX3, TX3, 10)) kX3_value ha9 rfl rfl q2091 q2093 qs48 dX3_invocation_32 rfl rfl (hρ.2.2.2.1 q67.2 x0 q67.1 r2 x3 _ e72) (Nat.le_refl _) (Nat.le_of_ble_eq_true rfl) (fun v9 h9 z9 y9 => ?_)
    obtain ⟨rfl, rfl⟩ := y9
    refine aw_st (st' := [.int q71.1]) rfl ?_
    refine aw_goto (tgt := 39) dX3_invocation_35 (by decide) ?_
    exact p_x_X3_invocation_39 g hst N ρ n hρ   q71.2 x0 (some a1) r2 x3 q8.1 q71.1 _ hq
theorem kX3_value : aMk YX3_value 3 := ⟨rfl, q2094, q118, ⟨by decide +kernel, by decide +kernel, by decide +kernel⟩, Nat.le_of_ble_eq_true rfl⟩
def x_X3_value_79 (g : AG) (N : Nat) (ρ : R_X3) (h : AH) (x0 : Nat) (r1 : Option Nat) (r2 : Option Nat) (x3 : Int32) : Option (Int32 × AH) :=
  (r1).bind fun a33 => (rdR h a33 [(5, 3)]).bind fun o35 => (o35).bind fun a37 => bif clB h a37 [13] then ((x_J4_get g N h a37 (0 : Int32)).bind fun q40 => bif casB q40.2 q40.1 [5] then (bif clB q40.2 x0 [2] then ((ρ.2.2.2.1 q40.2 x0 q40.1 r2 x3).bind fun q44 => (rdI q44.2 x0 [(2, 5)]).bind fun i46 => if i46 = 0 then ((rdR q44.2 a33 [(5, 0)]).bind fun o49 => (vR (gV g 4)).bind fun o51 => if o49 = o51 then (bif clB q44.2 x0 [2] then ((x_X3_fail g N q44.2 x0 q44.1).bind fun q55 => some (q55.1, q55.2)) else none) else (some ((-q44.1), q44.2))) else (some (q44.1, q44.2))) else none) else none) else none
theorem p_x_X3_value_79 (g : AG) (hst : (gL g).stackTraces = false) (N : Nat) (ρ : R_X3) (n : Nat) (hρ : Ok_X3 g n ρ) : ∀ (h : AH) (x0 : Nat) (r1 : Option Nat) (r2 : Option Nat) (x3 : Int32) (q : (Int32 × AH)), x_X3_value_79 g N ρ h x0 r1 r2 x3 = some q → AW g YX3_value (10 + n + 1) (xI q) h [some (.ref x0), some (va_rf r1), some (va_rf r2), some (.int x3), none] 79 [] := by
  intro h x0 r1 r2 x3 q hq
  unfold x_X3_value_79 at hq
  refine aw_aload_n (i := 0) dX3_value_79 rfl rfl trivial ?_
  refine aw_aload_n (i := 1) dX3_value_80 rfl rfl (aIsR_rf _) ?_
  replace hq := obind hq
  obtain ⟨a33, e34, hq⟩ := hq
  subst e34
  replace hq := obind hq
  obtain ⟨o35, e36, hq⟩ := hq
  refine xw_getR e36 fX3_99 dX3_value_81 ?_
  refine aw_iconst (v := 0) dX3_value_84 (by decide) ?_
  replace hq := obind hq
  obtain ⟨a37, e38, hq⟩ := hq
  subst e38
  replace hq := cond_t hq
  obtain ⟨z39, hq⟩ := hq
  obtain ⟨fs9, ha9⟩ := clB1 z39
  replace hq := obind hq
  obtain ⟨q40, e41, hq⟩ := hq
  refine aw_callF (Y2 := YJ4_get) (As := [.int (0 : Int32)]) (rest := [.ref x0]) (r := (RJ4, TJ4, 3)) (x := ⟨"java/util/List", "get", "(I)Ljava/lang/Object;"⟩) kJ4_get ha9 rfl (by decide) (by decide) ⟨by decide +kernel, by decide +kernel, by decide +kernel⟩ q2101 q2004 q2002 dX3_value_85 rfl rfl (ct_J4_get g hst N h a37 (0 : Int32) _ e41) (by omega) (Nat.le_of_ble_eq_true rfl) (fun v9 h9 z9 y9 => ?_)
  obtain ⟨rfl, rfl⟩ := y9
  refine aw_st (st' := [va_rf q40.1, .ref x0]) rfl ?_
  replace hq := cond_t hq
  obtain ⟨z42, hq⟩ := hq
  refine xw_cast (r := q40.1) z42 q2102 casProbeConsole_Node dX3_value_90 ?_
  refine aw_aload_n (i := 2) dX3_value_93 rfl rfl (aIsR_rf _) ?_
  refine aw_iload_n (i := 3) dX3_value_94 rfl rfl ?_
  replace hq := cond_t hq
  obtain ⟨z43, hq⟩ := hq
  obtain ⟨fs9, ha9⟩ := clB1 z43
  replace hq := obind hq
  obtain ⟨q44, e45, hq⟩ := hq
  refine aw_callV (Y2 := YX3_value) (As := [va_rf q40.1, va_rf r2, .int x3]) (rest := []) (r := (RX3, TX3, 10)) kX3_value ha9 rfl rfl q2091 q2093 qs48 dX3_value_95 rfl rfl (hρ.2.2.2.1 q40.2 x0 q40.1 r2 x3 _ e45) (Nat.le_refl _) (Nat.le_of_ble_eq_true rfl) (fun v9 h9 z9 y9 => ?_)
  obtain ⟨rfl, rfl⟩ := y9
  refine aw_st (st' := [.int q44.1]) rfl ?_
  refine aw_istore (loc' := [some (.ref x0), some (.ref a33), some (va_rf r2), some (.int x3), some (.int q44.1)]) dX3_value_98 (Nat.le_of_ble_eq_true rfl) rfl ?_
  refine aw_aload_n (i := 0) dX3_value_100 rfl rfl trivial ?_
  replace hq := obind hq
  obtain ⟨i46, e47, hq⟩ := hq
  refine xw_getI e47 fX3_85 dX3_value_101 ?_
  refine aw_if_eq (tgt := 112) dX3_value_104 (by decide) (fun c48 => ?_) (fun c48 => ?_)
  · rw [if_pos c48] at hq
    refine aw_aload_n (i := 1) dX3_value_112 rfl rfl trivial ?_
    replace hq := obind hq
    obtain ⟨o49, e50, hq⟩ := hq
    refine xw_getR e50 fX3_108 dX3_value_113 ?_
    replace hq := obind hq
    obtain ⟨o51, e52, hq⟩ := hq
    refine xw_gets (i := 4) (vR_eq e52) rfl q2113 dX3_value_116 rfl ?_
    refine xw_acmp_ne (v := o49) (w := o51) (tgt := 131) dX3_value_119 (by decide) (fun c53 => ?_) (fun c53 => ?_)
    · rw [if_neg c53] at hq
      refine aw_iload dX3_value_131 rfl ?_
      refine aw_ineg dX3_value_133 ?_
      cases hq
      exact aw_ireturn dX3_value_134 rfl rfl ⟨rfl, rfl⟩
    · rw [if_pos c53] at hq
      refine aw_aload_n (i := 0) dX3_value_122 rfl rfl trivial ?_
      refine aw_iload dX3_value_123 rfl ?_
      replace hq := cond_t hq
      obtain ⟨z54, hq⟩ := hq
      obtain ⟨fs9, ha9⟩ := clB1 z54
      replace hq := obind hq
      obtain ⟨q55, e56, hq⟩ := hq
      refine aw_callV (Y2 := YX3_fail) (As := [.int q44.1]) (rest := []) (r := (RX3, TX3, 10)) kX3_fail ha9 rfl rfl q2028 q2030 qs44 dX3_value_125 rfl rfl (ct_X3_fail g hst N q44.2 x0 q44.1 _ e56) (by omega) (Nat.le_of_ble_eq_true rfl) (fun v9 h9 z9 y9 => ?_)
      obtain ⟨rfl, rfl⟩ := y9
      refine aw_st (st' := [.int q55.1]) rfl ?_
      refine aw_goto (tgt := 134) dX3_value_128 (by decide) ?_
      cases hq
      exact aw_ireturn dX3_value_134 rfl rfl ⟨rfl, rfl⟩
  · rw [if_neg c48] at hq
    refine aw_iload dX3_value_107 rfl ?_
    refine aw_goto (tgt := 134) dX3_value_109 (by decide) ?_
    cases hq
    exact aw_ireturn dX3_value_134 rfl rfl ⟨rfl, rfl⟩
def x_X3_value_183 (g : AG) (N : Nat) (ρ : R_X3) (h : AH) (x0 : Nat) (r1 : Option Nat) (r2 : Option Nat) (x3 : Int32) (x4 : Int32) (t1 : Option Nat) (s2 : Int32) : Option (Int32 × AH) :=
  (t1).bind fun a76 => bif clB h a76 [13] then ((x_J4_get g N h a76 s2).bind fun q79 => bif casB q79.2 q79.1 [5] then (bif clB q79.2 x0 [2] then ((ρ.2.2.2.1 q79.2 x0 q79.1 r2 x3).bind fun q83 => some (q83.1, q83.2)) else none) else none) else none
theorem p_x_X3_value_183 (g : AG) (hst : (gL g).stackTraces = false) (N : Nat) (ρ : R_X3) (n : Nat) (hρ : Ok_X3 g n ρ) : ∀ (h : AH) (x0 : Nat) (r1 : Option Nat) (r2 : Option Nat) (x3 : Int32) (x4 : Int32) (t1 : Option Nat) (s2 : Int32) (q : (Int32 × AH)), x_X3_value_183 g N ρ h x0 r1 r2 x3 x4 t1 s2 = some q → AW g YX3_value (10 + n + 1) (xI q) h [some (.ref x0), some (va_rf r1), some (va_rf r2), some (.int x3), some (.int x4)] 183 [.int s2, va_rf t1, .ref x0] := by
  intro h x0 r1 r2 x3 x4 t1 s2 q hq
  unfold x_X3_value_183 at hq
  replace hq := obind hq
  obtain ⟨a76, e77, hq⟩ := hq
  subst e77
  replace hq := cond_t hq
  obtain ⟨z78, hq⟩ := hq
  obtain ⟨fs9, ha9⟩ := clB1 z78
  replace hq := obind hq
  obtain ⟨q79, e80, hq⟩ := hq
  refine aw_callF (Y2 := YJ4_get) (As := [.int s2]) (rest := [.ref x0]) (r := (RJ4, TJ4, 3)) (x := ⟨"java/util/List", "get", "(I)Ljava/lang/Object;"⟩) kJ4_get ha9 rfl (by decide) (by decide) ⟨by decide +kernel, by decide +kernel, by decide +kernel⟩ q2101 q2004 q2002 dX3_value_183 rfl rfl (ct_J4_get g hst N h a76 s2 _ e80) (by omega) (Nat.le_of_ble_eq_true rfl) (fun v9 h9 z9 y9 => ?_)
  obtain ⟨rfl, rfl⟩ := y9
  refine aw_st (st' := [va_rf q79.1, .ref x0]) rfl ?_
  replace hq := cond_t hq
  obtain ⟨z81, hq⟩ := hq
  refine xw_cast (r := q79.1) z81 q2102 casProbeConsole_Node dX3_value_188 ?_
  refine aw_aload_n (i := 2) dX3_value_191 rfl rfl (aIsR_rf _) ?_
  refine aw_iload_n (i := 3) dX3_value_192 rfl rfl ?_
  replace hq := cond_t hq
  obtain ⟨z82, hq⟩ := hq
  obtain ⟨fs9, ha9⟩ := clB1 z82
  replace hq := obind hq
  obtain ⟨q83, e84, hq⟩ := hq
  refine aw_callV (Y2 := YX3_value) (As := [va_rf q79.1, va_rf r2, .int x3]) (rest := []) (r := (RX3, TX3, 10)) kX3_value ha9 rfl rfl q2091 q2093 qs48 dX3_value_193 rfl rfl (hρ.2.2.2.1 q79.2 x0 q79.1 r2 x3 _ e84) (Nat.le_refl _) (Nat.le_of_ble_eq_true rfl) (fun v9 h9 z9 y9 => ?_)
  obtain ⟨rfl, rfl⟩ := y9
  refine aw_st (st' := [.int q83.1]) rfl ?_
  cases hq
  exact aw_ireturn dX3_value_196 rfl rfl ⟨rfl, rfl⟩
def xb_X3_value (g : AG) (N : Nat) (ρ : R_X3) (h : AH) (x0 : Nat) (r1 : Option Nat) (r2 : Option Nat) (x3 : Int32) : Option (Int32 × AH) :=
  (r1).bind fun a1 => (rdR h a1 [(5, 0)]).bind fun o3 => (o3).bind fun a5 => bif clB h a5 [19] then ((x_J22_ordinal g N h a5).bind fun q8 => if q8.1.toInt < 0 ∨ 6 < q8.1.toInt then (bif clB q8.2 x0 [2] then ((ρ.1 q8.2 x0 (some a1) r2 x3).bind fun q12 => some (q12.1, q12.2)) else none) else (if q8.1 = 0 then ((rdI q8.2 a1 [(5, 1)]).bind fun i15 => some (i15, q8.2)) else (if q8.1 = 1 then ((r2).bind fun a18 => (rdR q8.2 a18 [(3, 0)]).bind fun o20 => (rdI q8.2 a1 [(5, 1)]).bind fun i22 => (o20).bind fun a24 => ((rdA q8.2 a24 0 i22).bind vI).bind fun i26 => some (i26, q8.2)) else (if q8.1 = 2 then (bif clB q8.2 x0 [2] then ((ρ.2.2.1 q8.2 x0 (some a1) r2 x3).bind fun q30 => some (q30.1, q30.2)) else none) else (if q8.1 = 3 then (x_X3_value_79 g N ρ  q8.2 x0 (some a1) r2 x3) else (if q8.1 = 4 then (x_X3_value_79 g N ρ  q8.2 x0 (some a1) r2 x3) else (if q8.1 = 5 then ((rdR q8.2 a1 [(5, 3)]).bind fun o59 => (o59).bind fun a61 => bif clB q8.2 a61 [13] then ((x_J4_get g N q8.2 a61 (0 : Int32)).bind fun q64 => bif casB q64.2 q64.1 [5] then (bif clB q64.2 x0 [2] then ((ρ.2.2.2.1 q64.2 x0 q64.1 r2 x3).bind fun q68 => (rdI q68.2 x0 [(2, 5)]).bind fun i70 => if i70 = 0 then ((rdR q68.2 a1 [(5, 3)]).bind fun o73 => if q68.1 = 0 then (x_X3_value_183 g N ρ  q68.2 x0 (some a1) r2 x3 q68.1 o73 (2 : Int32)) else (x_X3_value_183 g N ρ  q68.2 x0 (some a1) r2 x3 q68.1 o73 (1 : Int32))) else (some (q68.1, q68.2))) else none) else none) else none) else (if q8.1 = 6 then (bif clB q8.2 x0 [2] then ((ρ.2.1 q8.2 x0 (some a1) r2 x3).bind fun q87 => some (q87.1, q87.2)) else none) else (none))))))))) else none
theorem cb_X3_value (g : AG) (hst : (gL g).stackTraces = false) (N : Nat) (ρ : R_X3) (n : Nat) (hρ : Ok_X3 g n ρ) : ∀ (h : AH) (x0 : Nat) (r1 : Option Nat) (r2 : Option Nat) (x3 : Int32) (q : (Int32 × AH)), xb_X3_value g N ρ h x0 r1 r2 x3 = some q → CT g YX3_value (10 + n + 1) [.ref x0, va_rf r1, va_rf r2, .int x3] h (xI q) := by
  intro h x0 r1 r2 x3 q hq
  refine CT.of rfl (by decide +kernel) (loc := [some (.ref x0), some (va_rf r1), some (va_rf r2), some (.int x3), none]) (by first | exact Nat.le_of_ble_eq_true rfl | (simp only [lgl_rf, lgl_i, lgl_j, lgl_ref, lgl_nil]; exact Nat.le_of_ble_eq_true rfl)) (by first | rfl | (simp only [aent_rf, aent_i, aent_j, aent_ref, aent_nil]; rfl)) ?_
  unfold xb_X3_value at hq
  refine aw_aload_n (i := 1) dX3_value_0 rfl rfl (aIsR_rf _) ?_
  replace hq := obind hq
  obtain ⟨a1, e2, hq⟩ := hq
  subst e2
  replace hq := obind hq
  obtain ⟨o3, e4, hq⟩ := hq
  refine xw_getR e4 fX3_108 dX3_value_1 ?_
  replace hq := obind hq
  obtain ⟨a5, e6, hq⟩ := hq
  subst e6
  replace hq := cond_t hq
  obtain ⟨z7, hq⟩ := hq
  obtain ⟨fs9, ha9⟩ := clB1 z7
  replace hq := obind hq
  obtain ⟨q8, e9, hq⟩ := hq
  refine aw_callU (Y2 := YJ22_ordinal) (As := []) (rest := []) (r := (RX7, TX7, 1)) (x := ⟨"ProbeConsole$Kind", "ordinal", "()I"⟩) kJ22_ordinal ha9 rfl rfl q2095 q1058 q1061 q1060 dX3_value_4 rfl rfl (ct_J22_ordinal g hst N h a5 _ e9) (by omega) (Nat.le_of_ble_eq_true rfl) (fun v9 h9 z9 y9 => ?_)
  obtain ⟨rfl, rfl⟩ := y9
  refine aw_st (st' := [.int q8.1]) rfl ?_
  by_cases c10 : q8.1.toInt < 0 ∨ 6 < q8.1.toInt
  · rw [if_pos c10] at hq
    refine aw_tableOut (tgt := 197) dX3_value_7 c10 (by decide) ?_
    refine aw_aload_n (i := 0) dX3_value_197 rfl rfl trivial ?_
    refine aw_aload_n (i := 1) dX3_value_198 rfl rfl trivial ?_
    refine aw_aload_n (i := 2) dX3_value_199 rfl rfl (aIsR_rf _) ?_
    refine aw_iload_n (i := 3) dX3_value_200 rfl rfl ?_
    replace hq := cond_t hq
    obtain ⟨z11, hq⟩ := hq
    obtain ⟨fs9, ha9⟩ := clB1 z11
    replace hq := obind hq
    obtain ⟨q12, e13, hq⟩ := hq
    refine aw_callV (Y2 := YX3_two) (As := [.ref a1, va_rf r2, .int x3]) (rest := []) (r := (RX3, TX3, 10)) kX3_two ha9 rfl rfl q2114 q2116 qs52 dX3_value_201 rfl rfl (hρ.1 q8.2 x0 (some a1) r2 x3 _ e13) (Nat.le_refl _) (Nat.le_of_ble_eq_true rfl) (fun v9 h9 z9 y9 => ?_)
    obtain ⟨rfl, rfl⟩ := y9
    refine aw_st (st' := [.int q12.1]) rfl ?_
    cases hq
    exact aw_ireturn dX3_value_204 rfl rfl ⟨rfl, rfl⟩
  rw [if_neg c10] at hq
  by_cases c14 : q8.1 = 0
  · rw [if_pos c14] at hq
    refine aw_tableIn (off := 41) (tgt := 48) dX3_value_7 (by rw [c14]; decide) (by rw [c14]; decide) (by rw [c14]; rfl) (by decide) ?_
    refine aw_aload_n (i := 1) dX3_value_48 rfl rfl trivial ?_
    replace hq := obind hq
    obtain ⟨i15, e16, hq⟩ := hq
    refine xw_getI e16 fX3_130 dX3_value_49 ?_
    cases hq
    exact aw_ireturn dX3_value_52 rfl rfl ⟨rfl, rfl⟩
  rw [if_neg c14] at hq
  by_cases c17 : q8.1 = 1
  · rw [if_pos c17] at hq
    refine aw_tableIn (off := 46) (tgt := 53) dX3_value_7 (by rw [c17]; decide) (by rw [c17]; decide) (by rw [c17]; rfl) (by decide) ?_
    refine aw_aload_n (i := 2) dX3_value_53 rfl rfl (aIsR_rf _) ?_
    replace hq := obind hq
    obtain ⟨a18, e19, hq⟩ := hq
    subst e19
    replace hq := obind hq
    obtain ⟨o20, e21, hq⟩ := hq
    refine xw_getR e21 fX3_132 dX3_value_54 ?_
    refine aw_aload_n (i := 1) dX3_value_57 rfl rfl trivial ?_
    replace hq := obind hq
    obtain ⟨i22, e23, hq⟩ := hq
    refine xw_getI e23 fX3_130 dX3_value_58 ?_
    replace hq := obind hq
    obtain ⟨a24, e25, hq⟩ := hq
    subst e25
    replace hq := obind hq
    obtain ⟨i26, e27, hq⟩ := hq
    refine xw_iald e27 dX3_value_61 ?_
    cases hq
    exact aw_ireturn dX3_value_62 rfl rfl ⟨rfl, rfl⟩
  rw [if_neg c17] at hq
  by_cases c28 : q8.1 = 2
  · rw [if_pos c28] at hq
    refine aw_tableIn (off := 56) (tgt := 63) dX3_value_7 (by rw [c28]; decide) (by rw [c28]; decide) (by rw [c28]; rfl) (by decide) ?_
    refine aw_aload_n (i := 0) dX3_value_63 rfl rfl trivial ?_
    refine aw_aload_n (i := 1) dX3_value_64 rfl rfl trivial ?_
    refine aw_aload_n (i := 2) dX3_value_65 rfl rfl (aIsR_rf _) ?_
    refine aw_iload_n (i := 3) dX3_value_66 rfl rfl ?_
    replace hq := cond_t hq
    obtain ⟨z29, hq⟩ := hq
    obtain ⟨fs9, ha9⟩ := clB1 z29
    replace hq := obind hq
    obtain ⟨q30, e31, hq⟩ := hq
    refine aw_callV (Y2 := YX3_invocation) (As := [.ref a1, va_rf r2, .int x3]) (rest := []) (r := (RX3, TX3, 10)) kX3_invocation ha9 rfl rfl q2096 q2098 qs49 dX3_value_67 rfl rfl (hρ.2.2.1 q8.2 x0 (some a1) r2 x3 _ e31) (Nat.le_refl _) (Nat.le_of_ble_eq_true rfl) (fun v9 h9 z9 y9 => ?_)
    obtain ⟨rfl, rfl⟩ := y9
    refine aw_st (st' := [.int q30.1]) rfl ?_
    cases hq
    exact aw_ireturn dX3_value_70 rfl rfl ⟨rfl, rfl⟩
  rw [if_neg c28] at hq
  by_cases c32 : q8.1 = 3
  · rw [if_pos c32] at hq
    refine aw_tableIn (off := 72) (tgt := 79) dX3_value_7 (by rw [c32]; decide) (by rw [c32]; decide) (by rw [c32]; rfl) (by decide) ?_
    exact p_x_X3_value_79 g hst N ρ n hρ   q8.2 x0 (some a1) r2 x3 _ hq
  rw [if_neg c32] at hq
  by_cases c57 : q8.1 = 4
  · rw [if_pos c57] at hq
    refine aw_tableIn (off := 72) (tgt := 79) dX3_value_7 (by rw [c57]; decide) (by rw [c57]; decide) (by rw [c57]; rfl) (by decide) ?_
    exact p_x_X3_value_79 g hst N ρ n hρ   q8.2 x0 (some a1) r2 x3 _ hq
  rw [if_neg c57] at hq
  by_cases c58 : q8.1 = 5
  · rw [if_pos c58] at hq
    refine aw_tableIn (off := 128) (tgt := 135) dX3_value_7 (by rw [c58]; decide) (by rw [c58]; decide) (by rw [c58]; rfl) (by decide) ?_
    refine aw_aload_n (i := 0) dX3_value_135 rfl rfl trivial ?_
    refine aw_aload_n (i := 1) dX3_value_136 rfl rfl trivial ?_
    replace hq := obind hq
    obtain ⟨o59, e60, hq⟩ := hq
    refine xw_getR e60 fX3_99 dX3_value_137 ?_
    refine aw_iconst (v := 0) dX3_value_140 (by decide) ?_
    replace hq := obind hq
    obtain ⟨a61, e62, hq⟩ := hq
    subst e62
    replace hq := cond_t hq
    obtain ⟨z63, hq⟩ := hq
    obtain ⟨fs9, ha9⟩ := clB1 z63
    replace hq := obind hq
    obtain ⟨q64, e65, hq⟩ := hq
    refine aw_callF (Y2 := YJ4_get) (As := [.int (0 : Int32)]) (rest := [.ref x0]) (r := (RJ4, TJ4, 3)) (x := ⟨"java/util/List", "get", "(I)Ljava/lang/Object;"⟩) kJ4_get ha9 rfl (by decide) (by decide) ⟨by decide +kernel, by decide +kernel, by decide +kernel⟩ q2101 q2004 q2002 dX3_value_141 rfl rfl (ct_J4_get g hst N q8.2 a61 (0 : Int32) _ e65) (by omega) (Nat.le_of_ble_eq_true rfl) (fun v9 h9 z9 y9 => ?_)
    obtain ⟨rfl, rfl⟩ := y9
    refine aw_st (st' := [va_rf q64.1, .ref x0]) rfl ?_
    replace hq := cond_t hq
    obtain ⟨z66, hq⟩ := hq
    refine xw_cast (r := q64.1) z66 q2102 casProbeConsole_Node dX3_value_146 ?_
    refine aw_aload_n (i := 2) dX3_value_149 rfl rfl (aIsR_rf _) ?_
    refine aw_iload_n (i := 3) dX3_value_150 rfl rfl ?_
    replace hq := cond_t hq
    obtain ⟨z67, hq⟩ := hq
    obtain ⟨fs9, ha9⟩ := clB1 z67
    replace hq := obind hq
    obtain ⟨q68, e69, hq⟩ := hq
    refine aw_callV (Y2 := YX3_value) (As := [va_rf q64.1, va_rf r2, .int x3]) (rest := []) (r := (RX3, TX3, 10)) kX3_value ha9 rfl rfl q2091 q2093 qs48 dX3_value_151 rfl rfl (hρ.2.2.2.1 q64.2 x0 q64.1 r2 x3 _ e69) (Nat.le_refl _) (Nat.le_of_ble_eq_true rfl) (fun v9 h9 z9 y9 => ?_)
    obtain ⟨rfl, rfl⟩ := y9
    refine aw_st (st' := [.int q68.1]) rfl ?_
    refine aw_istore (loc' := [some (.ref x0), some (.ref a1), some (va_rf r2), some (.int x3), some (.int q68.1)]) dX3_value_154 (Nat.le_of_ble_eq_true rfl) rfl ?_
    refine aw_aload_n (i := 0) dX3_value_156 rfl rfl trivial ?_
    replace hq := obind hq
    obtain ⟨i70, e71, hq⟩ := hq
    refine xw_getI e71 fX3_85 dX3_value_157 ?_
    refine aw_if_eq (tgt := 168) dX3_value_160 (by decide) (fun c72 => ?_) (fun c72 => ?_)
    · rw [if_pos c72] at hq
      refine aw_aload_n (i := 0) dX3_value_168 rfl rfl trivial ?_
      refine aw_aload_n (i := 1) dX3_value_169 rfl rfl trivial ?_
      replace hq := obind hq
      obtain ⟨o73, e74, hq⟩ := hq
      refine xw_getR e74 fX3_99 dX3_value_170 ?_
      refine aw_iload dX3_value_173 rfl ?_
      refine aw_if_eq (tgt := 182) dX3_value_175 (by decide) (fun c75 => ?_) (fun c75 => ?_)
      · rw [if_pos c75] at hq
        refine aw_iconst (v := 2) dX3_value_182 (by decide) ?_
        exact p_x_X3_value_183 g hst N ρ n hρ   q68.2 x0 (some a1) r2 x3 q68.1 o73 (2 : Int32) _ hq
      · rw [if_neg c75] at hq
        refine aw_iconst (v := 1) dX3_value_178 (by decide) ?_
        refine aw_goto (tgt := 183) dX3_value_179 (by decide) ?_
        exact p_x_X3_value_183 g hst N ρ n hρ   q68.2 x0 (some a1) r2 x3 q68.1 o73 (1 : Int32) _ hq
    · rw [if_neg c72] at hq
      refine aw_iload dX3_value_163 rfl ?_
      refine aw_goto (tgt := 196) dX3_value_165 (by decide) ?_
      cases hq
      exact aw_ireturn dX3_value_196 rfl rfl ⟨rfl, rfl⟩
  rw [if_neg c58] at hq
  by_cases c85 : q8.1 = 6
  · rw [if_pos c85] at hq
    refine aw_tableIn (off := 64) (tgt := 71) dX3_value_7 (by rw [c85]; decide) (by rw [c85]; decide) (by rw [c85]; rfl) (by decide) ?_
    refine aw_aload_n (i := 0) dX3_value_71 rfl rfl trivial ?_
    refine aw_aload_n (i := 1) dX3_value_72 rfl rfl trivial ?_
    refine aw_aload_n (i := 2) dX3_value_73 rfl rfl (aIsR_rf _) ?_
    refine aw_iload_n (i := 3) dX3_value_74 rfl rfl ?_
    replace hq := cond_t hq
    obtain ⟨z86, hq⟩ := hq
    obtain ⟨fs9, ha9⟩ := clB1 z86
    replace hq := obind hq
    obtain ⟨q87, e88, hq⟩ := hq
    refine aw_callV (Y2 := YX3_held) (As := [.ref a1, va_rf r2, .int x3]) (rest := []) (r := (RX3, TX3, 10)) kX3_held ha9 rfl rfl q2109 q2111 qs51 dX3_value_75 rfl rfl (hρ.2.1 q8.2 x0 (some a1) r2 x3 _ e88) (Nat.le_refl _) (Nat.le_of_ble_eq_true rfl) (fun v9 h9 z9 y9 => ?_)
    obtain ⟨rfl, rfl⟩ := y9
    refine aw_st (st' := [.int q87.1]) rfl ?_
    cases hq
    exact aw_ireturn dX3_value_78 rfl rfl ⟨rfl, rfl⟩
  rw [if_neg c85] at hq
  cases hq
theorem kX3_watches : aMk YX3_watches 5 := ⟨rfl, q2090, q118, ⟨by decide +kernel, by decide +kernel, by decide +kernel⟩, Nat.le_of_ble_eq_true rfl⟩
def x_X3_watches_129 (g : AG) (N : Nat) (ρ : R_X3) (h : AH) (x0 : Nat) (x1 : Int32) (r2 : Option Nat) (r3 : Option Nat) (r4 : Option Nat) (x5 : Int32) (x6 : Int32) : Option (Int32 × AH) :=
  (wrV g h x0 [(2, 5)] (.int (0 : Int32))).bind fun h36 => (r2).bind fun a38 => (rdI h36 a38 [(7, 6)]).bind fun i40 => (wrV g h36 a38 [(7, 6)] (.int (i40 + (1 : Int32)))).bind fun h42 => (rdI h42 a38 [(7, 6)]).bind fun i44 => (rdI h42 a38 [(7, 5)]).bind fun i46 => if i44 = i46 then (some ((1 : Int32), h42)) else (some ((0 : Int32), h42))
theorem p_x_X3_watches_129 (g : AG) (hst : (gL g).stackTraces = false) (N : Nat) (ρ : R_X3) (n : Nat) (hρ : Ok_X3 g n ρ) : ∀ (h : AH) (x0 : Nat) (x1 : Int32) (r2 : Option Nat) (r3 : Option Nat) (r4 : Option Nat) (x5 : Int32) (x6 : Int32) (q : (Int32 × AH)), x_X3_watches_129 g N ρ h x0 x1 r2 r3 r4 x5 x6 = some q → AW g YX3_watches (10 + n + 1) (xI q) h [some (.ref x0), some (.int x1), some (va_rf r2), some (va_rf r3), some (va_rf r4), some (.int x5), some (.int x6)] 129 [] := by
  intro h x0 x1 r2 r3 r4 x5 x6 q hq
  unfold x_X3_watches_129 at hq
  refine aw_aload_n (i := 0) dX3_watches_129 rfl rfl trivial ?_
  refine aw_iconst (v := 0) dX3_watches_130 (by decide) ?_
  replace hq := obind hq
  obtain ⟨h36, e37, hq⟩ := hq
  refine xw_put e37 fX3_85 tX3_5 (isb_ok (by decide)) dX3_watches_131 ?_
  refine aw_aload_n (i := 2) dX3_watches_134 rfl rfl (aIsR_rf _) ?_
  refine aw_dup dX3_watches_135 (cat_rf _) ?_
  replace hq := obind hq
  obtain ⟨a38, e39, hq⟩ := hq
  subst e39
  replace hq := obind hq
  obtain ⟨i40, e41, hq⟩ := hq
  refine xw_getI e41 fX3_148 dX3_watches_136 ?_
  refine aw_iconst (v := 1) dX3_watches_139 (by decide) ?_
  refine aw_iadd dX3_watches_140 ?_
  replace hq := obind hq
  obtain ⟨h42, e43, hq⟩ := hq
  refine xw_put e43 fX3_148 tX9_6 ⟨rfl, rfl⟩ dX3_watches_141 ?_
  refine aw_aload_n (i := 2) dX3_watches_144 rfl rfl trivial ?_
  replace hq := obind hq
  obtain ⟨i44, e45, hq⟩ := hq
  refine xw_getI e45 fX3_148 dX3_watches_145 ?_
  refine aw_aload_n (i := 2) dX3_watches_148 rfl rfl trivial ?_
  replace hq := obind hq
  obtain ⟨i46, e47, hq⟩ := hq
  refine xw_getI e47 fX3_171 dX3_watches_149 ?_
  refine aw_icmp_ne (tgt := 159) dX3_watches_152 (by decide) (fun c48 => ?_) (fun c48 => ?_)
  · rw [if_neg c48] at hq
    refine aw_iconst (v := 0) dX3_watches_159 (by decide) ?_
    cases hq
    exact aw_ireturn dX3_watches_160 rfl rfl ⟨rfl, rfl⟩
  · rw [if_pos c48] at hq
    refine aw_iconst (v := 1) dX3_watches_155 (by decide) ?_
    refine aw_goto (tgt := 160) dX3_watches_156 (by decide) ?_
    cases hq
    exact aw_ireturn dX3_watches_160 rfl rfl ⟨rfl, rfl⟩
def x_X3_watches_84 (g : AG) (N : Nat) (ρ : R_X3) (h : AH) (x0 : Nat) (x1 : Int32) (r2 : Option Nat) (r3 : Option Nat) (r4 : Option Nat) (x5 : Int32) (x6 : Int32) : Option (Int32 × AH) :=
  (rdR h x0 [(2, 3)]).bind fun o28 => (o28).bind fun a30 => bif clB h a30 [13] then ((x_J4_size g N h a30).bind fun q33 => if (300 : Int32) ≤ q33.1 then (x_X3_watches_129 g N ρ  q33.2 x0 x1 r2 r3 r4 x5 x6) else ((rdR q33.2 x0 [(2, 3)]).bind fun o49 => (mkO g q33.2 5 9 [.int 0, .int 0, .int 0, .int 0, .int 0]).bind fun h51 => (r3).bind fun a53 => (rdI h51 a53 [(6, 0)]).bind fun i55 => (rdI h51 x0 [(2, 5)]).bind fun i57 => (x_X11_init g N h51 q33.2.2.1 x1 i55 x6 i57 x5).bind fun q59 => (o49).bind fun a61 => bif clB q59 a61 [13] then ((x_J4_add g N q59 a61 (some q33.2.2.1)).bind fun q64 => x_X3_watches_129 g N ρ  q64.2 x0 x1 r2 (some a53) r4 x5 x6) else none)) else none
theorem p_x_X3_watches_84 (g : AG) (hst : (gL g).stackTraces = false) (N : Nat) (ρ : R_X3) (n : Nat) (hρ : Ok_X3 g n ρ) : ∀ (h : AH) (x0 : Nat) (x1 : Int32) (r2 : Option Nat) (r3 : Option Nat) (r4 : Option Nat) (x5 : Int32) (x6 : Int32) (q : (Int32 × AH)), x_X3_watches_84 g N ρ h x0 x1 r2 r3 r4 x5 x6 = some q → AW g YX3_watches (10 + n + 1) (xI q) h [some (.ref x0), some (.int x1), some (va_rf r2), some (va_rf r3), some (va_rf r4), some (.int x5), some (.int x6)] 84 [] := by
  intro h x0 x1 r2 r3 r4 x5 x6 q hq
  unfold x_X3_watches_84 at hq
  refine aw_aload_n (i := 0) dX3_watches_84 rfl rfl trivial ?_
  replace hq := obind hq
  obtain ⟨o28, e29, hq⟩ := hq
  refine xw_getR e29 fX3_32 dX3_watches_85 ?_
  replace hq := obind hq
  obtain ⟨a30, e31, hq⟩ := hq
  subst e31
  replace hq := cond_t hq
  obtain ⟨z32, hq⟩ := hq
  obtain ⟨fs9, ha9⟩ := clB1 z32
  replace hq := obind hq
  obtain ⟨q33, e34, hq⟩ := hq
  refine aw_callF (Y2 := YJ4_size) (As := []) (rest := []) (r := (RJ4, TJ4, 3)) (x := ⟨"java/util/List", "size", "()I"⟩) kJ4_size ha9 rfl (by decide) (by decide) ⟨by decide +kernel, by decide +kernel, by decide +kernel⟩ q2053 q384 q382 dX3_watches_88 rfl rfl (ct_J4_size g hst N h a30 _ e34) (by omega) (Nat.le_of_ble_eq_true rfl) (fun v9 h9 z9 y9 => ?_)
  obtain ⟨rfl, rfl⟩ := y9
  refine aw_st (st' := [.int q33.1]) rfl ?_
  refine aw_sipush (v := 300) dX3_watches_93 (by decide) ?_
  refine aw_icmp_ge (tgt := 129) dX3_watches_96 (by decide) (fun c35 => ?_) (fun c35 => ?_)
  · rw [if_pos c35] at hq
    exact p_x_X3_watches_129 g hst N ρ n hρ   q33.2 x0 x1 r2 r3 r4 x5 x6 _ hq
  · rw [if_neg c35] at hq
    refine aw_aload_n (i := 0) dX3_watches_99 rfl rfl trivial ?_
    replace hq := obind hq
    obtain ⟨o49, e50, hq⟩ := hq
    refine xw_getR e50 fX3_32 dX3_watches_100 ?_
    replace hq := obind hq
    obtain ⟨h51, e52, hq⟩ := hq
    refine xw_new (r := (RX11, TX11, 5)) e52 q2124 q2125 q164 (by decide) rfl okX11 rfl dfX11 dX3_watches_103 ?_
    refine aw_dup dX3_watches_106 rfl ?_
    refine aw_iload_n (i := 1) dX3_watches_107 rfl rfl ?_
    refine aw_aload_n (i := 3) dX3_watches_108 rfl rfl (aIsR_rf _) ?_
    replace hq := obind hq
    obtain ⟨a53, e54, hq⟩ := hq
    subst e54
    replace hq := obind hq
    obtain ⟨i55, e56, hq⟩ := hq
    refine xw_getI e56 fX3_162 dX3_watches_109 ?_
    refine aw_iload dX3_watches_112 rfl ?_
    refine aw_aload_n (i := 0) dX3_watches_114 rfl rfl trivial ?_
    replace hq := obind hq
    obtain ⟨i57, e58, hq⟩ := hq
    refine xw_getI e58 fX3_85 dX3_watches_115 ?_
    refine aw_iload dX3_watches_118 rfl ?_
    replace hq := obind hq
    obtain ⟨q59, e60, hq⟩ := hq
    refine aw_callIN (Y2 := YX11_init) (As := [.int x1, .int i55, .int x6, .int i57, .int x5]) (rest := [.ref q33.2.2.1, va_rf o49]) (b := q33.2.2.1) kX11_init rfl rfl q2126 q2127 dX3_watches_120 rfl rfl (ct_X11_init g hst N h51 q33.2.2.1 x1 i55 x6 i57 x5 _ e60) (by omega) (by simp only [List.map_cons, List.map_nil, List.sum_cons, List.sum_nil, cat_rf]; exact Nat.le_of_ble_eq_true rfl) (fun v9 h9 z9 y9 => ?_)
    obtain ⟨rfl, y9⟩ := y9
    rw [y9]
    refine aw_st (st' := [.ref q33.2.2.1, va_rf o49]) rfl ?_
    replace hq := obind hq
    obtain ⟨a61, e62, hq⟩ := hq
    subst e62
    replace hq := cond_t hq
    obtain ⟨z63, hq⟩ := hq
    obtain ⟨fs9, ha9⟩ := clB1 z63
    replace hq := obind hq
    obtain ⟨q64, e65, hq⟩ := hq
    refine aw_callF (Y2 := YJ4_add) (As := [.ref q33.2.2.1]) (rest := []) (r := (RJ4, TJ4, 3)) (x := ⟨"java/util/List", "add", "(Ljava/lang/Object;)Z"⟩) kJ4_add ha9 rfl (by decide) (by decide) ⟨by decide +kernel, by decide +kernel, by decide +kernel⟩ q2086 q976 q974 dX3_watches_123 rfl rfl (ct_J4_add g hst N q59 a61 (some q33.2.2.1) _ e65) (by omega) (Nat.le_of_ble_eq_true rfl) (fun v9 h9 z9 y9 => ?_)
    obtain ⟨rfl, rfl⟩ := y9
    refine aw_st (st' := [.int q64.1]) rfl ?_
    refine aw_pop dX3_watches_128 rfl ?_
    exact p_x_X3_watches_129 g hst N ρ n hρ   q64.2 x0 x1 r2 (some a53) r4 x5 x6 _ hq
def x_X3_watches_75 (g : AG) (N : Nat) (ρ : R_X3) (h : AH) (x0 : Nat) (x1 : Int32) (r2 : Option Nat) (r3 : Option Nat) (r4 : Option Nat) (x5 : Int32) (x6 : Int32) : Option (Int32 × AH) :=
  (rdI h x0 [(2, 5)]).bind fun i25 => if i25 = 0 then (some ((0 : Int32), h)) else (x_X3_watches_84 g N ρ  h x0 x1 r2 r3 r4 x5 x6)
theorem p_x_X3_watches_75 (g : AG) (hst : (gL g).stackTraces = false) (N : Nat) (ρ : R_X3) (n : Nat) (hρ : Ok_X3 g n ρ) : ∀ (h : AH) (x0 : Nat) (x1 : Int32) (r2 : Option Nat) (r3 : Option Nat) (r4 : Option Nat) (x5 : Int32) (x6 : Int32) (q : (Int32 × AH)), x_X3_watches_75 g N ρ h x0 x1 r2 r3 r4 x5 x6 = some q → AW g YX3_watches (10 + n + 1) (xI q) h [some (.ref x0), some (.int x1), some (va_rf r2), some (va_rf r3), some (va_rf r4), some (.int x5), some (.int x6)] 75 [] := by
  intro h x0 x1 r2 r3 r4 x5 x6 q hq
  unfold x_X3_watches_75 at hq
  refine aw_aload_n (i := 0) dX3_watches_75 rfl rfl trivial ?_
  replace hq := obind hq
  obtain ⟨i25, e26, hq⟩ := hq
  refine xw_getI e26 fX3_85 dX3_watches_76 ?_
  refine aw_if_ne (tgt := 84) dX3_watches_79 (by decide) (fun c27 => ?_) (fun c27 => ?_)
  · rw [if_neg c27] at hq
    exact p_x_X3_watches_84 g hst N ρ n hρ   h x0 x1 r2 r3 r4 x5 x6 _ hq
  · rw [if_pos c27] at hq
    refine aw_iconst (v := 0) dX3_watches_82 (by decide) ?_
    cases hq
    exact aw_ireturn dX3_watches_83 rfl rfl ⟨rfl, rfl⟩
def x_X3_watches_44 (g : AG) (N : Nat) (ρ : R_X3) (h : AH) (x0 : Nat) (x1 : Int32) (r2 : Option Nat) (r3 : Option Nat) (r4 : Option Nat) (x5 : Int32) (s0 : Int32) : Option (Int32 × AH) :=
  (rdI h x0 [(2, 5)]).bind fun i22 => if i22 = 0 then (if s0 = 0 then (x_X3_watches_75 g N ρ  h x0 x1 r2 r3 r4 x5 s0) else ((r2).bind fun a67 => (rdR h a67 [(7, 3)]).bind fun o69 => bif clB h x0 [2] then ((ρ.2.2.2.1 h x0 o69 r4 x5).bind fun q72 => x_X3_watches_84 g N ρ  q72.2 x0 x1 (some a67) r3 r4 x5 q72.1) else none)) else (x_X3_watches_75 g N ρ  h x0 x1 r2 r3 r4 x5 s0)
theorem p_x_X3_watches_44 (g : AG) (hst : (gL g).stackTraces = false) (N : Nat) (ρ : R_X3) (n : Nat) (hρ : Ok_X3 g n ρ) : ∀ (h : AH) (x0 : Nat) (x1 : Int32) (r2 : Option Nat) (r3 : Option Nat) (r4 : Option Nat) (x5 : Int32) (s0 : Int32) (q : (Int32 × AH)), x_X3_watches_44 g N ρ h x0 x1 r2 r3 r4 x5 s0 = some q → AW g YX3_watches (10 + n + 1) (xI q) h [some (.ref x0), some (.int x1), some (va_rf r2), some (va_rf r3), some (va_rf r4), some (.int x5), none] 44 [.int s0] := by
  intro h x0 x1 r2 r3 r4 x5 s0 q hq
  unfold x_X3_watches_44 at hq
  refine aw_istore (loc' := [some (.ref x0), some (.int x1), some (va_rf r2), some (va_rf r3), some (va_rf r4), some (.int x5), some (.int s0)]) dX3_watches_44 (Nat.le_of_ble_eq_true rfl) rfl ?_
  refine aw_aload_n (i := 0) dX3_watches_46 rfl rfl trivial ?_
  replace hq := obind hq
  obtain ⟨i22, e23, hq⟩ := hq
  refine xw_getI e23 fX3_85 dX3_watches_47 ?_
  refine aw_if_ne (tgt := 75) dX3_watches_50 (by decide) (fun c24 => ?_) (fun c24 => ?_)
  · rw [if_neg c24] at hq
    exact p_x_X3_watches_75 g hst N ρ n hρ   h x0 x1 r2 r3 r4 x5 s0 _ hq
  · rw [if_pos c24] at hq
    refine aw_iload dX3_watches_53 rfl ?_
    refine aw_if_eq (tgt := 75) dX3_watches_55 (by decide) (fun c66 => ?_) (fun c66 => ?_)
    · rw [if_pos c66] at hq
      exact p_x_X3_watches_75 g hst N ρ n hρ   h x0 x1 r2 r3 r4 x5 s0 _ hq
    · rw [if_neg c66] at hq
      refine aw_aload_n (i := 0) dX3_watches_58 rfl rfl trivial ?_
      refine aw_aload_n (i := 2) dX3_watches_59 rfl rfl (aIsR_rf _) ?_
      replace hq := obind hq
      obtain ⟨a67, e68, hq⟩ := hq
      subst e68
      replace hq := obind hq
      obtain ⟨o69, e70, hq⟩ := hq
      refine xw_getR e70 fX3_157 dX3_watches_60 ?_
      refine aw_aload dX3_watches_63 rfl (aIsR_rf _) ?_
      refine aw_iload dX3_watches_65 rfl ?_
      replace hq := cond_t hq
      obtain ⟨z71, hq⟩ := hq
      obtain ⟨fs9, ha9⟩ := clB1 z71
      replace hq := obind hq
      obtain ⟨q72, e73, hq⟩ := hq
      refine aw_callV (Y2 := YX3_value) (As := [va_rf o69, va_rf r4, .int x5]) (rest := []) (r := (RX3, TX3, 10)) kX3_value ha9 rfl rfl q2091 q2093 qs48 dX3_watches_67 rfl rfl (hρ.2.2.2.1 h x0 o69 r4 x5 _ e73) (Nat.le_refl _) (Nat.le_of_ble_eq_true rfl) (fun v9 h9 z9 y9 => ?_)
      obtain ⟨rfl, rfl⟩ := y9
      refine aw_st (st' := [.int q72.1]) rfl ?_
      refine aw_istore (loc' := [some (.ref x0), some (.int x1), some (.ref a67), some (va_rf r3), some (va_rf r4), some (.int x5), some (.int q72.1)]) dX3_watches_70 (Nat.le_of_ble_eq_true rfl) rfl ?_
      refine aw_goto (tgt := 84) dX3_watches_72 (by decide) ?_
      exact p_x_X3_watches_84 g hst N ρ n hρ   q72.2 x0 x1 (some a67) r3 r4 x5 q72.1 _ hq
def xb_X3_watches (g : AG) (N : Nat) (ρ : R_X3) (h : AH) (x0 : Nat) (x1 : Int32) (r2 : Option Nat) (r3 : Option Nat) (r4 : Option Nat) (x5 : Int32) : Option (Int32 × AH) :=
  (r4).bind fun a1 => (rdR h a1 [(3, 0)]).bind fun o3 => (r2).bind fun a5 => (rdI h a5 [(7, 6)]).bind fun i7 => (o3).bind fun a9 => (wrA g h a9 0 (6 : Int32) (.int i7)).bind fun h11 => (rdR h11 a1 [(3, 0)]).bind fun o13 => (o13).bind fun a15 => (wrA g h11 a15 0 (5 : Int32) (.int x5)).bind fun h17 => (rdR h17 a5 [(7, 4)]).bind fun o19 => ocase o19 (x_X3_watches_44 g N ρ  h17 x0 x1 (some a5) r3 (some a1) x5 (1 : Int32)) (fun a21 => (rdR h17 a5 [(7, 4)]).bind fun o74 => bif clB h17 x0 [2] then ((ρ.2.2.2.1 h17 x0 o74 (some a1) x5).bind fun q77 => x_X3_watches_44 g N ρ  q77.2 x0 x1 (some a5) r3 (some a1) x5 q77.1) else none)
theorem cb_X3_watches (g : AG) (hst : (gL g).stackTraces = false) (N : Nat) (ρ : R_X3) (n : Nat) (hρ : Ok_X3 g n ρ) : ∀ (h : AH) (x0 : Nat) (x1 : Int32) (r2 : Option Nat) (r3 : Option Nat) (r4 : Option Nat) (x5 : Int32) (q : (Int32 × AH)), xb_X3_watches g N ρ h x0 x1 r2 r3 r4 x5 = some q → CT g YX3_watches (10 + n + 1) [.ref x0, .int x1, va_rf r2, va_rf r3, va_rf r4, .int x5] h (xI q) := by
  intro h x0 x1 r2 r3 r4 x5 q hq
  refine CT.of rfl (by decide +kernel) (loc := [some (.ref x0), some (.int x1), some (va_rf r2), some (va_rf r3), some (va_rf r4), some (.int x5), none]) (by first | exact Nat.le_of_ble_eq_true rfl | (simp only [lgl_rf, lgl_i, lgl_j, lgl_ref, lgl_nil]; exact Nat.le_of_ble_eq_true rfl)) (by first | rfl | (simp only [aent_rf, aent_i, aent_j, aent_ref, aent_nil]; rfl)) ?_
  unfold xb_X3_watches at hq
  refine aw_aload dX3_watches_0 rfl (aIsR_rf _) ?_
  replace hq := obind hq
  obtain ⟨a1, e2, hq⟩ := hq
  subst e2
  replace hq := obind hq
  obtain ⟨o3, e4, hq⟩ := hq
  refine xw_getR e4 fX3_132 dX3_watches_2 ?_
  refine aw_bipush (v := 6) dX3_watches_5 (by decide) ?_
  refine aw_aload_n (i := 2) dX3_watches_7 rfl rfl (aIsR_rf _) ?_
  replace hq := obind hq
  obtain ⟨a5, e6, hq⟩ := hq
  subst e6
  replace hq := obind hq
  obtain ⟨i7, e8, hq⟩ := hq
  refine xw_getI e8 fX3_148 dX3_watches_8 ?_
  replace hq := obind hq
  obtain ⟨a9, e10, hq⟩ := hq
  subst e10
  replace hq := obind hq
  obtain ⟨h11, e12, hq⟩ := hq
  refine xw_iast e12 dX3_watches_11 ?_
  refine aw_aload dX3_watches_12 rfl trivial ?_
  replace hq := obind hq
  obtain ⟨o13, e14, hq⟩ := hq
  refine xw_getR e14 fX3_132 dX3_watches_14 ?_
  refine aw_iconst (v := 5) dX3_watches_17 (by decide) ?_
  refine aw_iload dX3_watches_18 rfl ?_
  replace hq := obind hq
  obtain ⟨a15, e16, hq⟩ := hq
  subst e16
  replace hq := obind hq
  obtain ⟨h17, e18, hq⟩ := hq
  refine xw_iast e18 dX3_watches_20 ?_
  refine aw_aload_n (i := 2) dX3_watches_21 rfl rfl trivial ?_
  replace hq := obind hq
  obtain ⟨o19, e20, hq⟩ := hq
  refine xw_getR e20 fX3_153 dX3_watches_22 ?_
  rcases o19 with _ | a21
  · replace hq := ocase_n hq
    refine xw_ifnonN (tgt := 32) dX3_watches_25 (by decide) ?_
    refine aw_iconst (v := 1) dX3_watches_28 (by decide) ?_
    refine aw_goto (tgt := 44) dX3_watches_29 (by decide) ?_
    exact p_x_X3_watches_44 g hst N ρ n hρ   h17 x0 x1 (some a5) r3 (some a1) x5 (1 : Int32) _ hq
  · replace hq := ocase_s hq
    refine xw_ifnonS (tgt := 32) dX3_watches_25 (by decide) ?_
    refine aw_aload_n (i := 0) dX3_watches_32 rfl rfl trivial ?_
    refine aw_aload_n (i := 2) dX3_watches_33 rfl rfl trivial ?_
    replace hq := obind hq
    obtain ⟨o74, e75, hq⟩ := hq
    refine xw_getR e75 fX3_153 dX3_watches_34 ?_
    refine aw_aload dX3_watches_37 rfl trivial ?_
    refine aw_iload dX3_watches_39 rfl ?_
    replace hq := cond_t hq
    obtain ⟨z76, hq⟩ := hq
    obtain ⟨fs9, ha9⟩ := clB1 z76
    replace hq := obind hq
    obtain ⟨q77, e78, hq⟩ := hq
    refine aw_callV (Y2 := YX3_value) (As := [va_rf o74, .ref a1, .int x5]) (rest := []) (r := (RX3, TX3, 10)) kX3_value ha9 rfl rfl q2091 q2093 qs48 dX3_watches_41 rfl rfl (hρ.2.2.2.1 h17 x0 o74 (some a1) x5 _ e78) (Nat.le_refl _) (Nat.le_of_ble_eq_true rfl) (fun v9 h9 z9 y9 => ?_)
    obtain ⟨rfl, rfl⟩ := y9
    refine aw_st (st' := [.int q77.1]) rfl ?_
    exact p_x_X3_watches_44 g hst N ρ n hρ   q77.2 x0 x1 (some a5) r3 (some a1) x5 q77.1 _ hq
theorem kX3_probe : aMk YX3_probe 5 := ⟨rfl, q2035, q118, ⟨by decide +kernel, by decide +kernel, by decide +kernel⟩, Nat.le_of_ble_eq_true rfl⟩
def x_X3_probe_176 (g : AG) (N : Nat) (ρ : R_X3) (K69 : AH → Nat → Option Nat → Option Nat → Int32 → Int32 → Int32 → Int32 → Int32 → Int32 → Option AH) (K182 : AH → Nat → Option Nat → Option Nat → Int32 → Int32 → Int32 → Int32 → Int32 → Int32 → Option AH) (h : AH) (x0 : Nat) (r1 : Option Nat) (r2 : Option Nat) (x3 : Int32) (x4 : Int32) (x5 : Int32) (x6 : Int32) (x7 : Int32) (x8 : Int32) (r9 : Option Nat) : Option AH :=
  K69 h x0 r1 r2 x3 x4 x5 x6 x7 (x8 + 1)
theorem p_x_X3_probe_176 (g : AG) (hst : (gL g).stackTraces = false) (N : Nat) (ρ : R_X3) (n : Nat) (hρ : Ok_X3 g n ρ) (K69 : AH → Nat → Option Nat → Option Nat → Int32 → Int32 → Int32 → Int32 → Int32 → Int32 → Option AH) (K182 : AH → Nat → Option Nat → Option Nat → Int32 → Int32 → Int32 → Int32 → Int32 → Int32 → Option AH) (hK69 : ∀ (h : AH) (x0 : Nat) (r1 : Option Nat) (r2 : Option Nat) (x3 : Int32) (x4 : Int32) (x5 : Int32) (x6 : Int32) (x7 : Int32) (x8 : Int32) (q : AH), K69 h x0 r1 r2 x3 x4 x5 x6 x7 x8 = some q → AW g YX3_probe (10 + n + 1) (xV q) h [some (.ref x0), some (va_rf r1), some (va_rf r2), some (.int x3), some (.int x4), some (.int x5), some (.int x6), some (.int x7), some (.int x8), none] 69 []) (hK182 : ∀ (h : AH) (x0 : Nat) (r1 : Option Nat) (r2 : Option Nat) (x3 : Int32) (x4 : Int32) (x5 : Int32) (x6 : Int32) (x7 : Int32) (x8 : Int32) (q : AH), K182 h x0 r1 r2 x3 x4 x5 x6 x7 x8 = some q → AW g YX3_probe (10 + n + 1) (xV q) h [some (.ref x0), some (va_rf r1), some (va_rf r2), some (.int x3), some (.int x4), some (.int x5), some (.int x6), some (.int x7), some (.int x8), none] 182 []) : ∀ (h : AH) (x0 : Nat) (r1 : Option Nat) (r2 : Option Nat) (x3 : Int32) (x4 : Int32) (x5 : Int32) (x6 : Int32) (x7 : Int32) (x8 : Int32) (r9 : Option Nat) (q : AH), x_X3_probe_176 g N ρ K69 K182 h x0 r1 r2 x3 x4 x5 x6 x7 x8 r9 = some q → AW g YX3_probe (10 + n + 1) (xV q) h [some (.ref x0), some (va_rf r1), some (va_rf r2), some (.int x3), some (.int x4), some (.int x5), some (.int x6), some (.int x7), some (.int x8), some (va_rf r9)] 176 [] := by
  intro h x0 r1 r2 x3 x4 x5 x6 x7 x8 r9 q hq
  unfold x_X3_probe_176 at hq
  refine aw_iinc (v := x8 + 1) (loc' := [some (.ref x0), some (va_rf r1), some (va_rf r2), some (.int x3), some (.int x4), some (.int x5), some (.int x6), some (.int x7), some (.int (x8 + 1)), some (va_rf r9)]) dX3_probe_176 rfl rfl (Nat.le_of_ble_eq_true rfl) rfl ?_
  refine aw_goto (tgt := 69) dX3_probe_179 (by decide) ?_
  refine aw_subl (loc' := [some (.ref x0), some (va_rf r1), some (va_rf r2), some (.int x3), some (.int x4), some (.int x5), some (.int x6), some (.int x7), some (.int (x8 + 1)), none]) ⟨Or.inr rfl, Or.inr rfl, Or.inr rfl, Or.inr rfl, Or.inr rfl, Or.inr rfl, Or.inr rfl, Or.inr rfl, Or.inr rfl, Or.inl rfl, trivial⟩ ?_
  exact hK69 h x0 r1 r2 x3 x4 x5 x6 x7 (x8 + 1) _ hq
def x_X3_probe_69 (g : AG) (N : Nat) (ρ : R_X3) (K182 : AH → Nat → Option Nat → Option Nat → Int32 → Int32 → Int32 → Int32 → Int32 → Int32 → Option AH) : Nat → AH → Nat → Option Nat → Option Nat → Int32 → Int32 → Int32 → Int32 → Int32 → Int32 → Option AH
  | 0, _, _, _, _, _, _, _, _, _, _ => none
  | n9 + 1, h, x0, r1, r2, x3, x4, x5, x6, x7, x8 =>
  if (8 : Int32) ≤ x8 then (K182 h x0 r1 r2 x3 x4 x5 x6 x7 x8) else ((rdR h x0 [(2, 2)]).bind fun o31 => (x_J21_valueOf g N h x8).bind fun q33 => (o31).bind fun a35 => bif clB q33.2 a35 [14] then ((x_J5_get g N q33.2 a35 q33.1).bind fun q38 => bif casB q38.2 q38.1 [7] then (ocase q38.1 (x_X3_probe_176 g N ρ (fun h x0 r1 r2 x3 x4 x5 x6 x7 x8 => x_X3_probe_69 g N ρ K182 n9 h x0 r1 r2 x3 x4 x5 x6 x7 x8) K182 q38.2 x0 r1 r2 x3 x4 x5 x6 x7 x8 (none)) (fun a41 => (r1).bind fun a42 => (rdR q38.2 a42 [(6, 1)]).bind fun o44 => bif clB q38.2 a41 [7] then ((x_X9_fits g N q38.2 a41 o44).bind fun q47 => if q47.1 = 0 then (x_X3_probe_176 g N ρ (fun h x0 r1 r2 x3 x4 x5 x6 x7 x8 => x_X3_probe_69 g N ρ K182 n9 h x0 r1 r2 x3 x4 x5 x6 x7 x8) K182 q47.2 x0 (some a42) r2 x3 x4 x5 x6 x7 x8 (some a41)) else ((rdI q47.2 a41 [(7, 0)]).bind fun i50 => if i50 = (1 : Int32) then ((rdI q47.2 a41 [(7, 2)]).bind fun i53 => if i53 = x4 then (bif clB q47.2 x0 [2] then ((ρ.2.2.2.2.1 q47.2 x0 x8 (some a41) (some a42) r2 x3).bind fun q57 => if q57.1 = 0 then (x_X3_probe_176 g N ρ (fun h x0 r1 r2 x3 x4 x5 x6 x7 x8 => x_X3_probe_69 g N ρ K182 n9 h x0 r1 r2 x3 x4 x5 x6 x7 x8) K182 q57.2 x0 (some a42) r2 x3 x4 x5 x6 x7 x8 (some a41)) else ((rdR q57.2 x0 [(2, 2)]).bind fun o60 => (x_J21_valueOf g N q57.2 x8).bind fun q62 => (o60).bind fun a64 => bif clB q62.2 a64 [14] then ((x_J5_remove g N q62.2 a64 q62.1).bind fun q67 => x_X3_probe_176 g N ρ (fun h x0 r1 r2 x3 x4 x5 x6 x7 x8 => x_X3_probe_69 g N ρ K182 n9 h x0 r1 r2 x3 x4 x5 x6 x7 x8) K182 q67.2 x0 (some a42) r2 x3 x4 x5 x6 x7 x8 (some a41)) else none)) else none) else (x_X3_probe_176 g N ρ (fun h x0 r1 r2 x3 x4 x5 x6 x7 x8 => x_X3_probe_69 g N ρ K182 n9 h x0 r1 r2 x3 x4 x5 x6 x7 x8) K182 q47.2 x0 (some a42) r2 x3 x4 x5 x6 x7 x8 (some a41))) else (bif clB q47.2 x0 [2] then ((x_X3_see g N q47.2 x0 x8 (some a41) (some a42) r2 x4 x5).bind fun q70 => x_X3_probe_176 g N ρ (fun h x0 r1 r2 x3 x4 x5 x6 x7 x8 => x_X3_probe_69 g N ρ K182 n9 h x0 r1 r2 x3 x4 x5 x6 x7 x8) K182 q70 x0 (some a42) r2 x3 x4 x5 x6 x7 x8 (some a41)) else none))) else none)) else none) else none)
theorem p_x_X3_probe_69 (g : AG) (hst : (gL g).stackTraces = false) (N : Nat) (ρ : R_X3) (n : Nat) (hρ : Ok_X3 g n ρ) (K182 : AH → Nat → Option Nat → Option Nat → Int32 → Int32 → Int32 → Int32 → Int32 → Int32 → Option AH) (hK182 : ∀ (h : AH) (x0 : Nat) (r1 : Option Nat) (r2 : Option Nat) (x3 : Int32) (x4 : Int32) (x5 : Int32) (x6 : Int32) (x7 : Int32) (x8 : Int32) (q : AH), K182 h x0 r1 r2 x3 x4 x5 x6 x7 x8 = some q → AW g YX3_probe (10 + n + 1) (xV q) h [some (.ref x0), some (va_rf r1), some (va_rf r2), some (.int x3), some (.int x4), some (.int x5), some (.int x6), some (.int x7), some (.int x8), none] 182 []) : ∀ (n9 : Nat) (h : AH) (x0 : Nat) (r1 : Option Nat) (r2 : Option Nat) (x3 : Int32) (x4 : Int32) (x5 : Int32) (x6 : Int32) (x7 : Int32) (x8 : Int32) (q : AH), x_X3_probe_69 g N ρ K182 n9 h x0 r1 r2 x3 x4 x5 x6 x7 x8 = some q → AW g YX3_probe (10 + n + 1) (xV q) h [some (.ref x0), some (va_rf r1), some (va_rf r2), some (.int x3), some (.int x4), some (.int x5), some (.int x6), some (.int x7), some (.int x8), none] 69 [] := by
  intro n9
  induction n9 with
  | zero =>
    intro h x0 r1 r2 x3 x4 x5 x6 x7 x8 q hq
    cases hq
  | succ n9 ih =>
    intro h x0 r1 r2 x3 x4 x5 x6 x7 x8 q hq
    rw [x_X3_probe_69] at hq
    refine aw_iload dX3_probe_69 rfl ?_
    refine aw_bipush (v := 8) dX3_probe_71 (by decide) ?_
    refine aw_icmp_ge (tgt := 182) dX3_probe_73 (by decide) (fun c30 => ?_) (fun c30 => ?_)
    · rw [if_pos c30] at hq
      exact hK182 h x0 r1 r2 x3 x4 x5 x6 x7 x8 _ hq
    · rw [if_neg c30] at hq
      refine aw_aload_n (i := 0) dX3_probe_76 rfl rfl trivial ?_
      replace hq := obind hq
      obtain ⟨o31, e32, hq⟩ := hq
      refine xw_getR e32 fX3_28 dX3_probe_77 ?_
      refine aw_iload dX3_probe_80 rfl ?_
      replace hq := obind hq
      obtain ⟨q33, e34, hq⟩ := hq
      refine aw_callS (Y2 := YJ21_valueOf) (As := [.int x8]) (rest := [va_rf o31]) kJ21_valueOf q2036 q1790 dX3_probe_82 rfl rfl (ct_J21_valueOf g hst N h x8 _ e34) (by omega) (by simp only [List.map_cons, List.map_nil, List.sum_cons, List.sum_nil, cat_rf]; exact Nat.le_of_ble_eq_true rfl) (fun v9 h9 z9 y9 => ?_)
      obtain ⟨rfl, rfl⟩ := y9
      refine aw_st (st' := [va_rf q33.1, va_rf o31]) rfl ?_
      replace hq := obind hq
      obtain ⟨a35, e36, hq⟩ := hq
      subst e36
      replace hq := cond_t hq
      obtain ⟨z37, hq⟩ := hq
      obtain ⟨fs9, ha9⟩ := clB1 z37
      replace hq := obind hq
      obtain ⟨q38, e39, hq⟩ := hq
      refine aw_callV (Y2 := YJ5_get) (As := [va_rf q33.1]) (rest := []) (r := (RJ5, TJ5, 9)) kJ5_get ha9 rfl rfl q2037 q2038 q2039 dX3_probe_85 rfl rfl (ct_J5_get g hst N q33.2 a35 q33.1 _ e39) (by omega) (Nat.le_of_ble_eq_true rfl) (fun v9 h9 z9 y9 => ?_)
      obtain ⟨rfl, rfl⟩ := y9
      refine aw_st (st' := [va_rf q38.1]) rfl ?_
      replace hq := cond_t hq
      obtain ⟨z40, hq⟩ := hq
      refine xw_cast (r := q38.1) z40 q2041 casProbeConsole_Job dX3_probe_88 ?_
      refine aw_astore (loc' := [some (.ref x0), some (va_rf r1), some (va_rf r2), some (.int x3), some (.int x4), some (.int x5), some (.int x6), some (.int x7), some (.int x8), some (va_rf q38.1)]) dX3_probe_91 (Nat.le_of_ble_eq_true rfl) (aIsR_rf _) rfl ?_
      refine aw_aload dX3_probe_93 rfl (aIsR_rf _) ?_
      generalize q38.1 = v9 at hq ⊢
      rcases v9 with _ | a41
      · replace hq := ocase_n hq
        refine xw_ifnullN (tgt := 176) dX3_probe_95 (by decide) ?_
        exact p_x_X3_probe_176 g hst N ρ n hρ _ _ ih hK182 q38.2 x0 r1 r2 x3 x4 x5 x6 x7 x8 (none) _ hq
      · replace hq := ocase_s hq
        refine xw_ifnullS (tgt := 176) dX3_probe_95 (by decide) ?_
        refine aw_aload dX3_probe_98 rfl trivial ?_
        refine aw_aload_n (i := 1) dX3_probe_100 rfl rfl (aIsR_rf _) ?_
        replace hq := obind hq
        obtain ⟨a42, e43, hq⟩ := hq
        subst e43
        replace hq := obind hq
        obtain ⟨o44, e45, hq⟩ := hq
        refine xw_getR e45 fX3_75 dX3_probe_101 ?_
        replace hq := cond_t hq
        obtain ⟨z46, hq⟩ := hq
        obtain ⟨fs9, ha9⟩ := clB1 z46
        replace hq := obind hq
        obtain ⟨q47, e48, hq⟩ := hq
        refine aw_callV (Y2 := YX9_fits) (As := [va_rf o44]) (rest := []) (r := (RX9, TX9, 8)) kX9_fits ha9 rfl rfl q2042 q2043 q2044 dX3_probe_104 rfl rfl (ct_X9_fits g hst N q38.2 a41 o44 _ e48) (by omega) (Nat.le_of_ble_eq_true rfl) (fun v9 h9 z9 y9 => ?_)
        obtain ⟨rfl, rfl⟩ := y9
        refine aw_st (st' := [.int q47.1]) rfl ?_
        refine aw_if_ne (tgt := 113) dX3_probe_107 (by decide) (fun c49 => ?_) (fun c49 => ?_)
        · rw [if_neg c49] at hq
          refine aw_aload dX3_probe_113 rfl trivial ?_
          replace hq := obind hq
          obtain ⟨i50, e51, hq⟩ := hq
          refine xw_getI e51 fX3_174 dX3_probe_115 ?_
          refine aw_iconst (v := 1) dX3_probe_118 (by decide) ?_
          refine aw_icmp_eq (tgt := 139) dX3_probe_119 (by decide) (fun c52 => ?_) (fun c52 => ?_)
          · rw [if_pos c52] at hq
            refine aw_aload dX3_probe_139 rfl trivial ?_
            replace hq := obind hq
            obtain ⟨i53, e54, hq⟩ := hq
            refine xw_getI e54 fX3_204 dX3_probe_141 ?_
            refine aw_iload dX3_probe_144 rfl ?_
            refine aw_icmp_ne (tgt := 176) dX3_probe_146 (by decide) (fun c55 => ?_) (fun c55 => ?_)
            · rw [if_neg c55] at hq
              exact p_x_X3_probe_176 g hst N ρ n hρ _ _ ih hK182 q47.2 x0 (some a42) r2 x3 x4 x5 x6 x7 x8 (some a41) _ hq
            · rw [if_pos c55] at hq
              refine aw_aload_n (i := 0) dX3_probe_149 rfl rfl trivial ?_
              refine aw_iload dX3_probe_150 rfl ?_
              refine aw_aload dX3_probe_152 rfl trivial ?_
              refine aw_aload_n (i := 1) dX3_probe_154 rfl rfl trivial ?_
              refine aw_aload_n (i := 2) dX3_probe_155 rfl rfl (aIsR_rf _) ?_
              refine aw_iload_n (i := 3) dX3_probe_156 rfl rfl ?_
              replace hq := cond_t hq
              obtain ⟨z56, hq⟩ := hq
              obtain ⟨fs9, ha9⟩ := clB1 z56
              replace hq := obind hq
              obtain ⟨q57, e58, hq⟩ := hq
              refine aw_callV (Y2 := YX3_watches) (As := [.int x8, .ref a41, .ref a42, va_rf r2, .int x3]) (rest := []) (r := (RX3, TX3, 10)) kX3_watches ha9 rfl rfl q2087 q2089 qs47 dX3_probe_157 rfl rfl (hρ.2.2.2.2.1 q47.2 x0 x8 (some a41) (some a42) r2 x3 _ e58) (Nat.le_refl _) (Nat.le_of_ble_eq_true rfl) (fun v9 h9 z9 y9 => ?_)
              obtain ⟨rfl, rfl⟩ := y9
              refine aw_st (st' := [.int q57.1]) rfl ?_
              refine aw_if_eq (tgt := 176) dX3_probe_160 (by decide) (fun c59 => ?_) (fun c59 => ?_)
              · rw [if_pos c59] at hq
                exact p_x_X3_probe_176 g hst N ρ n hρ _ _ ih hK182 q57.2 x0 (some a42) r2 x3 x4 x5 x6 x7 x8 (some a41) _ hq
              · rw [if_neg c59] at hq
                refine aw_aload_n (i := 0) dX3_probe_163 rfl rfl trivial ?_
                replace hq := obind hq
                obtain ⟨o60, e61, hq⟩ := hq
                refine xw_getR e61 fX3_28 dX3_probe_164 ?_
                refine aw_iload dX3_probe_167 rfl ?_
                replace hq := obind hq
                obtain ⟨q62, e63, hq⟩ := hq
                refine aw_callS (Y2 := YJ21_valueOf) (As := [.int x8]) (rest := [va_rf o60]) kJ21_valueOf q2036 q1790 dX3_probe_169 rfl rfl (ct_J21_valueOf g hst N q57.2 x8 _ e63) (by omega) (by simp only [List.map_cons, List.map_nil, List.sum_cons, List.sum_nil, cat_rf]; exact Nat.le_of_ble_eq_true rfl) (fun v9 h9 z9 y9 => ?_)
                obtain ⟨rfl, rfl⟩ := y9
                refine aw_st (st' := [va_rf q62.1, va_rf o60]) rfl ?_
                replace hq := obind hq
                obtain ⟨a64, e65, hq⟩ := hq
                subst e65
                replace hq := cond_t hq
                obtain ⟨z66, hq⟩ := hq
                obtain ⟨fs9, ha9⟩ := clB1 z66
                replace hq := obind hq
                obtain ⟨q67, e68, hq⟩ := hq
                refine aw_callV (Y2 := YJ5_remove) (As := [va_rf q62.1]) (rest := []) (r := (RJ5, TJ5, 9)) kJ5_remove ha9 rfl rfl q2146 q1809 q1810 dX3_probe_172 rfl rfl (ct_J5_remove g hst N q62.2 a64 q62.1 _ e68) (by omega) (Nat.le_of_ble_eq_true rfl) (fun v9 h9 z9 y9 => ?_)
                obtain ⟨rfl, rfl⟩ := y9
                refine aw_st (st' := [va_rf q67.1]) rfl ?_
                refine aw_pop dX3_probe_175 (cat_rf _) ?_
                exact p_x_X3_probe_176 g hst N ρ n hρ _ _ ih hK182 q67.2 x0 (some a42) r2 x3 x4 x5 x6 x7 x8 (some a41) _ hq
          · rw [if_neg c52] at hq
            refine aw_aload_n (i := 0) dX3_probe_122 rfl rfl trivial ?_
            refine aw_iload dX3_probe_123 rfl ?_
            refine aw_aload dX3_probe_125 rfl trivial ?_
            refine aw_aload_n (i := 1) dX3_probe_127 rfl rfl trivial ?_
            refine aw_aload_n (i := 2) dX3_probe_128 rfl rfl (aIsR_rf _) ?_
            refine aw_iload dX3_probe_129 rfl ?_
            refine aw_iload dX3_probe_131 rfl ?_
            replace hq := cond_t hq
            obtain ⟨z69, hq⟩ := hq
            obtain ⟨fs9, ha9⟩ := clB1 z69
            replace hq := obind hq
            obtain ⟨q70, e71, hq⟩ := hq
            refine aw_callV (Y2 := YX3_see) (As := [.int x8, .ref a41, .ref a42, va_rf r2, .int x4, .int x5]) (rest := []) (r := (RX3, TX3, 10)) kX3_see ha9 rfl rfl q2048 q2050 qs46 dX3_probe_133 rfl rfl (ct_X3_see g hst N q47.2 x0 x8 (some a41) (some a42) r2 x4 x5 _ e71) (by omega) (Nat.le_of_ble_eq_true rfl) (fun v9 h9 z9 y9 => ?_)
            obtain ⟨rfl, y9⟩ := y9
            rw [y9]
            refine aw_st (st' := []) rfl ?_
            refine aw_goto (tgt := 176) dX3_probe_136 (by decide) ?_
            exact p_x_X3_probe_176 g hst N ρ n hρ _ _ ih hK182 q70 x0 (some a42) r2 x3 x4 x5 x6 x7 x8 (some a41) _ hq
        · rw [if_pos c49] at hq
          refine aw_goto (tgt := 176) dX3_probe_110 (by decide) ?_
          exact p_x_X3_probe_176 g hst N ρ n hρ _ _ ih hK182 q47.2 x0 (some a42) r2 x3 x4 x5 x6 x7 x8 (some a41) _ hq
def x_X3_probe_65 (g : AG) (N : Nat) (ρ : R_X3) (h : AH) (x0 : Nat) (r1 : Option Nat) (r2 : Option Nat) (x3 : Int32) (x4 : Int32) (x5 : Int32) (x6 : Int32) (x7 : Int32) (t0 : Option Nat) (s1 : Int32) (s2 : Int32) : Option AH :=
  (t0).bind fun a26 => (wrA g h a26 0 s1 (.int s2)).bind fun h28 => x_X3_probe_69 g N ρ (fun h x0 r1 r2 x3 x4 x5 x6 x7 x8 => bif isb x6 then ((wrV g h x0 [(2, 5)] (.int x6)).bind fun h73 => bif isb x7 then ((wrV g h73 x0 [(2, 6)] (.int x7)).bind fun h76 => some h76) else none) else none) N h28 x0 r1 r2 x3 x4 x5 x6 x7 (0 : Int32)
theorem p_x_X3_probe_65 (g : AG) (hst : (gL g).stackTraces = false) (N : Nat) (ρ : R_X3) (n : Nat) (hρ : Ok_X3 g n ρ) : ∀ (h : AH) (x0 : Nat) (r1 : Option Nat) (r2 : Option Nat) (x3 : Int32) (x4 : Int32) (x5 : Int32) (x6 : Int32) (x7 : Int32) (t0 : Option Nat) (s1 : Int32) (s2 : Int32) (q : AH), x_X3_probe_65 g N ρ h x0 r1 r2 x3 x4 x5 x6 x7 t0 s1 s2 = some q → AW g YX3_probe (10 + n + 1) (xV q) h [some (.ref x0), some (va_rf r1), some (va_rf r2), some (.int x3), some (.int x4), some (.int x5), some (.int x6), some (.int x7), none, none] 65 [.int s2, .int s1, va_rf t0] := by
  intro h x0 r1 r2 x3 x4 x5 x6 x7 t0 s1 s2 q hq
  unfold x_X3_probe_65 at hq
  replace hq := obind hq
  obtain ⟨a26, e27, hq⟩ := hq
  subst e27
  replace hq := obind hq
  obtain ⟨h28, e29, hq⟩ := hq
  refine xw_iast e29 dX3_probe_65 ?_
  refine aw_iconst (v := 0) dX3_probe_66 (by decide) ?_
  refine aw_istore (loc' := [some (.ref x0), some (va_rf r1), some (va_rf r2), some (.int x3), some (.int x4), some (.int x5), some (.int x6), some (.int x7), some (.int (0 : Int32)), none]) dX3_probe_67 (Nat.le_of_ble_eq_true rfl) rfl ?_
  refine p_x_X3_probe_69 g hst N ρ n hρ _ ?_ N h28 x0 r1 r2 x3 x4 x5 x6 x7 (0 : Int32) _ hq
  · intro h x0 r1 r2 x3 x4 x5 x6 x7 x8 q hq
    refine aw_aload_n (i := 0) dX3_probe_182 rfl rfl trivial ?_
    refine aw_iload dX3_probe_183 rfl ?_
    replace hq := cond_t hq
    obtain ⟨z72, hq⟩ := hq
    replace hq := obind hq
    obtain ⟨h73, e74, hq⟩ := hq
    refine xw_put e74 fX3_85 tX3_5 (isb_ok z72) dX3_probe_185 ?_
    refine aw_aload_n (i := 0) dX3_probe_188 rfl rfl trivial ?_
    refine aw_iload dX3_probe_189 rfl ?_
    replace hq := cond_t hq
    obtain ⟨z75, hq⟩ := hq
    replace hq := obind hq
    obtain ⟨h76, e77, hq⟩ := hq
    refine xw_put e77 fX3_118 tX3_6 (isb_ok z75) dX3_probe_191 ?_
    cases hq
    exact aw_vret dX3_probe_194 rfl ⟨rfl, rfl⟩
def x_X3_probe_47 (g : AG) (N : Nat) (ρ : R_X3) (h : AH) (x0 : Nat) (r1 : Option Nat) (r2 : Option Nat) (x3 : Int32) (x4 : Int32) (x5 : Int32) (x6 : Int32) (x7 : Int32) (t0 : Option Nat) (s1 : Int32) (s2 : Int32) : Option AH :=
  (t0).bind fun a17 => (wrA g h a17 0 s1 (.int s2)).bind fun h19 => (r2).bind fun a21 => (rdR h19 a21 [(3, 0)]).bind fun o23 => if x4 = (2 : Int32) then (x_X3_probe_65 g N ρ  h19 x0 r1 (some a21) x3 x4 x5 x6 x7 o23 (4 : Int32) x5) else (x_X3_probe_65 g N ρ  h19 x0 r1 (some a21) x3 x4 x5 x6 x7 o23 (4 : Int32) (0 : Int32))
theorem p_x_X3_probe_47 (g : AG) (hst : (gL g).stackTraces = false) (N : Nat) (ρ : R_X3) (n : Nat) (hρ : Ok_X3 g n ρ) : ∀ (h : AH) (x0 : Nat) (r1 : Option Nat) (r2 : Option Nat) (x3 : Int32) (x4 : Int32) (x5 : Int32) (x6 : Int32) (x7 : Int32) (t0 : Option Nat) (s1 : Int32) (s2 : Int32) (q : AH), x_X3_probe_47 g N ρ h x0 r1 r2 x3 x4 x5 x6 x7 t0 s1 s2 = some q → AW g YX3_probe (10 + n + 1) (xV q) h [some (.ref x0), some (va_rf r1), some (va_rf r2), some (.int x3), some (.int x4), some (.int x5), some (.int x6), some (.int x7), none, none] 47 [.int s2, .int s1, va_rf t0] := by
  intro h x0 r1 r2 x3 x4 x5 x6 x7 t0 s1 s2 q hq
  unfold x_X3_probe_47 at hq
  replace hq := obind hq
  obtain ⟨a17, e18, hq⟩ := hq
  subst e18
  replace hq := obind hq
  obtain ⟨h19, e20, hq⟩ := hq
  refine xw_iast e20 dX3_probe_47 ?_
  refine aw_aload_n (i := 2) dX3_probe_48 rfl rfl (aIsR_rf _) ?_
  replace hq := obind hq
  obtain ⟨a21, e22, hq⟩ := hq
  subst e22
  replace hq := obind hq
  obtain ⟨o23, e24, hq⟩ := hq
  refine xw_getR e24 fX3_132 dX3_probe_49 ?_
  refine aw_iconst (v := 4) dX3_probe_52 (by decide) ?_
  refine aw_iload dX3_probe_53 rfl ?_
  refine aw_iconst (v := 2) dX3_probe_55 (by decide) ?_
  refine aw_icmp_ne (tgt := 64) dX3_probe_56 (by decide) (fun c25 => ?_) (fun c25 => ?_)
  · rw [if_neg c25] at hq
    refine aw_iconst (v := 0) dX3_probe_64 (by decide) ?_
    exact p_x_X3_probe_65 g hst N ρ n hρ   h19 x0 r1 (some a21) x3 x4 x5 x6 x7 o23 (4 : Int32) (0 : Int32) _ hq
  · rw [if_pos c25] at hq
    refine aw_iload dX3_probe_59 rfl ?_
    refine aw_goto (tgt := 65) dX3_probe_61 (by decide) ?_
    exact p_x_X3_probe_65 g hst N ρ n hρ   h19 x0 r1 (some a21) x3 x4 x5 x6 x7 o23 (4 : Int32) x5 _ hq
def xb_X3_probe (g : AG) (N : Nat) (ρ : R_X3) (h : AH) (x0 : Nat) (r1 : Option Nat) (r2 : Option Nat) (x3 : Int32) (x4 : Int32) (x5 : Int32) : Option AH :=
  (rdI h x0 [(2, 8)]).bind fun i1 => if i1 = 0 then ((rdI h x0 [(2, 5)]).bind fun i4 => (rdI h x0 [(2, 6)]).bind fun i6 => (wrV g h x0 [(2, 5)] (.int (0 : Int32))).bind fun h8 => (wrV g h8 x0 [(2, 6)] (.int (0 : Int32))).bind fun h10 => (r2).bind fun a12 => (rdR h10 a12 [(3, 0)]).bind fun o14 => if x4 = (1 : Int32) then (x_X3_probe_47 g N ρ  h10 x0 r1 (some a12) x3 x4 x5 i4 i6 o14 (3 : Int32) x5) else (x_X3_probe_47 g N ρ  h10 x0 r1 (some a12) x3 x4 x5 i4 i6 o14 (3 : Int32) (0 : Int32))) else (some h)
theorem cb_X3_probe (g : AG) (hst : (gL g).stackTraces = false) (N : Nat) (ρ : R_X3) (n : Nat) (hρ : Ok_X3 g n ρ) : ∀ (h : AH) (x0 : Nat) (r1 : Option Nat) (r2 : Option Nat) (x3 : Int32) (x4 : Int32) (x5 : Int32) (q : AH), xb_X3_probe g N ρ h x0 r1 r2 x3 x4 x5 = some q → CT g YX3_probe (10 + n + 1) [.ref x0, va_rf r1, va_rf r2, .int x3, .int x4, .int x5] h (xV q) := by
  intro h x0 r1 r2 x3 x4 x5 q hq
  refine CT.of rfl (by decide +kernel) (loc := [some (.ref x0), some (va_rf r1), some (va_rf r2), some (.int x3), some (.int x4), some (.int x5), none, none, none, none]) (by first | exact Nat.le_of_ble_eq_true rfl | (simp only [lgl_rf, lgl_i, lgl_j, lgl_ref, lgl_nil]; exact Nat.le_of_ble_eq_true rfl)) (by first | rfl | (simp only [aent_rf, aent_i, aent_j, aent_ref, aent_nil]; rfl)) ?_
  unfold xb_X3_probe at hq
  refine aw_aload_n (i := 0) dX3_probe_0 rfl rfl trivial ?_
  replace hq := obind hq
  obtain ⟨i1, e2, hq⟩ := hq
  refine xw_getI e2 fX3_184 dX3_probe_1 ?_
  refine aw_if_eq (tgt := 8) dX3_probe_4 (by decide) (fun c3 => ?_) (fun c3 => ?_)
  · rw [if_pos c3] at hq
    refine aw_aload_n (i := 0) dX3_probe_8 rfl rfl trivial ?_
    replace hq := obind hq
    obtain ⟨i4, e5, hq⟩ := hq
    refine xw_getI e5 fX3_85 dX3_probe_9 ?_
    refine aw_istore (loc' := [some (.ref x0), some (va_rf r1), some (va_rf r2), some (.int x3), some (.int x4), some (.int x5), some (.int i4), none, none, none]) dX3_probe_12 (Nat.le_of_ble_eq_true rfl) rfl ?_
    refine aw_aload_n (i := 0) dX3_probe_14 rfl rfl trivial ?_
    replace hq := obind hq
    obtain ⟨i6, e7, hq⟩ := hq
    refine xw_getI e7 fX3_118 dX3_probe_15 ?_
    refine aw_istore (loc' := [some (.ref x0), some (va_rf r1), some (va_rf r2), some (.int x3), some (.int x4), some (.int x5), some (.int i4), some (.int i6), none, none]) dX3_probe_18 (Nat.le_of_ble_eq_true rfl) rfl ?_
    refine aw_aload_n (i := 0) dX3_probe_20 rfl rfl trivial ?_
    refine aw_iconst (v := 0) dX3_probe_21 (by decide) ?_
    replace hq := obind hq
    obtain ⟨h8, e9, hq⟩ := hq
    refine xw_put e9 fX3_85 tX3_5 (isb_ok (by decide)) dX3_probe_22 ?_
    refine aw_aload_n (i := 0) dX3_probe_25 rfl rfl trivial ?_
    refine aw_iconst (v := 0) dX3_probe_26 (by decide) ?_
    replace hq := obind hq
    obtain ⟨h10, e11, hq⟩ := hq
    refine xw_put e11 fX3_118 tX3_6 (isb_ok (by decide)) dX3_probe_27 ?_
    refine aw_aload_n (i := 2) dX3_probe_30 rfl rfl (aIsR_rf _) ?_
    replace hq := obind hq
    obtain ⟨a12, e13, hq⟩ := hq
    subst e13
    replace hq := obind hq
    obtain ⟨o14, e15, hq⟩ := hq
    refine xw_getR e15 fX3_132 dX3_probe_31 ?_
    refine aw_iconst (v := 3) dX3_probe_34 (by decide) ?_
    refine aw_iload dX3_probe_35 rfl ?_
    refine aw_iconst (v := 1) dX3_probe_37 (by decide) ?_
    refine aw_icmp_ne (tgt := 46) dX3_probe_38 (by decide) (fun c16 => ?_) (fun c16 => ?_)
    · rw [if_neg c16] at hq
      refine aw_iconst (v := 0) dX3_probe_46 (by decide) ?_
      exact p_x_X3_probe_47 g hst N ρ n hρ   h10 x0 r1 (some a12) x3 x4 x5 i4 i6 o14 (3 : Int32) (0 : Int32) _ hq
    · rw [if_pos c16] at hq
      refine aw_iload dX3_probe_41 rfl ?_
      refine aw_goto (tgt := 47) dX3_probe_43 (by decide) ?_
      exact p_x_X3_probe_47 g hst N ρ n hρ   h10 x0 r1 (some a12) x3 x4 x5 i4 i6 o14 (3 : Int32) x5 _ hq
  · rw [if_neg c3] at hq
    cases hq
    exact aw_vret dX3_probe_7 rfl ⟨rfl, rfl⟩
theorem kX3_invoke : aMk YX3_invoke 5 := ⟨rfl, q2027, q118, ⟨by decide +kernel, by decide +kernel, by decide +kernel⟩, Nat.le_of_ble_eq_true rfl⟩
def x_X3_invoke_123 (g : AG) (N : Nat) (ρ : R_X3) (h : AH) (x0 : Nat) (r1 : Option Nat) (x2 : Int32) (x3 : Int32) (x4 : Int32) (x5 : Int32) (r6 : Option Nat) (x7 : Int32) (t1 : Option Nat) (t2 : Option Nat) (s3 : Int32) (s4 : Int32) : Option (Int32 × AH) :=
  bif clB h x0 [2] then ((ρ.2.2.2.2.2.1 h x0 t1 t2 s3 s4 x7).bind fun q49 => some (x7, q49)) else none
theorem p_x_X3_invoke_123 (g : AG) (hst : (gL g).stackTraces = false) (N : Nat) (ρ : R_X3) (n : Nat) (hρ : Ok_X3 g n ρ) : ∀ (h : AH) (x0 : Nat) (r1 : Option Nat) (x2 : Int32) (x3 : Int32) (x4 : Int32) (x5 : Int32) (r6 : Option Nat) (x7 : Int32) (t1 : Option Nat) (t2 : Option Nat) (s3 : Int32) (s4 : Int32) (q : (Int32 × AH)), x_X3_invoke_123 g N ρ h x0 r1 x2 x3 x4 x5 r6 x7 t1 t2 s3 s4 = some q → AW g YX3_invoke (10 + n + 1) (xI q) h [some (.ref x0), some (va_rf r1), some (.int x2), some (.int x3), some (.int x4), some (.int x5), some (va_rf r6), some (.int x7)] 123 [.int s4, .int s3, va_rf t2, va_rf t1, .ref x0] := by
  intro h x0 r1 x2 x3 x4 x5 r6 x7 t1 t2 s3 s4 q hq
  unfold x_X3_invoke_123 at hq
  refine aw_iload dX3_invoke_123 rfl ?_
  replace hq := cond_t hq
  obtain ⟨z48, hq⟩ := hq
  obtain ⟨fs9, ha9⟩ := clB1 z48
  replace hq := obind hq
  obtain ⟨q49, e50, hq⟩ := hq
  refine aw_callV (Y2 := YX3_probe) (As := [va_rf t1, va_rf t2, .int s3, .int s4, .int x7]) (rest := []) (r := (RX3, TX3, 10)) kX3_probe ha9 rfl rfl q2032 q2034 qs45 dX3_invoke_125 rfl rfl (hρ.2.2.2.2.2.1 h x0 t1 t2 s3 s4 x7 _ e50) (Nat.le_refl _) (Nat.le_of_ble_eq_true rfl) (fun v9 h9 z9 y9 => ?_)
  obtain ⟨rfl, y9⟩ := y9
  rw [y9]
  refine aw_st (st' := []) rfl ?_
  refine aw_iload dX3_invoke_128 rfl ?_
  cases hq
  exact aw_ireturn dX3_invoke_130 rfl rfl ⟨rfl, rfl⟩
def xb_X3_invoke (g : AG) (N : Nat) (ρ : R_X3) (h : AH) (x0 : Nat) (r1 : Option Nat) (x2 : Int32) (x3 : Int32) (x4 : Int32) (x5 : Int32) : Option (Int32 × AH) :=
  if x5 ≤ (10 : Int32) then ((rdI h x0 [(2, 7)]).bind fun i2 => if i2 = (1000 : Int32) then ((wrV g h x0 [(2, 6)] (.int (1 : Int32))).bind fun h51 => bif clB h51 x0 [2] then ((x_X3_fail g N h51 x0 (-3 : Int32)).bind fun q54 => some (q54.1, q54.2)) else none) else ((rdI h x0 [(2, 7)]).bind fun i5 => (wrV g h x0 [(2, 7)] (.int (i5 + (1 : Int32)))).bind fun h7 => (rdR h7 x0 [(2, 9)]).bind fun o9 => (o9).bind fun a11 => (rdQ h7 a11 x5).bind fun o13 => (o13).bind fun a15 => (rdR h7 a15 [(3, 0)]).bind fun o17 => (o17).bind fun a19 => (wrA g h7 a19 0 (0 : Int32) (.int x2)).bind fun h21 => (rdR h21 a15 [(3, 0)]).bind fun o23 => (o23).bind fun a25 => (wrA g h21 a25 0 (1 : Int32) (.int x3)).bind fun h27 => (rdR h27 a15 [(3, 0)]).bind fun o29 => (o29).bind fun a31 => (wrA g h27 a31 0 (2 : Int32) (.int x4)).bind fun h33 => bif clB h33 x0 [2] then ((ρ.2.2.2.2.2.1 h33 x0 r1 (some a15) x5 (0 : Int32) (0 : Int32)).bind fun q36 => (r1).bind fun a38 => (rdR q36 a38 [(6, 3)]).bind fun o40 => bif clB q36 x0 [2] then ((ρ.2.2.2.1 q36 x0 o40 (some a15) x5).bind fun q43 => (rdI q43.2 x0 [(2, 5)]).bind fun i45 => if i45 = 0 then (x_X3_invoke_123 g N ρ  q43.2 x0 (some a38) x2 x3 x4 x5 (some a15) q43.1 (some a38) (some a15) x5 (1 : Int32)) else (x_X3_invoke_123 g N ρ  q43.2 x0 (some a38) x2 x3 x4 x5 (some a15) q43.1 (some a38) (some a15) x5 (2 : Int32))) else none) else none)) else (bif clB h x0 [2] then ((x_X3_fail g N h x0 (-2 : Int32)).bind fun q57 => some (q57.1, q57.2)) else none)
theorem cb_X3_invoke (g : AG) (hst : (gL g).stackTraces = false) (N : Nat) (ρ : R_X3) (n : Nat) (hρ : Ok_X3 g n ρ) : ∀ (h : AH) (x0 : Nat) (r1 : Option Nat) (x2 : Int32) (x3 : Int32) (x4 : Int32) (x5 : Int32) (q : (Int32 × AH)), xb_X3_invoke g N ρ h x0 r1 x2 x3 x4 x5 = some q → CT g YX3_invoke (10 + n + 1) [.ref x0, va_rf r1, .int x2, .int x3, .int x4, .int x5] h (xI q) := by
  intro h x0 r1 x2 x3 x4 x5 q hq
  refine CT.of rfl (by decide +kernel) (loc := [some (.ref x0), some (va_rf r1), some (.int x2), some (.int x3), some (.int x4), some (.int x5), none, none]) (by first | exact Nat.le_of_ble_eq_true rfl | (simp only [lgl_rf, lgl_i, lgl_j, lgl_ref, lgl_nil]; exact Nat.le_of_ble_eq_true rfl)) (by first | rfl | (simp only [aent_rf, aent_i, aent_j, aent_ref, aent_nil]; rfl)) ?_
  unfold xb_X3_invoke at hq
  refine aw_iload dX3_invoke_0 rfl ?_
  refine aw_bipush (v := 10) dX3_invoke_2 (by decide) ?_
  refine aw_icmp_le (tgt := 14) dX3_invoke_4 (by decide) (fun c1 => ?_) (fun c1 => ?_)
  · rw [if_pos c1] at hq
    refine aw_aload_n (i := 0) dX3_invoke_14 rfl rfl trivial ?_
    replace hq := obind hq
    obtain ⟨i2, e3, hq⟩ := hq
    refine xw_getI e3 fX3_214 dX3_invoke_15 ?_
    refine aw_sipush (v := 1000) dX3_invoke_18 (by decide) ?_
    refine aw_icmp_ne (tgt := 36) dX3_invoke_21 (by decide) (fun c4 => ?_) (fun c4 => ?_)
    · rw [if_neg c4] at hq
      refine aw_aload_n (i := 0) dX3_invoke_36 rfl rfl trivial ?_
      refine aw_dup dX3_invoke_37 rfl ?_
      replace hq := obind hq
      obtain ⟨i5, e6, hq⟩ := hq
      refine xw_getI e6 fX3_214 dX3_invoke_38 ?_
      refine aw_iconst (v := 1) dX3_invoke_41 (by decide) ?_
      refine aw_iadd dX3_invoke_42 ?_
      replace hq := obind hq
      obtain ⟨h7, e8, hq⟩ := hq
      refine xw_put e8 fX3_214 tX3_7 ⟨rfl, rfl⟩ dX3_invoke_43 ?_
      refine aw_aload_n (i := 0) dX3_invoke_46 rfl rfl trivial ?_
      replace hq := obind hq
      obtain ⟨o9, e10, hq⟩ := hq
      refine xw_getR e10 fX3_40 dX3_invoke_47 ?_
      refine aw_iload dX3_invoke_50 rfl ?_
      replace hq := obind hq
      obtain ⟨a11, e12, hq⟩ := hq
      subst e12
      replace hq := obind hq
      obtain ⟨o13, e14, hq⟩ := hq
      refine xw_aald e14 dX3_invoke_52 ?_
      refine aw_astore (loc' := [some (.ref x0), some (va_rf r1), some (.int x2), some (.int x3), some (.int x4), some (.int x5), some (va_rf o13), none]) dX3_invoke_53 (Nat.le_of_ble_eq_true rfl) (aIsR_rf _) rfl ?_
      refine aw_aload dX3_invoke_55 rfl (aIsR_rf _) ?_
      replace hq := obind hq
      obtain ⟨a15, e16, hq⟩ := hq
      subst e16
      replace hq := obind hq
      obtain ⟨o17, e18, hq⟩ := hq
      refine xw_getR e18 fX3_132 dX3_invoke_57 ?_
      refine aw_iconst (v := 0) dX3_invoke_60 (by decide) ?_
      refine aw_iload_n (i := 2) dX3_invoke_61 rfl rfl ?_
      replace hq := obind hq
      obtain ⟨a19, e20, hq⟩ := hq
      subst e20
      replace hq := obind hq
      obtain ⟨h21, e22, hq⟩ := hq
      refine xw_iast e22 dX3_invoke_62 ?_
      refine aw_aload dX3_invoke_63 rfl trivial ?_
      replace hq := obind hq
      obtain ⟨o23, e24, hq⟩ := hq
      refine xw_getR e24 fX3_132 dX3_invoke_65 ?_
      refine aw_iconst (v := 1) dX3_invoke_68 (by decide) ?_
      refine aw_iload_n (i := 3) dX3_invoke_69 rfl rfl ?_
      replace hq := obind hq
      obtain ⟨a25, e26, hq⟩ := hq
      subst e26
      replace hq := obind hq
      obtain ⟨h27, e28, hq⟩ := hq
      refine xw_iast e28 dX3_invoke_70 ?_
      refine aw_aload dX3_invoke_71 rfl trivial ?_
      replace hq := obind hq
      obtain ⟨o29, e30, hq⟩ := hq
      refine xw_getR e30 fX3_132 dX3_invoke_73 ?_
      refine aw_iconst (v := 2) dX3_invoke_76 (by decide) ?_
      refine aw_iload dX3_invoke_77 rfl ?_
      replace hq := obind hq
      obtain ⟨a31, e32, hq⟩ := hq
      subst e32
      replace hq := obind hq
      obtain ⟨h33, e34, hq⟩ := hq
      refine xw_iast e34 dX3_invoke_79 ?_
      refine aw_aload_n (i := 0) dX3_invoke_80 rfl rfl trivial ?_
      refine aw_aload_n (i := 1) dX3_invoke_81 rfl rfl (aIsR_rf _) ?_
      refine aw_aload dX3_invoke_82 rfl trivial ?_
      refine aw_iload dX3_invoke_84 rfl ?_
      refine aw_iconst (v := 0) dX3_invoke_86 (by decide) ?_
      refine aw_iconst (v := 0) dX3_invoke_87 (by decide) ?_
      replace hq := cond_t hq
      obtain ⟨z35, hq⟩ := hq
      obtain ⟨fs9, ha9⟩ := clB1 z35
      replace hq := obind hq
      obtain ⟨q36, e37, hq⟩ := hq
      refine aw_callV (Y2 := YX3_probe) (As := [va_rf r1, .ref a15, .int x5, .int (0 : Int32), .int (0 : Int32)]) (rest := []) (r := (RX3, TX3, 10)) kX3_probe ha9 rfl rfl q2032 q2034 qs45 dX3_invoke_88 rfl rfl (hρ.2.2.2.2.2.1 h33 x0 r1 (some a15) x5 (0 : Int32) (0 : Int32) _ e37) (Nat.le_refl _) (Nat.le_of_ble_eq_true rfl) (fun v9 h9 z9 y9 => ?_)
      obtain ⟨rfl, y9⟩ := y9
      rw [y9]
      refine aw_st (st' := []) rfl ?_
      refine aw_aload_n (i := 0) dX3_invoke_91 rfl rfl trivial ?_
      refine aw_aload_n (i := 1) dX3_invoke_92 rfl rfl (aIsR_rf _) ?_
      replace hq := obind hq
      obtain ⟨a38, e39, hq⟩ := hq
      subst e39
      replace hq := obind hq
      obtain ⟨o40, e41, hq⟩ := hq
      refine xw_getR e41 fX3_221 dX3_invoke_93 ?_
      refine aw_aload dX3_invoke_96 rfl trivial ?_
      refine aw_iload dX3_invoke_98 rfl ?_
      replace hq := cond_t hq
      obtain ⟨z42, hq⟩ := hq
      obtain ⟨fs9, ha9⟩ := clB1 z42
      replace hq := obind hq
      obtain ⟨q43, e44, hq⟩ := hq
      refine aw_callV (Y2 := YX3_value) (As := [va_rf o40, .ref a15, .int x5]) (rest := []) (r := (RX3, TX3, 10)) kX3_value ha9 rfl rfl q2091 q2093 qs48 dX3_invoke_100 rfl rfl (hρ.2.2.2.1 q36 x0 o40 (some a15) x5 _ e44) (Nat.le_refl _) (Nat.le_of_ble_eq_true rfl) (fun v9 h9 z9 y9 => ?_)
      obtain ⟨rfl, rfl⟩ := y9
      refine aw_st (st' := [.int q43.1]) rfl ?_
      refine aw_istore (loc' := [some (.ref x0), some (.ref a38), some (.int x2), some (.int x3), some (.int x4), some (.int x5), some (.ref a15), some (.int q43.1)]) dX3_invoke_103 (Nat.le_of_ble_eq_true rfl) rfl ?_
      refine aw_aload_n (i := 0) dX3_invoke_105 rfl rfl trivial ?_
      refine aw_aload_n (i := 1) dX3_invoke_106 rfl rfl trivial ?_
      refine aw_aload dX3_invoke_107 rfl trivial ?_
      refine aw_iload dX3_invoke_109 rfl ?_
      refine aw_aload_n (i := 0) dX3_invoke_111 rfl rfl trivial ?_
      replace hq := obind hq
      obtain ⟨i45, e46, hq⟩ := hq
      refine xw_getI e46 fX3_85 dX3_invoke_112 ?_
      refine aw_if_eq (tgt := 122) dX3_invoke_115 (by decide) (fun c47 => ?_) (fun c47 => ?_)
      · rw [if_pos c47] at hq
        refine aw_iconst (v := 1) dX3_invoke_122 (by decide) ?_
        exact p_x_X3_invoke_123 g hst N ρ n hρ   q43.2 x0 (some a38) x2 x3 x4 x5 (some a15) q43.1 (some a38) (some a15) x5 (1 : Int32) _ hq
      · rw [if_neg c47] at hq
        refine aw_iconst (v := 2) dX3_invoke_118 (by decide) ?_
        refine aw_goto (tgt := 123) dX3_invoke_119 (by decide) ?_
        exact p_x_X3_invoke_123 g hst N ρ n hρ   q43.2 x0 (some a38) x2 x3 x4 x5 (some a15) q43.1 (some a38) (some a15) x5 (2 : Int32) _ hq
    · rw [if_pos c4] at hq
      refine aw_aload_n (i := 0) dX3_invoke_24 rfl rfl trivial ?_
      refine aw_iconst (v := 1) dX3_invoke_25 (by decide) ?_
      replace hq := obind hq
      obtain ⟨h51, e52, hq⟩ := hq
      refine xw_put e52 fX3_118 tX3_6 (isb_ok (by decide)) dX3_invoke_26 ?_
      refine aw_aload_n (i := 0) dX3_invoke_29 rfl rfl trivial ?_
      refine aw_bipush (v := (-3)) dX3_invoke_30 (by decide) ?_
      replace hq := cond_t hq
      obtain ⟨z53, hq⟩ := hq
      obtain ⟨fs9, ha9⟩ := clB1 z53
      replace hq := obind hq
      obtain ⟨q54, e55, hq⟩ := hq
      refine aw_callV (Y2 := YX3_fail) (As := [.int (-3 : Int32)]) (rest := []) (r := (RX3, TX3, 10)) kX3_fail ha9 rfl rfl q2028 q2030 qs44 dX3_invoke_32 rfl rfl (ct_X3_fail g hst N h51 x0 (-3 : Int32) _ e55) (by omega) (Nat.le_of_ble_eq_true rfl) (fun v9 h9 z9 y9 => ?_)
      obtain ⟨rfl, rfl⟩ := y9
      refine aw_st (st' := [.int q54.1]) rfl ?_
      cases hq
      exact aw_ireturn dX3_invoke_35 rfl rfl ⟨rfl, rfl⟩
  · rw [if_neg c1] at hq
    refine aw_aload_n (i := 0) dX3_invoke_7 rfl rfl trivial ?_
    refine aw_bipush (v := (-2)) dX3_invoke_8 (by decide) ?_
    replace hq := cond_t hq
    obtain ⟨z56, hq⟩ := hq
    obtain ⟨fs9, ha9⟩ := clB1 z56
    replace hq := obind hq
    obtain ⟨q57, e58, hq⟩ := hq
    refine aw_callV (Y2 := YX3_fail) (As := [.int (-2 : Int32)]) (rest := []) (r := (RX3, TX3, 10)) kX3_fail ha9 rfl rfl q2028 q2030 qs44 dX3_invoke_10 rfl rfl (ct_X3_fail g hst N h x0 (-2 : Int32) _ e58) (by omega) (Nat.le_of_ble_eq_true rfl) (fun v9 h9 z9 y9 => ?_)
    obtain ⟨rfl, rfl⟩ := y9
    refine aw_st (st' := [.int q57.1]) rfl ?_
    cases hq
    exact aw_ireturn dX3_invoke_13 rfl rfl ⟨rfl, rfl⟩
def it_X3 (g : AG) (N : Nat) : Nat → R_X3
  | 0 => ⟨fun _ _ _ _ _ => none, fun _ _ _ _ _ => none, fun _ _ _ _ _ => none, fun _ _ _ _ _ => none, fun _ _ _ _ _ _ _ => none, fun _ _ _ _ _ _ _ => none, fun _ _ _ _ _ _ _ => none⟩
  | n + 1 => ⟨xb_X3_two g N (it_X3 g N n), xb_X3_held g N (it_X3 g N n), xb_X3_invocation g N (it_X3 g N n), xb_X3_value g N (it_X3 g N n), xb_X3_watches g N (it_X3 g N n), xb_X3_probe g N (it_X3 g N n), xb_X3_invoke g N (it_X3 g N n)⟩
theorem ok_X3 (g : AG) (hst : (gL g).stackTraces = false) (N : Nat) : ∀ n, Ok_X3 g n (it_X3 g N n) := by
  intro n
  induction n with
  | zero => exact ⟨(fun _ _ _ _ _ _ hq => by cases hq), (fun _ _ _ _ _ _ hq => by cases hq), (fun _ _ _ _ _ _ hq => by cases hq), (fun _ _ _ _ _ _ hq => by cases hq), (fun _ _ _ _ _ _ _ _ hq => by cases hq), (fun _ _ _ _ _ _ _ _ hq => by cases hq), (fun _ _ _ _ _ _ _ _ hq => by cases hq)⟩
  | succ n ih => exact ⟨cb_X3_two g hst N (it_X3 g N n) n ih, cb_X3_held g hst N (it_X3 g N n) n ih, cb_X3_invocation g hst N (it_X3 g N n) n ih, cb_X3_value g hst N (it_X3 g N n) n ih, cb_X3_watches g hst N (it_X3 g N n) n ih, cb_X3_probe g hst N (it_X3 g N n) n ih, cb_X3_invoke g hst N (it_X3 g N n) n ih⟩
def x_X3_two (g : AG) (N : Nat) (h : AH) (x0 : Nat) (r1 : Option Nat) (r2 : Option Nat) (x3 : Int32) : Option (Int32 × AH) := (it_X3 g N 600).1 h x0 r1 r2 x3
theorem ct_X3_two (g : AG) (hst : (gL g).stackTraces = false) (N : Nat) : ∀ (h : AH) (x0 : Nat) (r1 : Option Nat) (r2 : Option Nat) (x3 : Int32) (q : (Int32 × AH)), x_X3_two g N h x0 r1 r2 x3 = some q → CT g YX3_two 610 [.ref x0, va_rf r1, va_rf r2, .int x3] h (xI q) := (ok_X3 g hst N 600).1
def x_X3_held (g : AG) (N : Nat) (h : AH) (x0 : Nat) (r1 : Option Nat) (r2 : Option Nat) (x3 : Int32) : Option (Int32 × AH) := (it_X3 g N 600).2.1 h x0 r1 r2 x3
theorem ct_X3_held (g : AG) (hst : (gL g).stackTraces = false) (N : Nat) : ∀ (h : AH) (x0 : Nat) (r1 : Option Nat) (r2 : Option Nat) (x3 : Int32) (q : (Int32 × AH)), x_X3_held g N h x0 r1 r2 x3 = some q → CT g YX3_held 610 [.ref x0, va_rf r1, va_rf r2, .int x3] h (xI q) := (ok_X3 g hst N 600).2.1
def x_X3_invocation (g : AG) (N : Nat) (h : AH) (x0 : Nat) (r1 : Option Nat) (r2 : Option Nat) (x3 : Int32) : Option (Int32 × AH) := (it_X3 g N 600).2.2.1 h x0 r1 r2 x3
theorem ct_X3_invocation (g : AG) (hst : (gL g).stackTraces = false) (N : Nat) : ∀ (h : AH) (x0 : Nat) (r1 : Option Nat) (r2 : Option Nat) (x3 : Int32) (q : (Int32 × AH)), x_X3_invocation g N h x0 r1 r2 x3 = some q → CT g YX3_invocation 610 [.ref x0, va_rf r1, va_rf r2, .int x3] h (xI q) := (ok_X3 g hst N 600).2.2.1
def x_X3_value (g : AG) (N : Nat) (h : AH) (x0 : Nat) (r1 : Option Nat) (r2 : Option Nat) (x3 : Int32) : Option (Int32 × AH) := (it_X3 g N 600).2.2.2.1 h x0 r1 r2 x3
theorem ct_X3_value (g : AG) (hst : (gL g).stackTraces = false) (N : Nat) : ∀ (h : AH) (x0 : Nat) (r1 : Option Nat) (r2 : Option Nat) (x3 : Int32) (q : (Int32 × AH)), x_X3_value g N h x0 r1 r2 x3 = some q → CT g YX3_value 610 [.ref x0, va_rf r1, va_rf r2, .int x3] h (xI q) := (ok_X3 g hst N 600).2.2.2.1
def x_X3_watches (g : AG) (N : Nat) (h : AH) (x0 : Nat) (x1 : Int32) (r2 : Option Nat) (r3 : Option Nat) (r4 : Option Nat) (x5 : Int32) : Option (Int32 × AH) := (it_X3 g N 600).2.2.2.2.1 h x0 x1 r2 r3 r4 x5
theorem ct_X3_watches (g : AG) (hst : (gL g).stackTraces = false) (N : Nat) : ∀ (h : AH) (x0 : Nat) (x1 : Int32) (r2 : Option Nat) (r3 : Option Nat) (r4 : Option Nat) (x5 : Int32) (q : (Int32 × AH)), x_X3_watches g N h x0 x1 r2 r3 r4 x5 = some q → CT g YX3_watches 610 [.ref x0, .int x1, va_rf r2, va_rf r3, va_rf r4, .int x5] h (xI q) := (ok_X3 g hst N 600).2.2.2.2.1
def x_X3_probe (g : AG) (N : Nat) (h : AH) (x0 : Nat) (r1 : Option Nat) (r2 : Option Nat) (x3 : Int32) (x4 : Int32) (x5 : Int32) : Option AH := (it_X3 g N 600).2.2.2.2.2.1 h x0 r1 r2 x3 x4 x5
theorem ct_X3_probe (g : AG) (hst : (gL g).stackTraces = false) (N : Nat) : ∀ (h : AH) (x0 : Nat) (r1 : Option Nat) (r2 : Option Nat) (x3 : Int32) (x4 : Int32) (x5 : Int32) (q : AH), x_X3_probe g N h x0 r1 r2 x3 x4 x5 = some q → CT g YX3_probe 610 [.ref x0, va_rf r1, va_rf r2, .int x3, .int x4, .int x5] h (xV q) := (ok_X3 g hst N 600).2.2.2.2.2.1
def x_X3_invoke (g : AG) (N : Nat) (h : AH) (x0 : Nat) (r1 : Option Nat) (x2 : Int32) (x3 : Int32) (x4 : Int32) (x5 : Int32) : Option (Int32 × AH) := (it_X3 g N 600).2.2.2.2.2.2 h x0 r1 x2 x3 x4 x5
theorem ct_X3_invoke (g : AG) (hst : (gL g).stackTraces = false) (N : Nat) : ∀ (h : AH) (x0 : Nat) (r1 : Option Nat) (x2 : Int32) (x3 : Int32) (x4 : Int32) (x5 : Int32) (q : (Int32 × AH)), x_X3_invoke g N h x0 r1 x2 x3 x4 x5 = some q → CT g YX3_invoke 610 [.ref x0, va_rf r1, .int x2, .int x3, .int x4, .int x5] h (xI q) := (ok_X3 g hst N 600).2.2.2.2.2.2
