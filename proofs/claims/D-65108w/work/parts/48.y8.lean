/-! THE COMPONENT AND THE JDK as functions of the heap, and their contracts: printed by wip gen/dec2.py -/
set_option maxRecDepth 100000
theorem fJ29_39 : ∀ q ∈ ([(12, 7)] : List (Nat × Nat)), aFl RJ29 39 q.1 q.2 := by
  intro q hq
  simp only [List.mem_cons, List.not_mem_nil, or_false] at hq
  subst hq
  exact aFl.of (RJ29, TJ29, 11) rfl (Nat.le_of_ble_eq_true rfl) q1627
theorem fJ29_42 : ∀ q ∈ ([(12, 8)] : List (Nat × Nat)), aFl RJ29 42 q.1 q.2 := by
  intro q hq
  simp only [List.mem_cons, List.not_mem_nil, or_false] at hq
  subst hq
  exact aFl.of (RJ29, TJ29, 11) rfl (Nat.le_of_ble_eq_true rfl) q1628
theorem fJ29_15 : ∀ q ∈ ([(12, 2)] : List (Nat × Nat)), aFl RJ29 15 q.1 q.2 := by
  intro q hq
  simp only [List.mem_cons, List.not_mem_nil, or_false] at hq
  subst hq
  exact aFl.ofS (ref := "java/util/HashMap$TreeNode") (RJ29, TJ29, 11) rfl (Nat.le_of_ble_eq_true rfl) q1564 q1565
theorem fJ29_45 : ∀ q ∈ ([(12, 3)] : List (Nat × Nat)), aFl RJ29 45 q.1 q.2 := by
  intro q hq
  simp only [List.mem_cons, List.not_mem_nil, or_false] at hq
  subst hq
  exact aFl.ofS (ref := "java/util/HashMap$TreeNode") (RJ29, TJ29, 11) rfl (Nat.le_of_ble_eq_true rfl) q1568 q1569
abbrev YJ29_find : YC := (yJ29_find, cJ29_find, 11, (some (.object "java/util/HashMap$TreeNode")), [])
abbrev R_J29 : Type := (AH → Nat → Int32 → Option Nat → Option Nat → Option (Option Nat × AH))
def Ok_J29 (g : AG) (n : Nat) (ρ : R_J29) : Prop := (∀ (h : AH) (x0 : Nat) (x1 : Int32) (r2 : Option Nat) (r3 : Option Nat) (q : (Option Nat × AH)), ρ h x0 x1 r2 r3 = some q → CT g YJ29_find (10 + n) [.ref x0, .int x1, va_rf r2, va_rf r3] h (xR q))
theorem kJ29_find : aMk YJ29_find 3 := ⟨rfl, q1273, q156, ⟨by decide +kernel, by decide +kernel, by decide +kernel⟩, Nat.le_of_ble_eq_true rfl⟩
def x_J29_find_165 (g : AG) (N : Nat) (ρ : R_J29) (K3 : AH → Nat → Int32 → Option Nat → Option Nat → Option Nat → Option (Option Nat × AH)) (h : AH) (x0 : Nat) (x1 : Int32) (r2 : Option Nat) (r3 : Option Nat) (r4 : Option Nat) (x5 : Int32) (r8 : Option Nat) (r9 : Option Nat) : Option (Option Nat × AH) :=
  ocase r4 (some ((none), h)) (fun a16 => K3 h x0 x1 r2 r3 (some a16))
theorem p_x_J29_find_165 (g : AG) (hst : (gL g).stackTraces = false) (N : Nat) (ρ : R_J29) (n : Nat) (hρ : Ok_J29 g n ρ) (K3 : AH → Nat → Int32 → Option Nat → Option Nat → Option Nat → Option (Option Nat × AH)) (hK3 : ∀ (h : AH) (x0 : Nat) (x1 : Int32) (r2 : Option Nat) (r3 : Option Nat) (r4 : Option Nat) (q : (Option Nat × AH)), K3 h x0 x1 r2 r3 r4 = some q → AW g YJ29_find (10 + n + 1) (xR q) h [some (.ref x0), some (.int x1), some (va_rf r2), some (va_rf r3), some (va_rf r4), none, none, none, none, none, none] 3 []) : ∀ (h : AH) (x0 : Nat) (x1 : Int32) (r2 : Option Nat) (r3 : Option Nat) (r4 : Option Nat) (x5 : Int32) (r8 : Option Nat) (r9 : Option Nat) (q : (Option Nat × AH)), x_J29_find_165 g N ρ K3 h x0 x1 r2 r3 r4 x5 r8 r9 = some q → AW g YJ29_find (10 + n + 1) (xR q) h [some (.ref x0), some (.int x1), some (va_rf r2), some (va_rf r3), some (va_rf r4), some (.int x5), none, none, some (va_rf r8), some (va_rf r9), none] 165 [] := by
  intro h x0 x1 r2 r3 r4 x5 r8 r9 q hq
  unfold x_J29_find_165 at hq
  refine aw_aload dJ29_find_165 rfl (aIsR_rf _) ?_
  rcases r4 with _ | a16
  · replace hq := ocase_n hq
    refine xw_ifnonN (tgt := 3) dJ29_find_167 (by decide) ?_
    refine aw_null dJ29_find_170 ?_
    cases hq
    exact aw_areturn dJ29_find_171 rfl (Or.inl ⟨_, rfl⟩) trivial ⟨rfl, rfl⟩
  · replace hq := ocase_s hq
    refine xw_ifnonS (tgt := 3) dJ29_find_167 (by decide) ?_
    refine aw_subl (loc' := [some (.ref x0), some (.int x1), some (va_rf r2), some (va_rf r3), some (.ref a16), none, none, none, none, none, none]) ⟨Or.inr rfl, Or.inr rfl, Or.inr rfl, Or.inr rfl, Or.inr rfl, Or.inl rfl, Or.inl rfl, Or.inl rfl, Or.inl rfl, Or.inl rfl, Or.inl rfl, trivial⟩ ?_
    exact hK3 h x0 x1 r2 r3 (some a16) _ hq
def x_J29_find_144 (g : AG) (N : Nat) (ρ : R_J29) (K3 : AH → Nat → Int32 → Option Nat → Option Nat → Option Nat → Option (Option Nat × AH)) (h : AH) (x0 : Nat) (x1 : Int32) (r2 : Option Nat) (r3 : Option Nat) (r4 : Option Nat) (x5 : Int32) (r7 : Option Nat) (r8 : Option Nat) (r9 : Option Nat) : Option (Option Nat × AH) :=
  (r9).bind fun a22 => bif clB h a22 [12] then ((ρ h a22 x1 r2 r3).bind fun q25 => ocase q25.1 (x_J29_find_165 g N ρ K3 q25.2 x0 x1 r2 r3 r8 x5 r8 (some a22)) (fun a27 => some ((some a27), q25.2))) else none
theorem p_x_J29_find_144 (g : AG) (hst : (gL g).stackTraces = false) (N : Nat) (ρ : R_J29) (n : Nat) (hρ : Ok_J29 g n ρ) (K3 : AH → Nat → Int32 → Option Nat → Option Nat → Option Nat → Option (Option Nat × AH)) (hK3 : ∀ (h : AH) (x0 : Nat) (x1 : Int32) (r2 : Option Nat) (r3 : Option Nat) (r4 : Option Nat) (q : (Option Nat × AH)), K3 h x0 x1 r2 r3 r4 = some q → AW g YJ29_find (10 + n + 1) (xR q) h [some (.ref x0), some (.int x1), some (va_rf r2), some (va_rf r3), some (va_rf r4), none, none, none, none, none, none] 3 []) : ∀ (h : AH) (x0 : Nat) (x1 : Int32) (r2 : Option Nat) (r3 : Option Nat) (r4 : Option Nat) (x5 : Int32) (r7 : Option Nat) (r8 : Option Nat) (r9 : Option Nat) (q : (Option Nat × AH)), x_J29_find_144 g N ρ K3 h x0 x1 r2 r3 r4 x5 r7 r8 r9 = some q → AW g YJ29_find (10 + n + 1) (xR q) h [some (.ref x0), some (.int x1), some (va_rf r2), some (va_rf r3), some (va_rf r4), some (.int x5), none, some (va_rf r7), some (va_rf r8), some (va_rf r9), none] 144 [] := by
  intro h x0 x1 r2 r3 r4 x5 r7 r8 r9 q hq
  unfold x_J29_find_144 at hq
  refine aw_aload dJ29_find_144 rfl (aIsR_rf _) ?_
  refine aw_iload_n (i := 1) dJ29_find_146 rfl rfl ?_
  refine aw_aload_n (i := 2) dJ29_find_147 rfl rfl (aIsR_rf _) ?_
  refine aw_aload_n (i := 3) dJ29_find_148 rfl rfl (aIsR_rf _) ?_
  replace hq := obind hq
  obtain ⟨a22, e23, hq⟩ := hq
  subst e23
  replace hq := cond_t hq
  obtain ⟨z24, hq⟩ := hq
  obtain ⟨fs9, ha9⟩ := clB1 z24
  replace hq := obind hq
  obtain ⟨q25, e26, hq⟩ := hq
  refine aw_callV (Y2 := YJ29_find) (As := [.int x1, va_rf r2, va_rf r3]) (rest := []) (r := (RJ29, TJ29, 11)) kJ29_find ha9 rfl rfl q1270 q1271 q1272 dJ29_find_149 rfl rfl (hρ h a22 x1 r2 r3 _ e26) (Nat.le_refl _) (Nat.le_of_ble_eq_true rfl) (fun v9 h9 z9 y9 => ?_)
  obtain ⟨rfl, rfl⟩ := y9
  refine aw_st (st' := [va_rf q25.1]) rfl ?_
  refine aw_dup dJ29_find_152 (cat_rf _) ?_
  refine aw_astore (loc' := [some (.ref x0), some (.int x1), some (va_rf r2), some (va_rf r3), some (va_rf r4), some (.int x5), none, some (va_rf r7), some (va_rf r8), some (.ref a22), some (va_rf q25.1)]) dJ29_find_153 (Nat.le_of_ble_eq_true rfl) (aIsR_rf _) rfl ?_
  generalize q25.1 = v9 at hq ⊢
  rcases v9 with _ | a27
  · replace hq := ocase_n hq
    refine xw_ifnullN (tgt := 161) dJ29_find_155 (by decide) ?_
    refine aw_aload dJ29_find_161 rfl (aIsR_rf _) ?_
    refine aw_astore (loc' := [some (.ref x0), some (.int x1), some (va_rf r2), some (va_rf r3), some (va_rf r8), some (.int x5), none, some (va_rf r7), some (va_rf r8), some (.ref a22), some (.null)]) dJ29_find_163 (Nat.le_of_ble_eq_true rfl) (aIsR_rf _) (aset1_rf rfl) ?_
    refine aw_subl (loc' := [some (.ref x0), some (.int x1), some (va_rf r2), some (va_rf r3), some (va_rf r8), some (.int x5), none, none, some (va_rf r8), some (.ref a22), none]) ⟨Or.inr rfl, Or.inr rfl, Or.inr rfl, Or.inr rfl, Or.inr rfl, Or.inr rfl, Or.inl rfl, Or.inl rfl, Or.inr rfl, Or.inr rfl, Or.inl rfl, trivial⟩ ?_
    exact p_x_J29_find_165 g hst N ρ n hρ _ hK3 q25.2 x0 x1 r2 r3 r8 x5 r8 (some a22) _ hq
  · replace hq := ocase_s hq
    refine xw_ifnullS (tgt := 161) dJ29_find_155 (by decide) ?_
    refine aw_aload dJ29_find_158 rfl trivial ?_
    cases hq
    exact aw_areturn dJ29_find_160 rfl (Or.inl ⟨_, rfl⟩) trivial ⟨rfl, rfl⟩
def x_J29_find_139 (g : AG) (N : Nat) (ρ : R_J29) (K3 : AH → Nat → Int32 → Option Nat → Option Nat → Option Nat → Option (Option Nat × AH)) (h : AH) (x0 : Nat) (x1 : Int32) (r2 : Option Nat) (r3 : Option Nat) (r4 : Option Nat) (x5 : Int32) (x6 : Int32) (r7 : Option Nat) (r8 : Option Nat) (r9 : Option Nat) (t0 : Option Nat) : Option (Option Nat × AH) :=
  x_J29_find_165 g N ρ K3 h x0 x1 r2 r3 t0 x5 r8 r9
theorem p_x_J29_find_139 (g : AG) (hst : (gL g).stackTraces = false) (N : Nat) (ρ : R_J29) (n : Nat) (hρ : Ok_J29 g n ρ) (K3 : AH → Nat → Int32 → Option Nat → Option Nat → Option Nat → Option (Option Nat × AH)) (hK3 : ∀ (h : AH) (x0 : Nat) (x1 : Int32) (r2 : Option Nat) (r3 : Option Nat) (r4 : Option Nat) (q : (Option Nat × AH)), K3 h x0 x1 r2 r3 r4 = some q → AW g YJ29_find (10 + n + 1) (xR q) h [some (.ref x0), some (.int x1), some (va_rf r2), some (va_rf r3), some (va_rf r4), none, none, none, none, none, none] 3 []) : ∀ (h : AH) (x0 : Nat) (x1 : Int32) (r2 : Option Nat) (r3 : Option Nat) (r4 : Option Nat) (x5 : Int32) (x6 : Int32) (r7 : Option Nat) (r8 : Option Nat) (r9 : Option Nat) (t0 : Option Nat) (q : (Option Nat × AH)), x_J29_find_139 g N ρ K3 h x0 x1 r2 r3 r4 x5 x6 r7 r8 r9 t0 = some q → AW g YJ29_find (10 + n + 1) (xR q) h [some (.ref x0), some (.int x1), some (va_rf r2), some (va_rf r3), some (va_rf r4), some (.int x5), some (.int x6), some (va_rf r7), some (va_rf r8), some (va_rf r9), none] 139 [va_rf t0] := by
  intro h x0 x1 r2 r3 r4 x5 x6 r7 r8 r9 t0 q hq
  unfold x_J29_find_139 at hq
  refine aw_astore (loc' := [some (.ref x0), some (.int x1), some (va_rf r2), some (va_rf r3), some (va_rf t0), some (.int x5), some (.int x6), some (va_rf r7), some (va_rf r8), some (va_rf r9), none]) dJ29_find_139 (Nat.le_of_ble_eq_true rfl) (aIsR_rf _) (aset1_rf rfl) ?_
  refine aw_goto (tgt := 165) dJ29_find_141 (by decide) ?_
  refine aw_subl (loc' := [some (.ref x0), some (.int x1), some (va_rf r2), some (va_rf r3), some (va_rf t0), some (.int x5), none, none, some (va_rf r8), some (va_rf r9), none]) ⟨Or.inr rfl, Or.inr rfl, Or.inr rfl, Or.inr rfl, Or.inr rfl, Or.inr rfl, Or.inl rfl, Or.inl rfl, Or.inr rfl, Or.inr rfl, Or.inl rfl, trivial⟩ ?_
  exact p_x_J29_find_165 g hst N ρ n hρ _ hK3 h x0 x1 r2 r3 t0 x5 r8 r9 _ hq
def x_J29_find_114 (g : AG) (N : Nat) (ρ : R_J29) (K3 : AH → Nat → Int32 → Option Nat → Option Nat → Option Nat → Option (Option Nat × AH)) (h : AH) (x0 : Nat) (x1 : Int32) (r2 : Option Nat) (r3 : Option Nat) (r4 : Option Nat) (x5 : Int32) (r7 : Option Nat) (r8 : Option Nat) (r9 : Option Nat) : Option (Option Nat × AH) :=
  (x_J1_compareComparables g N h r3 r2 r7).bind fun q28 => if q28.1 = 0 then (x_J29_find_144 g N ρ K3 q28.2 x0 x1 r2 r3 r4 x5 r7 r8 r9) else (if 0 ≤ q28.1 then (x_J29_find_139 g N ρ K3 q28.2 x0 x1 r2 r3 r4 x5 q28.1 r7 r8 r9 r9) else (x_J29_find_139 g N ρ K3 q28.2 x0 x1 r2 r3 r4 x5 q28.1 r7 r8 r9 r8))
theorem p_x_J29_find_114 (g : AG) (hst : (gL g).stackTraces = false) (N : Nat) (ρ : R_J29) (n : Nat) (hρ : Ok_J29 g n ρ) (K3 : AH → Nat → Int32 → Option Nat → Option Nat → Option Nat → Option (Option Nat × AH)) (hK3 : ∀ (h : AH) (x0 : Nat) (x1 : Int32) (r2 : Option Nat) (r3 : Option Nat) (r4 : Option Nat) (q : (Option Nat × AH)), K3 h x0 x1 r2 r3 r4 = some q → AW g YJ29_find (10 + n + 1) (xR q) h [some (.ref x0), some (.int x1), some (va_rf r2), some (va_rf r3), some (va_rf r4), none, none, none, none, none, none] 3 []) : ∀ (h : AH) (x0 : Nat) (x1 : Int32) (r2 : Option Nat) (r3 : Option Nat) (r4 : Option Nat) (x5 : Int32) (r7 : Option Nat) (r8 : Option Nat) (r9 : Option Nat) (q : (Option Nat × AH)), x_J29_find_114 g N ρ K3 h x0 x1 r2 r3 r4 x5 r7 r8 r9 = some q → AW g YJ29_find (10 + n + 1) (xR q) h [some (.ref x0), some (.int x1), some (va_rf r2), some (va_rf r3), some (va_rf r4), some (.int x5), none, some (va_rf r7), some (va_rf r8), some (va_rf r9), none] 114 [] := by
  intro h x0 x1 r2 r3 r4 x5 r7 r8 r9 q hq
  unfold x_J29_find_114 at hq
  refine aw_aload_n (i := 3) dJ29_find_114 rfl rfl (aIsR_rf _) ?_
  refine aw_aload_n (i := 2) dJ29_find_115 rfl rfl (aIsR_rf _) ?_
  refine aw_aload dJ29_find_116 rfl (aIsR_rf _) ?_
  replace hq := obind hq
  obtain ⟨q28, e29, hq⟩ := hq
  refine aw_callS (Y2 := YJ1_compareComparables) (As := [va_rf r3, va_rf r2, va_rf r7]) (rest := []) kJ1_compareComparables q1281 q1282 dJ29_find_118 rfl rfl (ct_J1_compareComparables g hst N h r3 r2 r7 _ e29) (by omega) (Nat.le_of_ble_eq_true rfl) (fun v9 h9 z9 y9 => ?_)
  obtain ⟨rfl, rfl⟩ := y9
  refine aw_st (st' := [.int q28.1]) rfl ?_
  refine aw_dup dJ29_find_121 rfl ?_
  refine aw_istore (loc' := [some (.ref x0), some (.int x1), some (va_rf r2), some (va_rf r3), some (va_rf r4), some (.int x5), some (.int q28.1), some (va_rf r7), some (va_rf r8), some (va_rf r9), none]) dJ29_find_122 (Nat.le_of_ble_eq_true rfl) rfl ?_
  refine aw_if_eq (tgt := 144) dJ29_find_124 (by decide) (fun c30 => ?_) (fun c30 => ?_)
  · rw [if_pos c30] at hq
    refine aw_subl (loc' := [some (.ref x0), some (.int x1), some (va_rf r2), some (va_rf r3), some (va_rf r4), some (.int x5), none, some (va_rf r7), some (va_rf r8), some (va_rf r9), none]) ⟨Or.inr rfl, Or.inr rfl, Or.inr rfl, Or.inr rfl, Or.inr rfl, Or.inr rfl, Or.inl rfl, Or.inr rfl, Or.inr rfl, Or.inr rfl, Or.inl rfl, trivial⟩ ?_
    exact p_x_J29_find_144 g hst N ρ n hρ _ hK3 q28.2 x0 x1 r2 r3 r4 x5 r7 r8 r9 _ hq
  · rw [if_neg c30] at hq
    refine aw_iload dJ29_find_127 rfl ?_
    refine aw_if_ge (tgt := 137) dJ29_find_129 (by decide) (fun c31 => ?_) (fun c31 => ?_)
    · rw [if_pos c31] at hq
      refine aw_aload dJ29_find_137 rfl (aIsR_rf _) ?_
      exact p_x_J29_find_139 g hst N ρ n hρ _ hK3 q28.2 x0 x1 r2 r3 r4 x5 q28.1 r7 r8 r9 r9 _ hq
    · rw [if_neg c31] at hq
      refine aw_aload dJ29_find_132 rfl (aIsR_rf _) ?_
      refine aw_goto (tgt := 139) dJ29_find_134 (by decide) ?_
      exact p_x_J29_find_139 g hst N ρ n hρ _ hK3 q28.2 x0 x1 r2 r3 r4 x5 q28.1 r7 r8 r9 r8 _ hq
def x_J29_find_77 (g : AG) (N : Nat) (ρ : R_J29) (K3 : AH → Nat → Int32 → Option Nat → Option Nat → Option Nat → Option (Option Nat × AH)) (h : AH) (x0 : Nat) (x1 : Int32) (r2 : Option Nat) (r3 : Option Nat) (r4 : Option Nat) (x5 : Int32) (r7 : Option Nat) (r8 : Option Nat) (r9 : Option Nat) : Option (Option Nat × AH) :=
  ocase r8 (x_J29_find_165 g N ρ K3 h x0 x1 r2 r3 r9 x5 (none) r9) (fun a15 => ocase r9 (x_J29_find_165 g N ρ K3 h x0 x1 r2 r3 (some a15) x5 (some a15) (none)) (fun a17 => ocase r3 ((x_J1_comparableClassFor g N h r2).bind fun q19 => ocase q19.1 (x_J29_find_144 g N ρ K3 q19.2 x0 x1 r2 (none) r4 x5 r7 (some a15) (some a17)) (fun a21 => x_J29_find_114 g N ρ K3 q19.2 x0 x1 r2 (some a21) r4 x5 r7 (some a15) (some a17))) (fun a18 => x_J29_find_114 g N ρ K3 h x0 x1 r2 (some a18) r4 x5 r7 (some a15) (some a17))))
theorem p_x_J29_find_77 (g : AG) (hst : (gL g).stackTraces = false) (N : Nat) (ρ : R_J29) (n : Nat) (hρ : Ok_J29 g n ρ) (K3 : AH → Nat → Int32 → Option Nat → Option Nat → Option Nat → Option (Option Nat × AH)) (hK3 : ∀ (h : AH) (x0 : Nat) (x1 : Int32) (r2 : Option Nat) (r3 : Option Nat) (r4 : Option Nat) (q : (Option Nat × AH)), K3 h x0 x1 r2 r3 r4 = some q → AW g YJ29_find (10 + n + 1) (xR q) h [some (.ref x0), some (.int x1), some (va_rf r2), some (va_rf r3), some (va_rf r4), none, none, none, none, none, none] 3 []) : ∀ (h : AH) (x0 : Nat) (x1 : Int32) (r2 : Option Nat) (r3 : Option Nat) (r4 : Option Nat) (x5 : Int32) (r7 : Option Nat) (r8 : Option Nat) (r9 : Option Nat) (q : (Option Nat × AH)), x_J29_find_77 g N ρ K3 h x0 x1 r2 r3 r4 x5 r7 r8 r9 = some q → AW g YJ29_find (10 + n + 1) (xR q) h [some (.ref x0), some (.int x1), some (va_rf r2), some (va_rf r3), some (va_rf r4), some (.int x5), none, some (va_rf r7), some (va_rf r8), some (va_rf r9), none] 77 [] := by
  intro h x0 x1 r2 r3 r4 x5 r7 r8 r9 q hq
  unfold x_J29_find_77 at hq
  refine aw_aload dJ29_find_77 rfl (aIsR_rf _) ?_
  rcases r8 with _ | a15
  · replace hq := ocase_n hq
    refine xw_ifnonN (tgt := 89) dJ29_find_79 (by decide) ?_
    refine aw_aload dJ29_find_82 rfl (aIsR_rf _) ?_
    refine aw_astore (loc' := [some (.ref x0), some (.int x1), some (va_rf r2), some (va_rf r3), some (va_rf r9), some (.int x5), none, some (va_rf r7), some (.null), some (va_rf r9), none]) dJ29_find_84 (Nat.le_of_ble_eq_true rfl) (aIsR_rf _) (aset1_rf rfl) ?_
    refine aw_goto (tgt := 165) dJ29_find_86 (by decide) ?_
    refine aw_subl (loc' := [some (.ref x0), some (.int x1), some (va_rf r2), some (va_rf r3), some (va_rf r9), some (.int x5), none, none, some (.null), some (va_rf r9), none]) ⟨Or.inr rfl, Or.inr rfl, Or.inr rfl, Or.inr rfl, Or.inr rfl, Or.inr rfl, Or.inl rfl, Or.inl rfl, Or.inr rfl, Or.inr rfl, Or.inl rfl, trivial⟩ ?_
    exact p_x_J29_find_165 g hst N ρ n hρ _ hK3 h x0 x1 r2 r3 r9 x5 (none) r9 _ hq
  · replace hq := ocase_s hq
    refine xw_ifnonS (tgt := 89) dJ29_find_79 (by decide) ?_
    refine aw_aload dJ29_find_89 rfl (aIsR_rf _) ?_
    rcases r9 with _ | a17
    · replace hq := ocase_n hq
      refine xw_ifnonN (tgt := 101) dJ29_find_91 (by decide) ?_
      refine aw_aload dJ29_find_94 rfl trivial ?_
      refine aw_astore (loc' := [some (.ref x0), some (.int x1), some (va_rf r2), some (va_rf r3), some (.ref a15), some (.int x5), none, some (va_rf r7), some (.ref a15), some (.null), none]) dJ29_find_96 (Nat.le_of_ble_eq_true rfl) trivial (aset1_rf rfl) ?_
      refine aw_goto (tgt := 165) dJ29_find_98 (by decide) ?_
      refine aw_subl (loc' := [some (.ref x0), some (.int x1), some (va_rf r2), some (va_rf r3), some (.ref a15), some (.int x5), none, none, some (.ref a15), some (.null), none]) ⟨Or.inr rfl, Or.inr rfl, Or.inr rfl, Or.inr rfl, Or.inr rfl, Or.inr rfl, Or.inl rfl, Or.inl rfl, Or.inr rfl, Or.inr rfl, Or.inl rfl, trivial⟩ ?_
      exact p_x_J29_find_165 g hst N ρ n hρ _ hK3 h x0 x1 r2 r3 (some a15) x5 (some a15) (none) _ hq
    · replace hq := ocase_s hq
      refine xw_ifnonS (tgt := 101) dJ29_find_91 (by decide) ?_
      refine aw_aload_n (i := 3) dJ29_find_101 rfl rfl (aIsR_rf _) ?_
      rcases r3 with _ | a18
      · replace hq := ocase_n hq
        refine xw_ifnonN (tgt := 114) dJ29_find_102 (by decide) ?_
        refine aw_aload_n (i := 2) dJ29_find_105 rfl rfl (aIsR_rf _) ?_
        replace hq := obind hq
        obtain ⟨q19, e20, hq⟩ := hq
        refine aw_callS (Y2 := YJ1_comparableClassFor) (As := [va_rf r2]) (rest := []) kJ1_comparableClassFor q1275 q1276 dJ29_find_106 rfl rfl (ct_J1_comparableClassFor g hst N h r2 _ e20) (by omega) (Nat.le_of_ble_eq_true rfl) (fun v9 h9 z9 y9 => ?_)
        obtain ⟨rfl, rfl⟩ := y9
        refine aw_st (st' := [va_rf q19.1]) rfl ?_
        refine aw_dup dJ29_find_109 (cat_rf _) ?_
        refine aw_astore_n (i := 3) (loc' := [some (.ref x0), some (.int x1), some (va_rf r2), some (va_rf q19.1), some (va_rf r4), some (.int x5), none, some (va_rf r7), some (.ref a15), some (.ref a17), none]) dJ29_find_110 rfl (Nat.le_of_ble_eq_true rfl) (aIsR_rf _) (aset1_rf rfl) ?_
        generalize q19.1 = v9 at hq ⊢
        rcases v9 with _ | a21
        · replace hq := ocase_n hq
          refine xw_ifnullN (tgt := 144) dJ29_find_111 (by decide) ?_
          exact p_x_J29_find_144 g hst N ρ n hρ _ hK3 q19.2 x0 x1 r2 (none) r4 x5 r7 (some a15) (some a17) _ hq
        · replace hq := ocase_s hq
          refine xw_ifnullS (tgt := 144) dJ29_find_111 (by decide) ?_
          exact p_x_J29_find_114 g hst N ρ n hρ _ hK3 q19.2 x0 x1 r2 (some a21) r4 x5 r7 (some a15) (some a17) _ hq
      · replace hq := ocase_s hq
        refine xw_ifnonS (tgt := 114) dJ29_find_102 (by decide) ?_
        exact p_x_J29_find_114 g hst N ρ n hρ _ hK3 h x0 x1 r2 (some a18) r4 x5 r7 (some a15) (some a17) _ hq
def x_J29_find_3 (g : AG) (N : Nat) (ρ : R_J29) : Nat → AH → Nat → Int32 → Option Nat → Option Nat → Option Nat → Option (Option Nat × AH)
  | 0, _, _, _, _, _, _ => none
  | n9 + 1, h, x0, x1, r2, r3, r4 =>
  (r4).bind fun a1 => (rdR h a1 [(12, 7)]).bind fun o3 => (rdR h a1 [(12, 8)]).bind fun o5 => (rdI h a1 [(12, 2)]).bind fun i7 => if i7 ≤ x1 then (if x1 ≤ i7 then ((rdR h a1 [(12, 3)]).bind fun o11 => if o11 = r2 then (some ((some a1), h)) else (ocase r2 (x_J29_find_77 g N ρ (fun h x0 x1 r2 r3 r4 => x_J29_find_3 g N ρ n9 h x0 x1 r2 r3 r4) h x0 x1 (none) r3 (some a1) i7 o11 o3 o5) (fun a14 => bif clB h a14 [17] then ((x_J13_equals g N h a14 o11).bind fun q33 => if q33.1 = 0 then (x_J29_find_77 g N ρ (fun h x0 x1 r2 r3 r4 => x_J29_find_3 g N ρ n9 h x0 x1 r2 r3 r4) q33.2 x0 x1 (some a14) r3 (some a1) i7 o11 o3 o5) else (some ((some a1), q33.2))) else none))) else (x_J29_find_165 g N ρ (fun h x0 x1 r2 r3 r4 => x_J29_find_3 g N ρ n9 h x0 x1 r2 r3 r4) h x0 x1 r2 r3 o5 i7 o3 o5)) else (x_J29_find_165 g N ρ (fun h x0 x1 r2 r3 r4 => x_J29_find_3 g N ρ n9 h x0 x1 r2 r3 r4) h x0 x1 r2 r3 o3 i7 o3 o5)
theorem p_x_J29_find_3 (g : AG) (hst : (gL g).stackTraces = false) (N : Nat) (ρ : R_J29) (n : Nat) (hρ : Ok_J29 g n ρ) : ∀ (n9 : Nat) (h : AH) (x0 : Nat) (x1 : Int32) (r2 : Option Nat) (r3 : Option Nat) (r4 : Option Nat) (q : (Option Nat × AH)), x_J29_find_3 g N ρ n9 h x0 x1 r2 r3 r4 = some q → AW g YJ29_find (10 + n + 1) (xR q) h [some (.ref x0), some (.int x1), some (va_rf r2), some (va_rf r3), some (va_rf r4), none, none, none, none, none, none] 3 [] := by
  intro n9
  induction n9 with
  | zero =>
    intro h x0 x1 r2 r3 r4 q hq
    cases hq
  | succ n9 ih =>
    intro h x0 x1 r2 r3 r4 q hq
    rw [x_J29_find_3] at hq
    refine aw_aload dJ29_find_3 rfl (aIsR_rf _) ?_
    replace hq := obind hq
    obtain ⟨a1, e2, hq⟩ := hq
    subst e2
    replace hq := obind hq
    obtain ⟨o3, e4, hq⟩ := hq
    refine xw_getR e4 fJ29_39 dJ29_find_5 ?_
    refine aw_astore (loc' := [some (.ref x0), some (.int x1), some (va_rf r2), some (va_rf r3), some (.ref a1), none, none, none, some (va_rf o3), none, none]) dJ29_find_8 (Nat.le_of_ble_eq_true rfl) (aIsR_rf _) rfl ?_
    refine aw_aload dJ29_find_10 rfl trivial ?_
    replace hq := obind hq
    obtain ⟨o5, e6, hq⟩ := hq
    refine xw_getR e6 fJ29_42 dJ29_find_12 ?_
    refine aw_astore (loc' := [some (.ref x0), some (.int x1), some (va_rf r2), some (va_rf r3), some (.ref a1), none, none, none, some (va_rf o3), some (va_rf o5), none]) dJ29_find_15 (Nat.le_of_ble_eq_true rfl) (aIsR_rf _) (aset1_rf rfl) ?_
    refine aw_aload dJ29_find_17 rfl trivial ?_
    replace hq := obind hq
    obtain ⟨i7, e8, hq⟩ := hq
    refine xw_getI e8 fJ29_15 dJ29_find_19 ?_
    refine aw_dup dJ29_find_22 rfl ?_
    refine aw_istore (loc' := [some (.ref x0), some (.int x1), some (va_rf r2), some (va_rf r3), some (.ref a1), some (.int i7), none, none, some (va_rf o3), some (va_rf o5), none]) dJ29_find_23 (Nat.le_of_ble_eq_true rfl) rfl ?_
    refine aw_iload_n (i := 1) dJ29_find_25 rfl rfl ?_
    refine aw_icmp_le (tgt := 36) dJ29_find_26 (by decide) (fun c9 => ?_) (fun c9 => ?_)
    · rw [if_pos c9] at hq
      refine aw_iload dJ29_find_36 rfl ?_
      refine aw_iload_n (i := 1) dJ29_find_38 rfl rfl ?_
      refine aw_icmp_ge (tgt := 49) dJ29_find_39 (by decide) (fun c10 => ?_) (fun c10 => ?_)
      · rw [if_pos c10] at hq
        refine aw_aload dJ29_find_49 rfl trivial ?_
        replace hq := obind hq
        obtain ⟨o11, e12, hq⟩ := hq
        refine xw_getR e12 fJ29_45 dJ29_find_51 ?_
        refine aw_dup dJ29_find_54 (cat_rf _) ?_
        refine aw_astore (loc' := [some (.ref x0), some (.int x1), some (va_rf r2), some (va_rf r3), some (.ref a1), some (.int i7), none, some (va_rf o11), some (va_rf o3), some (va_rf o5), none]) dJ29_find_55 (Nat.le_of_ble_eq_true rfl) (aIsR_rf _) rfl ?_
        refine aw_aload_n (i := 2) dJ29_find_57 rfl rfl (aIsR_rf _) ?_
        refine xw_acmp_eq (v := o11) (w := r2) (tgt := 74) dJ29_find_58 (by decide) (fun c13 => ?_) (fun c13 => ?_)
        · rw [if_pos c13] at hq
          refine aw_aload dJ29_find_74 rfl trivial ?_
          cases hq
          exact aw_areturn dJ29_find_76 rfl (Or.inl ⟨_, rfl⟩) trivial ⟨rfl, rfl⟩
        · rw [if_neg c13] at hq
          refine aw_aload_n (i := 2) dJ29_find_61 rfl rfl (aIsR_rf _) ?_
          rcases r2 with _ | a14
          · replace hq := ocase_n hq
            refine xw_ifnullN (tgt := 77) dJ29_find_62 (by decide) ?_
            exact p_x_J29_find_77 g hst N ρ n hρ _ ih h x0 x1 (none) r3 (some a1) i7 o11 o3 o5 _ hq
          · replace hq := ocase_s hq
            refine xw_ifnullS (tgt := 77) dJ29_find_62 (by decide) ?_
            refine aw_aload_n (i := 2) dJ29_find_65 rfl rfl trivial ?_
            refine aw_aload dJ29_find_66 rfl (aIsR_rf _) ?_
            replace hq := cond_t hq
            obtain ⟨z32, hq⟩ := hq
            obtain ⟨fs9, ha9⟩ := clB1 z32
            replace hq := obind hq
            obtain ⟨q33, e34, hq⟩ := hq
            refine aw_callO (Y2 := YJ13_equals) (As := [va_rf o11]) (rest := []) (r := (RJ13, TJ13, 4)) (x := ⟨"java/lang/Object", "equals", "(Ljava/lang/Object;)Z"⟩) (o := "java/lang/Object") kJ13_equals ha9 rfl ⟨by decide +kernel, by decide +kernel, by decide +kernel⟩ q1274 q1220 q1217 q1251 q1250 dJ29_find_68 rfl rfl (ct_J13_equals g hst N h a14 o11 _ e34) (by omega) (Nat.le_of_ble_eq_true rfl) (fun v9 h9 z9 y9 => ?_)
            obtain ⟨rfl, rfl⟩ := y9
            refine aw_st (st' := [.int q33.1]) rfl ?_
            refine aw_if_eq (tgt := 77) dJ29_find_71 (by decide) (fun c35 => ?_) (fun c35 => ?_)
            · rw [if_pos c35] at hq
              exact p_x_J29_find_77 g hst N ρ n hρ _ ih q33.2 x0 x1 (some a14) r3 (some a1) i7 o11 o3 o5 _ hq
            · rw [if_neg c35] at hq
              refine aw_aload dJ29_find_74 rfl trivial ?_
              cases hq
              exact aw_areturn dJ29_find_76 rfl (Or.inl ⟨_, rfl⟩) trivial ⟨rfl, rfl⟩
      · rw [if_neg c10] at hq
        refine aw_aload dJ29_find_42 rfl (aIsR_rf _) ?_
        refine aw_astore (loc' := [some (.ref x0), some (.int x1), some (va_rf r2), some (va_rf r3), some (va_rf o5), some (.int i7), none, none, some (va_rf o3), some (va_rf o5), none]) dJ29_find_44 (Nat.le_of_ble_eq_true rfl) (aIsR_rf _) (aset1_rf rfl) ?_
        refine aw_goto (tgt := 165) dJ29_find_46 (by decide) ?_
        exact p_x_J29_find_165 g hst N ρ n hρ _ ih h x0 x1 r2 r3 o5 i7 o3 o5 _ hq
    · rw [if_neg c9] at hq
      refine aw_aload dJ29_find_29 rfl (aIsR_rf _) ?_
      refine aw_astore (loc' := [some (.ref x0), some (.int x1), some (va_rf r2), some (va_rf r3), some (va_rf o3), some (.int i7), none, none, some (va_rf o3), some (va_rf o5), none]) dJ29_find_31 (Nat.le_of_ble_eq_true rfl) (aIsR_rf _) (aset1_rf rfl) ?_
      refine aw_goto (tgt := 165) dJ29_find_33 (by decide) ?_
      exact p_x_J29_find_165 g hst N ρ n hρ _ ih h x0 x1 r2 r3 o3 i7 o3 o5 _ hq
def xb_J29_find (g : AG) (N : Nat) (ρ : R_J29) (h : AH) (x0 : Nat) (x1 : Int32) (r2 : Option Nat) (r3 : Option Nat) : Option (Option Nat × AH) :=
  x_J29_find_3 g N ρ  N h x0 x1 r2 r3 (some x0)
theorem cb_J29_find (g : AG) (hst : (gL g).stackTraces = false) (N : Nat) (ρ : R_J29) (n : Nat) (hρ : Ok_J29 g n ρ) : ∀ (h : AH) (x0 : Nat) (x1 : Int32) (r2 : Option Nat) (r3 : Option Nat) (q : (Option Nat × AH)), xb_J29_find g N ρ h x0 x1 r2 r3 = some q → CT g YJ29_find (10 + n + 1) [.ref x0, .int x1, va_rf r2, va_rf r3] h (xR q) := by
  intro h x0 x1 r2 r3 q hq
  refine CT.of rfl (by decide +kernel) (loc := [some (.ref x0), some (.int x1), some (va_rf r2), some (va_rf r3), none, none, none, none, none, none, none]) (by first | exact Nat.le_of_ble_eq_true rfl | (simp only [lgl_rf, lgl_i, lgl_j, lgl_ref, lgl_nil]; exact Nat.le_of_ble_eq_true rfl)) (by first | rfl | (simp only [aent_rf, aent_i, aent_j, aent_ref, aent_nil]; rfl)) ?_
  unfold xb_J29_find at hq
  refine aw_aload_n (i := 0) dJ29_find_0 rfl rfl trivial ?_
  refine aw_astore (loc' := [some (.ref x0), some (.int x1), some (va_rf r2), some (va_rf r3), some (.ref x0), none, none, none, none, none, none]) dJ29_find_1 (Nat.le_of_ble_eq_true rfl) trivial (aset1_rf rfl) ?_
  exact p_x_J29_find_3 g hst N ρ n hρ   N h x0 x1 r2 r3 (some x0) _ hq
def it_J29 (g : AG) (N : Nat) : Nat → R_J29
  | 0 => fun _ _ _ _ _ => none
  | n + 1 => xb_J29_find g N (it_J29 g N n)
theorem ok_J29 (g : AG) (hst : (gL g).stackTraces = false) (N : Nat) : ∀ n, Ok_J29 g n (it_J29 g N n) := by
  intro n
  induction n with
  | zero => exact (fun _ _ _ _ _ _ hq => by cases hq)
  | succ n ih => exact cb_J29_find g hst N (it_J29 g N n) n ih
def x_J29_find (g : AG) (N : Nat) (h : AH) (x0 : Nat) (x1 : Int32) (r2 : Option Nat) (r3 : Option Nat) : Option (Option Nat × AH) := (it_J29 g N 100) h x0 x1 r2 r3
theorem ct_J29_find (g : AG) (hst : (gL g).stackTraces = false) (N : Nat) : ∀ (h : AH) (x0 : Nat) (x1 : Int32) (r2 : Option Nat) (r3 : Option Nat) (q : (Option Nat × AH)), x_J29_find g N h x0 x1 r2 r3 = some q → CT g YJ29_find 110 [.ref x0, .int x1, va_rf r2, va_rf r3] h (xR q) := (ok_J29 g hst N 100)
abbrev YJ29_getTreeNode : YC := (yJ29_getTreeNode, cJ29_getTreeNode, 3, (some (.object "java/util/HashMap$TreeNode")), [])
theorem kJ29_getTreeNode : aMk YJ29_getTreeNode 2 := ⟨rfl, q1265, q156, ⟨by decide +kernel, by decide +kernel, by decide +kernel⟩, Nat.le_of_ble_eq_true rfl⟩
def x_J29_getTreeNode_15 (g : AG) (N : Nat) (h : AH) (x0 : Nat) (x1 : Int32) (r2 : Option Nat) (t0 : Option Nat) : Option (Option Nat × AH) :=
  (t0).bind fun a4 => bif clB h a4 [12] then ((x_J29_find g N h a4 x1 r2 (none)).bind fun q7 => some (q7.1, q7.2)) else none
theorem p_x_J29_getTreeNode_15 (g : AG) (hst : (gL g).stackTraces = false) (N : Nat) : ∀ (h : AH) (x0 : Nat) (x1 : Int32) (r2 : Option Nat) (t0 : Option Nat) (q : (Option Nat × AH)), x_J29_getTreeNode_15 g N h x0 x1 r2 t0 = some q → AW g YJ29_getTreeNode 111 (xR q) h [some (.ref x0), some (.int x1), some (va_rf r2)] 15 [va_rf t0] := by
  intro h x0 x1 r2 t0 q hq
  unfold x_J29_getTreeNode_15 at hq
  refine aw_iload_n (i := 1) dJ29_getTreeNode_15 rfl rfl ?_
  refine aw_aload_n (i := 2) dJ29_getTreeNode_16 rfl rfl (aIsR_rf _) ?_
  refine aw_null dJ29_getTreeNode_17 ?_
  replace hq := obind hq
  obtain ⟨a4, e5, hq⟩ := hq
  subst e5
  replace hq := cond_t hq
  obtain ⟨z6, hq⟩ := hq
  obtain ⟨fs9, ha9⟩ := clB1 z6
  replace hq := obind hq
  obtain ⟨q7, e8, hq⟩ := hq
  refine aw_callV (Y2 := YJ29_find) (As := [.int x1, va_rf r2, .null]) (rest := []) (r := (RJ29, TJ29, 11)) kJ29_find ha9 rfl rfl q1270 q1271 q1272 dJ29_getTreeNode_18 rfl rfl (ct_J29_find g hst N h a4 x1 r2 (none) _ e8) (Nat.le_of_ble_eq_true rfl) (Nat.le_of_ble_eq_true rfl) (fun v9 h9 z9 y9 => ?_)
  obtain ⟨rfl, rfl⟩ := y9
  refine aw_st (st' := [va_rf q7.1]) rfl ?_
  cases hq
  exact aw_areturn dJ29_getTreeNode_21 rfl (Or.inl ⟨_, rfl⟩) (aIsR_rf _) ⟨rfl, rfl⟩
def x_J29_getTreeNode (g : AG) (N : Nat) (h : AH) (x0 : Nat) (x1 : Int32) (r2 : Option Nat) : Option (Option Nat × AH) :=
  (rdR h x0 [(12, 6)]).bind fun o1 => ocase o1 (x_J29_getTreeNode_15 g N  h x0 x1 r2 (some x0)) (fun a3 => bif clB h x0 [12] then ((x_J29_root g N h x0).bind fun q10 => x_J29_getTreeNode_15 g N  q10.2 x0 x1 r2 q10.1) else none)
theorem ct_J29_getTreeNode (g : AG) (hst : (gL g).stackTraces = false) (N : Nat) : ∀ (h : AH) (x0 : Nat) (x1 : Int32) (r2 : Option Nat) (q : (Option Nat × AH)), x_J29_getTreeNode g N h x0 x1 r2 = some q → CT g YJ29_getTreeNode 111 [.ref x0, .int x1, va_rf r2] h (xR q) := by
  intro h x0 x1 r2 q hq
  refine CT.of rfl (by decide +kernel) (loc := [some (.ref x0), some (.int x1), some (va_rf r2)]) (by first | exact Nat.le_of_ble_eq_true rfl | (simp only [lgl_rf, lgl_i, lgl_j, lgl_ref, lgl_nil]; exact Nat.le_of_ble_eq_true rfl)) (by first | rfl | (simp only [aent_rf, aent_i, aent_j, aent_ref, aent_nil]; rfl)) ?_
  unfold x_J29_getTreeNode at hq
  refine aw_aload_n (i := 0) dJ29_getTreeNode_0 rfl rfl trivial ?_
  replace hq := obind hq
  obtain ⟨o1, e2, hq⟩ := hq
  refine xw_getR e2 fJ29_9 dJ29_getTreeNode_1 ?_
  rcases o1 with _ | a3
  · replace hq := ocase_n hq
    refine xw_ifnullN (tgt := 14) dJ29_getTreeNode_4 (by decide) ?_
    refine aw_aload_n (i := 0) dJ29_getTreeNode_14 rfl rfl trivial ?_
    exact p_x_J29_getTreeNode_15 g hst N   h x0 x1 r2 (some x0) _ hq
  · replace hq := ocase_s hq
    refine xw_ifnullS (tgt := 14) dJ29_getTreeNode_4 (by decide) ?_
    refine aw_aload_n (i := 0) dJ29_getTreeNode_7 rfl rfl trivial ?_
    replace hq := cond_t hq
    obtain ⟨z9, hq⟩ := hq
    obtain ⟨fs9, ha9⟩ := clB1 z9
    replace hq := obind hq
    obtain ⟨q10, e11, hq⟩ := hq
    refine aw_callV (Y2 := YJ29_root) (As := []) (rest := []) (r := (RJ29, TJ29, 11)) kJ29_root ha9 rfl rfl q1266 q1267 q1268 dJ29_getTreeNode_8 rfl rfl (ct_J29_root g hst N h x0 _ e11) (Nat.le_of_ble_eq_true rfl) (Nat.le_of_ble_eq_true rfl) (fun v9 h9 z9 y9 => ?_)
    obtain ⟨rfl, rfl⟩ := y9
    refine aw_st (st' := [va_rf q10.1]) rfl ?_
    refine aw_goto (tgt := 15) dJ29_getTreeNode_11 (by decide) ?_
    exact p_x_J29_getTreeNode_15 g hst N   q10.2 x0 x1 r2 q10.1 _ hq
theorem fJ1_105 : ∀ q ∈ ([(10, 2)] : List (Nat × Nat)), aFl RJ1 105 q.1 q.2 := by
  intro q hq
  simp only [List.mem_cons, List.not_mem_nil, or_false] at hq
  subst hq
  exact aFl.of (RJ1, TJ1, 8) rfl (Nat.le_of_ble_eq_true rfl) q227
theorem fJ1_168 : ∀ q ∈ ([(11, 0), (12, 2)] : List (Nat × Nat)), aFl RJ1 168 q.1 q.2 := by
  intro q hq
  simp only [List.mem_cons, List.not_mem_nil, or_false] at hq
  rcases hq with rfl | rfl
  · exact aFl.of (RJ27, TJ27, 4) rfl (Nat.le_of_ble_eq_true rfl) q1566
  · exact aFl.of (RJ29, TJ29, 11) rfl (Nat.le_of_ble_eq_true rfl) q1566
theorem fJ1_177 : ∀ q ∈ ([(11, 3), (12, 5)] : List (Nat × Nat)), aFl RJ1 177 q.1 q.2 := by
  intro q hq
  simp only [List.mem_cons, List.not_mem_nil, or_false] at hq
  rcases hq with rfl | rfl
  · exact aFl.of (RJ27, TJ27, 4) rfl (Nat.le_of_ble_eq_true rfl) q1577
  · exact aFl.of (RJ29, TJ29, 11) rfl (Nat.le_of_ble_eq_true rfl) q1577
theorem casjava_util_HashMap_TreeNode : ∀ c ∈ ([12] : List Nat), ∃ r : vw_C, aCl[c]? = some r ∧ (r.1 = "java/util/HashMap$TreeNode" ∨ Cond.castable r.1 "java/util/HashMap$TreeNode" ∈ lw_tbl) := by
  intro c hc
  simp only [List.mem_cons, List.not_mem_nil, or_false] at hc
  subst hc
  exact ⟨(RJ29, TJ29, 11), rfl, Or.inl rfl⟩
theorem ncajava_util_HashMap_TreeNode : ∀ c ∈ ([11] : List Nat), ∃ r : vw_C, aCl[c]? = some r ∧ (r.1, "java/util/HashMap$TreeNode") ∈ aNc := by
  intro c hc
  simp only [List.mem_cons, List.not_mem_nil, or_false] at hc
  subst hc
  exact ⟨(RJ27, TJ27, 4), rfl, by decide⟩
theorem fJ1_170 : ∀ q ∈ ([(11, 1), (12, 3)] : List (Nat × Nat)), aFl RJ1 170 q.1 q.2 := by
  intro q hq
  simp only [List.mem_cons, List.not_mem_nil, or_false] at hq
  rcases hq with rfl | rfl
  · exact aFl.of (RJ27, TJ27, 4) rfl (Nat.le_of_ble_eq_true rfl) q1570
  · exact aFl.of (RJ29, TJ29, 11) rfl (Nat.le_of_ble_eq_true rfl) q1570
abbrev YJ1_getNode : YC := (yJ1_getNode, cJ1_getNode, 8, (some (.object "java/util/HashMap$Node")), [])
theorem kJ1_getNode : aMk YJ1_getNode 1 := ⟨rfl, q1119, q120, ⟨by decide +kernel, by decide +kernel, by decide +kernel⟩, Nat.le_of_ble_eq_true rfl⟩
def x_J1_getNode_137 (g : AG) (N : Nat) (K99 : AH → Nat → Option Nat → Option Nat → Option Nat → Option Nat → Int32 → Int32 → Option (Option Nat × AH)) (h : AH) (x0 : Nat) (r1 : Option Nat) (r2 : Option Nat) (r3 : Option Nat) (r4 : Option Nat) (x5 : Int32) (x6 : Int32) : Option (Option Nat × AH) :=
  (r4).bind fun a28 => (rdR h a28 [(11, 3), (12, 5)]).bind fun o30 => ocase o30 (some ((none), h)) (fun a32 => K99 h x0 r1 r2 r3 (some a32) x5 x6)
theorem p_x_J1_getNode_137 (g : AG) (hst : (gL g).stackTraces = false) (N : Nat) (K99 : AH → Nat → Option Nat → Option Nat → Option Nat → Option Nat → Int32 → Int32 → Option (Option Nat × AH)) (hK99 : ∀ (h : AH) (x0 : Nat) (r1 : Option Nat) (r2 : Option Nat) (r3 : Option Nat) (r4 : Option Nat) (x5 : Int32) (x6 : Int32) (q : (Option Nat × AH)), K99 h x0 r1 r2 r3 r4 x5 x6 = some q → AW g YJ1_getNode 112 (xR q) h [some (.ref x0), some (va_rf r1), some (va_rf r2), some (va_rf r3), some (va_rf r4), some (.int x5), some (.int x6), none] 99 []) : ∀ (h : AH) (x0 : Nat) (r1 : Option Nat) (r2 : Option Nat) (r3 : Option Nat) (r4 : Option Nat) (x5 : Int32) (x6 : Int32) (q : (Option Nat × AH)), x_J1_getNode_137 g N K99 h x0 r1 r2 r3 r4 x5 x6 = some q → AW g YJ1_getNode 112 (xR q) h [some (.ref x0), some (va_rf r1), some (va_rf r2), some (va_rf r3), some (va_rf r4), some (.int x5), some (.int x6), none] 137 [] := by
  intro h x0 r1 r2 r3 r4 x5 x6 q hq
  unfold x_J1_getNode_137 at hq
  refine aw_aload dJ1_getNode_137 rfl (aIsR_rf _) ?_
  replace hq := obind hq
  obtain ⟨a28, e29, hq⟩ := hq
  subst e29
  replace hq := obind hq
  obtain ⟨o30, e31, hq⟩ := hq
  refine xw_getR e31 fJ1_177 dJ1_getNode_139 ?_
  refine aw_dup dJ1_getNode_142 (cat_rf _) ?_
  refine aw_astore (loc' := [some (.ref x0), some (va_rf r1), some (va_rf r2), some (va_rf r3), some (va_rf o30), some (.int x5), some (.int x6), none]) dJ1_getNode_143 (Nat.le_of_ble_eq_true rfl) (aIsR_rf _) (aset1_rf rfl) ?_
  rcases o30 with _ | a32
  · replace hq := ocase_n hq
    refine xw_ifnonN (tgt := 99) dJ1_getNode_145 (by decide) ?_
    refine aw_null dJ1_getNode_148 ?_
    cases hq
    exact aw_areturn dJ1_getNode_149 rfl (Or.inl ⟨_, rfl⟩) trivial ⟨rfl, rfl⟩
  · replace hq := ocase_s hq
    refine xw_ifnonS (tgt := 99) dJ1_getNode_145 (by decide) ?_
    exact hK99 h x0 r1 r2 r3 (some a32) x5 x6 _ hq
def x_J1_getNode_99 (g : AG) (N : Nat) : Nat → AH → Nat → Option Nat → Option Nat → Option Nat → Option Nat → Int32 → Int32 → Option (Option Nat × AH)
  | 0, _, _, _, _, _, _, _, _ => none
  | n9 + 1, h, x0, r1, r2, r3, r4, x5, x6 =>
  (r4).bind fun a23 => (rdI h a23 [(11, 0), (12, 2)]).bind fun i25 => if i25 = x6 then ((rdR h a23 [(11, 1), (12, 3)]).bind fun o33 => if o33 = r1 then (some ((some a23), h)) else (ocase r1 (x_J1_getNode_137 g N (fun h x0 r1 r2 r3 r4 x5 x6 => x_J1_getNode_99 g N n9 h x0 r1 r2 r3 r4 x5 x6) h x0 (none) r2 r3 (some a23) x5 x6) (fun a36 => bif clB h a36 [17] then ((x_J13_equals g N h a36 o33).bind fun q38 => if q38.1 = 0 then (x_J1_getNode_137 g N (fun h x0 r1 r2 r3 r4 x5 x6 => x_J1_getNode_99 g N n9 h x0 r1 r2 r3 r4 x5 x6) q38.2 x0 (some a36) r2 r3 (some a23) x5 x6) else (some ((some a23), q38.2))) else none))) else (x_J1_getNode_137 g N (fun h x0 r1 r2 r3 r4 x5 x6 => x_J1_getNode_99 g N n9 h x0 r1 r2 r3 r4 x5 x6) h x0 r1 r2 r3 (some a23) x5 x6)
theorem p_x_J1_getNode_99 (g : AG) (hst : (gL g).stackTraces = false) (N : Nat) : ∀ (n9 : Nat) (h : AH) (x0 : Nat) (r1 : Option Nat) (r2 : Option Nat) (r3 : Option Nat) (r4 : Option Nat) (x5 : Int32) (x6 : Int32) (q : (Option Nat × AH)), x_J1_getNode_99 g N n9 h x0 r1 r2 r3 r4 x5 x6 = some q → AW g YJ1_getNode 112 (xR q) h [some (.ref x0), some (va_rf r1), some (va_rf r2), some (va_rf r3), some (va_rf r4), some (.int x5), some (.int x6), none] 99 [] := by
  intro n9
  induction n9 with
  | zero =>
    intro h x0 r1 r2 r3 r4 x5 x6 q hq
    cases hq
  | succ n9 ih =>
    intro h x0 r1 r2 r3 r4 x5 x6 q hq
    rw [x_J1_getNode_99] at hq
    refine aw_aload dJ1_getNode_99 rfl (aIsR_rf _) ?_
    replace hq := obind hq
    obtain ⟨a23, e24, hq⟩ := hq
    subst e24
    replace hq := obind hq
    obtain ⟨i25, e26, hq⟩ := hq
    refine xw_getI e26 fJ1_168 dJ1_getNode_101 ?_
    refine aw_iload dJ1_getNode_104 rfl ?_
    refine aw_icmp_ne (tgt := 137) dJ1_getNode_106 (by decide) (fun c27 => ?_) (fun c27 => ?_)
    · rw [if_neg c27] at hq
      exact p_x_J1_getNode_137 g hst N _ ih h x0 r1 r2 r3 (some a23) x5 x6 _ hq
    · rw [if_pos c27] at hq
      refine aw_aload dJ1_getNode_109 rfl trivial ?_
      replace hq := obind hq
      obtain ⟨o33, e34, hq⟩ := hq
      refine xw_getR e34 fJ1_170 dJ1_getNode_111 ?_
      refine aw_dup dJ1_getNode_114 (cat_rf _) ?_
      refine aw_astore (loc' := [some (.ref x0), some (va_rf r1), some (va_rf r2), some (va_rf r3), some (.ref a23), some (.int x5), some (.int x6), some (va_rf o33)]) dJ1_getNode_115 (Nat.le_of_ble_eq_true rfl) (aIsR_rf _) rfl ?_
      refine aw_aload_n (i := 1) dJ1_getNode_117 rfl rfl (aIsR_rf _) ?_
      refine xw_acmp_eq (v := o33) (w := r1) (tgt := 134) dJ1_getNode_118 (by decide) (fun c35 => ?_) (fun c35 => ?_)
      · rw [if_pos c35] at hq
        refine aw_aload dJ1_getNode_134 rfl trivial ?_
        cases hq
        exact aw_areturn dJ1_getNode_136 rfl (Or.inl ⟨_, rfl⟩) trivial ⟨rfl, rfl⟩
      · rw [if_neg c35] at hq
        refine aw_aload_n (i := 1) dJ1_getNode_121 rfl rfl (aIsR_rf _) ?_
        rcases r1 with _ | a36
        · replace hq := ocase_n hq
          refine xw_ifnullN (tgt := 137) dJ1_getNode_122 (by decide) ?_
          refine aw_subl (loc' := [some (.ref x0), some (.null), some (va_rf r2), some (va_rf r3), some (.ref a23), some (.int x5), some (.int x6), none]) ⟨Or.inr rfl, Or.inr rfl, Or.inr rfl, Or.inr rfl, Or.inr rfl, Or.inr rfl, Or.inr rfl, Or.inl rfl, trivial⟩ ?_
          exact p_x_J1_getNode_137 g hst N _ ih h x0 (none) r2 r3 (some a23) x5 x6 _ hq
        · replace hq := ocase_s hq
          refine xw_ifnullS (tgt := 137) dJ1_getNode_122 (by decide) ?_
          refine aw_aload_n (i := 1) dJ1_getNode_125 rfl rfl trivial ?_
          refine aw_aload dJ1_getNode_126 rfl (aIsR_rf _) ?_
          replace hq := cond_t hq
          obtain ⟨z37, hq⟩ := hq
          obtain ⟨fs9, ha9⟩ := clB1 z37
          replace hq := obind hq
          obtain ⟨q38, e39, hq⟩ := hq
          refine aw_callO (Y2 := YJ13_equals) (As := [va_rf o33]) (rest := []) (r := (RJ13, TJ13, 4)) (x := ⟨"java/lang/Object", "equals", "(Ljava/lang/Object;)Z"⟩) (o := "java/lang/Object") kJ13_equals ha9 rfl ⟨by decide +kernel, by decide +kernel, by decide +kernel⟩ q1218 q1220 q1217 q1251 q1250 dJ1_getNode_128 rfl rfl (ct_J13_equals g hst N h a36 o33 _ e39) (Nat.le_of_ble_eq_true rfl) (Nat.le_of_ble_eq_true rfl) (fun v9 h9 z9 y9 => ?_)
          obtain ⟨rfl, rfl⟩ := y9
          refine aw_st (st' := [.int q38.1]) rfl ?_
          refine aw_if_eq (tgt := 137) dJ1_getNode_131 (by decide) (fun c40 => ?_) (fun c40 => ?_)
          · rw [if_pos c40] at hq
            refine aw_subl (loc' := [some (.ref x0), some (.ref a36), some (va_rf r2), some (va_rf r3), some (.ref a23), some (.int x5), some (.int x6), none]) ⟨Or.inr rfl, Or.inr rfl, Or.inr rfl, Or.inr rfl, Or.inr rfl, Or.inr rfl, Or.inr rfl, Or.inl rfl, trivial⟩ ?_
            exact p_x_J1_getNode_137 g hst N _ ih q38.2 x0 (some a36) r2 r3 (some a23) x5 x6 _ hq
          · rw [if_neg c40] at hq
            refine aw_aload dJ1_getNode_134 rfl trivial ?_
            cases hq
            exact aw_areturn dJ1_getNode_136 rfl (Or.inl ⟨_, rfl⟩) trivial ⟨rfl, rfl⟩
def x_J1_getNode_71 (g : AG) (N : Nat) (h : AH) (x0 : Nat) (r1 : Option Nat) (r2 : Option Nat) (r3 : Option Nat) (x5 : Int32) (x6 : Int32) : Option (Option Nat × AH) :=
  (r3).bind fun a15 => (rdR h a15 [(11, 3), (12, 5)]).bind fun o17 => ocase o17 (some ((none), h)) (fun a19 => (insI h (some a15) [12] [11]).bind fun i20 => if i20 = 0 then (x_J1_getNode_99 g N  N h x0 r1 r2 (some a15) (some a19) x5 x6) else (bif casB h (some a15) [12] then (bif clB h a15 [12] then ((x_J29_getTreeNode g N h a15 x6 r1).bind fun q43 => some (q43.1, q43.2)) else none) else none))
theorem p_x_J1_getNode_71 (g : AG) (hst : (gL g).stackTraces = false) (N : Nat) : ∀ (h : AH) (x0 : Nat) (r1 : Option Nat) (r2 : Option Nat) (r3 : Option Nat) (x5 : Int32) (x6 : Int32) (q : (Option Nat × AH)), x_J1_getNode_71 g N h x0 r1 r2 r3 x5 x6 = some q → AW g YJ1_getNode 112 (xR q) h [some (.ref x0), some (va_rf r1), some (va_rf r2), some (va_rf r3), none, some (.int x5), some (.int x6), none] 71 [] := by
  intro h x0 r1 r2 r3 x5 x6 q hq
  unfold x_J1_getNode_71 at hq
  refine aw_aload_n (i := 3) dJ1_getNode_71 rfl rfl (aIsR_rf _) ?_
  replace hq := obind hq
  obtain ⟨a15, e16, hq⟩ := hq
  subst e16
  replace hq := obind hq
  obtain ⟨o17, e18, hq⟩ := hq
  refine xw_getR e18 fJ1_177 dJ1_getNode_72 ?_
  refine aw_dup dJ1_getNode_75 (cat_rf _) ?_
  refine aw_astore (loc' := [some (.ref x0), some (va_rf r1), some (va_rf r2), some (.ref a15), some (va_rf o17), some (.int x5), some (.int x6), none]) dJ1_getNode_76 (Nat.le_of_ble_eq_true rfl) (aIsR_rf _) rfl ?_
  rcases o17 with _ | a19
  · replace hq := ocase_n hq
    refine xw_ifnullN (tgt := 148) dJ1_getNode_78 (by decide) ?_
    refine aw_null dJ1_getNode_148 ?_
    cases hq
    exact aw_areturn dJ1_getNode_149 rfl (Or.inl ⟨_, rfl⟩) trivial ⟨rfl, rfl⟩
  · replace hq := ocase_s hq
    refine xw_ifnullS (tgt := 148) dJ1_getNode_78 (by decide) ?_
    refine aw_aload_n (i := 3) dJ1_getNode_81 rfl rfl trivial ?_
    replace hq := obind hq
    obtain ⟨i20, e21, hq⟩ := hq
    refine xw_inst (r := (some a15)) e21 q1261 casjava_util_HashMap_TreeNode ncajava_util_HashMap_TreeNode dJ1_getNode_82 ?_
    refine aw_if_eq (tgt := 99) dJ1_getNode_85 (by decide) (fun c22 => ?_) (fun c22 => ?_)
    · rw [if_pos c22] at hq
      exact p_x_J1_getNode_99 g hst N   N h x0 r1 r2 (some a15) (some a19) x5 x6 _ hq
    · rw [if_neg c22] at hq
      refine aw_aload_n (i := 3) dJ1_getNode_88 rfl rfl trivial ?_
      replace hq := cond_t hq
      obtain ⟨z41, hq⟩ := hq
      refine xw_cast (r := (some a15)) z41 q1261 casjava_util_HashMap_TreeNode dJ1_getNode_89 ?_
      refine aw_iload dJ1_getNode_92 rfl ?_
      refine aw_aload_n (i := 1) dJ1_getNode_94 rfl rfl (aIsR_rf _) ?_
      replace hq := cond_t hq
      obtain ⟨z42, hq⟩ := hq
      obtain ⟨fs9, ha9⟩ := clB1 z42
      replace hq := obind hq
      obtain ⟨q43, e44, hq⟩ := hq
      refine aw_callV (Y2 := YJ29_getTreeNode) (As := [.int x6, va_rf r1]) (rest := []) (r := (RJ29, TJ29, 11)) kJ29_getTreeNode ha9 rfl rfl q1262 q1263 q1264 dJ1_getNode_95 rfl rfl (ct_J29_getTreeNode g hst N h a15 x6 r1 _ e44) (Nat.le_of_ble_eq_true rfl) (Nat.le_of_ble_eq_true rfl) (fun v9 h9 z9 y9 => ?_)
      obtain ⟨rfl, rfl⟩ := y9
      refine aw_st (st' := [va_rf q43.1]) rfl ?_
      cases hq
      exact aw_areturn dJ1_getNode_98 rfl (Or.inl ⟨_, rfl⟩) (aIsR_rf _) ⟨rfl, rfl⟩
def x_J1_getNode (g : AG) (N : Nat) (h : AH) (x0 : Nat) (r1 : Option Nat) : Option (Option Nat × AH) :=
  (rdR h x0 [(10, 2)]).bind fun o1 => ocase o1 (some ((none), h)) (fun a3 => (rdN h a3).bind fun i4 => if i4 ≤ 0 then (some ((none), h)) else ((x_J1_hash g N h r1).bind fun q7 => (rdQ q7.2 a3 ((i4 - (1 : Int32)) &&& q7.1)).bind fun o9 => ocase o9 (some ((none), q7.2)) (fun a11 => (rdI q7.2 a11 [(11, 0), (12, 2)]).bind fun i12 => if i12 = q7.1 then ((rdR q7.2 a11 [(11, 1), (12, 3)]).bind fun o45 => if o45 = r1 then (some ((some a11), q7.2)) else (ocase r1 (x_J1_getNode_71 g N  q7.2 x0 (none) (some a3) (some a11) i4 q7.1) (fun a48 => bif clB q7.2 a48 [17] then ((x_J13_equals g N q7.2 a48 o45).bind fun q50 => if q50.1 = 0 then (x_J1_getNode_71 g N  q50.2 x0 (some a48) (some a3) (some a11) i4 q7.1) else (some ((some a11), q50.2))) else none))) else (x_J1_getNode_71 g N  q7.2 x0 r1 (some a3) (some a11) i4 q7.1))))
theorem ct_J1_getNode (g : AG) (hst : (gL g).stackTraces = false) (N : Nat) : ∀ (h : AH) (x0 : Nat) (r1 : Option Nat) (q : (Option Nat × AH)), x_J1_getNode g N h x0 r1 = some q → CT g YJ1_getNode 112 [.ref x0, va_rf r1] h (xR q) := by
  intro h x0 r1 q hq
  refine CT.of rfl (by decide +kernel) (loc := [some (.ref x0), some (va_rf r1), none, none, none, none, none, none]) (by first | exact Nat.le_of_ble_eq_true rfl | (simp only [lgl_rf, lgl_i, lgl_j, lgl_ref, lgl_nil]; exact Nat.le_of_ble_eq_true rfl)) (by first | rfl | (simp only [aent_rf, aent_i, aent_j, aent_ref, aent_nil]; rfl)) ?_
  unfold x_J1_getNode at hq
  refine aw_aload_n (i := 0) dJ1_getNode_0 rfl rfl trivial ?_
  replace hq := obind hq
  obtain ⟨o1, e2, hq⟩ := hq
  refine xw_getR e2 fJ1_105 dJ1_getNode_1 ?_
  refine aw_dup dJ1_getNode_4 (cat_rf _) ?_
  refine aw_astore_n (i := 2) (loc' := [some (.ref x0), some (va_rf r1), some (va_rf o1), none, none, none, none, none]) dJ1_getNode_5 rfl (Nat.le_of_ble_eq_true rfl) (aIsR_rf _) (aset1_rf rfl) ?_
  rcases o1 with _ | a3
  · replace hq := ocase_n hq
    refine xw_ifnullN (tgt := 148) dJ1_getNode_6 (by decide) ?_
    refine aw_null dJ1_getNode_148 ?_
    cases hq
    exact aw_areturn dJ1_getNode_149 rfl (Or.inl ⟨_, rfl⟩) trivial ⟨rfl, rfl⟩
  · replace hq := ocase_s hq
    refine xw_ifnullS (tgt := 148) dJ1_getNode_6 (by decide) ?_
    refine aw_aload_n (i := 2) dJ1_getNode_9 rfl rfl trivial ?_
    replace hq := obind hq
    obtain ⟨i4, e5, hq⟩ := hq
    refine xw_alen e5 dJ1_getNode_10 ?_
    refine aw_dup dJ1_getNode_11 rfl ?_
    refine aw_istore (loc' := [some (.ref x0), some (va_rf r1), some (.ref a3), none, none, some (.int i4), none, none]) dJ1_getNode_12 (Nat.le_of_ble_eq_true rfl) rfl ?_
    refine aw_if_le (tgt := 148) dJ1_getNode_14 (by decide) (fun c6 => ?_) (fun c6 => ?_)
    · rw [if_pos c6] at hq
      refine aw_null dJ1_getNode_148 ?_
      cases hq
      exact aw_areturn dJ1_getNode_149 rfl (Or.inl ⟨_, rfl⟩) trivial ⟨rfl, rfl⟩
    · rw [if_neg c6] at hq
      refine aw_aload_n (i := 2) dJ1_getNode_17 rfl rfl trivial ?_
      refine aw_iload dJ1_getNode_18 rfl ?_
      refine aw_iconst (v := 1) dJ1_getNode_20 (by decide) ?_
      refine aw_isub dJ1_getNode_21 ?_
      refine aw_aload_n (i := 1) dJ1_getNode_22 rfl rfl (aIsR_rf _) ?_
      replace hq := obind hq
      obtain ⟨q7, e8, hq⟩ := hq
      refine aw_callS (Y2 := YJ1_hash) (As := [va_rf r1]) (rest := [.int (i4 - (1 : Int32)), .ref a3]) kJ1_hash q1120 q1121 dJ1_getNode_23 rfl rfl (ct_J1_hash g hst N h r1 _ e8) (Nat.le_of_ble_eq_true rfl) (Nat.le_of_ble_eq_true rfl) (fun v9 h9 z9 y9 => ?_)
      obtain ⟨rfl, rfl⟩ := y9
      refine aw_st (st' := [.int q7.1, .int (i4 - (1 : Int32)), .ref a3]) rfl ?_
      refine aw_dup dJ1_getNode_26 rfl ?_
      refine aw_istore (loc' := [some (.ref x0), some (va_rf r1), some (.ref a3), none, none, some (.int i4), some (.int q7.1), none]) dJ1_getNode_27 (Nat.le_of_ble_eq_true rfl) rfl ?_
      refine aw_iand dJ1_getNode_29 ?_
      replace hq := obind hq
      obtain ⟨o9, e10, hq⟩ := hq
      refine xw_aald e10 dJ1_getNode_30 ?_
      refine aw_dup dJ1_getNode_31 (cat_rf _) ?_
      refine aw_astore_n (i := 3) (loc' := [some (.ref x0), some (va_rf r1), some (.ref a3), some (va_rf o9), none, some (.int i4), some (.int q7.1), none]) dJ1_getNode_32 rfl (Nat.le_of_ble_eq_true rfl) (aIsR_rf _) rfl ?_
      rcases o9 with _ | a11
      · replace hq := ocase_n hq
        refine xw_ifnullN (tgt := 148) dJ1_getNode_33 (by decide) ?_
        refine aw_null dJ1_getNode_148 ?_
        cases hq
        exact aw_areturn dJ1_getNode_149 rfl (Or.inl ⟨_, rfl⟩) trivial ⟨rfl, rfl⟩
      · replace hq := ocase_s hq
        refine xw_ifnullS (tgt := 148) dJ1_getNode_33 (by decide) ?_
        refine aw_aload_n (i := 3) dJ1_getNode_36 rfl rfl trivial ?_
        replace hq := obind hq
        obtain ⟨i12, e13, hq⟩ := hq
        refine xw_getI e13 fJ1_168 dJ1_getNode_37 ?_
        refine aw_iload dJ1_getNode_40 rfl ?_
        refine aw_icmp_ne (tgt := 71) dJ1_getNode_42 (by decide) (fun c14 => ?_) (fun c14 => ?_)
        · rw [if_neg c14] at hq
          exact p_x_J1_getNode_71 g hst N   q7.2 x0 r1 (some a3) (some a11) i4 q7.1 _ hq
        · rw [if_pos c14] at hq
          refine aw_aload_n (i := 3) dJ1_getNode_45 rfl rfl trivial ?_
          replace hq := obind hq
          obtain ⟨o45, e46, hq⟩ := hq
          refine xw_getR e46 fJ1_170 dJ1_getNode_46 ?_
          refine aw_dup dJ1_getNode_49 (cat_rf _) ?_
          refine aw_astore (loc' := [some (.ref x0), some (va_rf r1), some (.ref a3), some (.ref a11), none, some (.int i4), some (.int q7.1), some (va_rf o45)]) dJ1_getNode_50 (Nat.le_of_ble_eq_true rfl) (aIsR_rf _) rfl ?_
          refine aw_aload_n (i := 1) dJ1_getNode_52 rfl rfl (aIsR_rf _) ?_
          refine xw_acmp_eq (v := o45) (w := r1) (tgt := 69) dJ1_getNode_53 (by decide) (fun c47 => ?_) (fun c47 => ?_)
          · rw [if_pos c47] at hq
            refine aw_aload_n (i := 3) dJ1_getNode_69 rfl rfl trivial ?_
            cases hq
            exact aw_areturn dJ1_getNode_70 rfl (Or.inl ⟨_, rfl⟩) trivial ⟨rfl, rfl⟩
          · rw [if_neg c47] at hq
            refine aw_aload_n (i := 1) dJ1_getNode_56 rfl rfl (aIsR_rf _) ?_
            rcases r1 with _ | a48
            · replace hq := ocase_n hq
              refine xw_ifnullN (tgt := 71) dJ1_getNode_57 (by decide) ?_
              refine aw_subl (loc' := [some (.ref x0), some (.null), some (.ref a3), some (.ref a11), none, some (.int i4), some (.int q7.1), none]) ⟨Or.inr rfl, Or.inr rfl, Or.inr rfl, Or.inr rfl, Or.inl rfl, Or.inr rfl, Or.inr rfl, Or.inl rfl, trivial⟩ ?_
              exact p_x_J1_getNode_71 g hst N   q7.2 x0 (none) (some a3) (some a11) i4 q7.1 _ hq
            · replace hq := ocase_s hq
              refine xw_ifnullS (tgt := 71) dJ1_getNode_57 (by decide) ?_
              refine aw_aload_n (i := 1) dJ1_getNode_60 rfl rfl trivial ?_
              refine aw_aload dJ1_getNode_61 rfl (aIsR_rf _) ?_
              replace hq := cond_t hq
              obtain ⟨z49, hq⟩ := hq
              obtain ⟨fs9, ha9⟩ := clB1 z49
              replace hq := obind hq
              obtain ⟨q50, e51, hq⟩ := hq
              refine aw_callO (Y2 := YJ13_equals) (As := [va_rf o45]) (rest := []) (r := (RJ13, TJ13, 4)) (x := ⟨"java/lang/Object", "equals", "(Ljava/lang/Object;)Z"⟩) (o := "java/lang/Object") kJ13_equals ha9 rfl ⟨by decide +kernel, by decide +kernel, by decide +kernel⟩ q1218 q1220 q1217 q1251 q1250 dJ1_getNode_63 rfl rfl (ct_J13_equals g hst N q7.2 a48 o45 _ e51) (Nat.le_of_ble_eq_true rfl) (Nat.le_of_ble_eq_true rfl) (fun v9 h9 z9 y9 => ?_)
              obtain ⟨rfl, rfl⟩ := y9
              refine aw_st (st' := [.int q50.1]) rfl ?_
              refine aw_if_eq (tgt := 71) dJ1_getNode_66 (by decide) (fun c52 => ?_) (fun c52 => ?_)
              · rw [if_pos c52] at hq
                refine aw_subl (loc' := [some (.ref x0), some (.ref a48), some (.ref a3), some (.ref a11), none, some (.int i4), some (.int q7.1), none]) ⟨Or.inr rfl, Or.inr rfl, Or.inr rfl, Or.inr rfl, Or.inl rfl, Or.inr rfl, Or.inr rfl, Or.inl rfl, trivial⟩ ?_
                exact p_x_J1_getNode_71 g hst N   q50.2 x0 (some a48) (some a3) (some a11) i4 q7.1 _ hq
              · rw [if_neg c52] at hq
                refine aw_aload_n (i := 3) dJ1_getNode_69 rfl rfl trivial ?_
                cases hq
                exact aw_areturn dJ1_getNode_70 rfl (Or.inl ⟨_, rfl⟩) trivial ⟨rfl, rfl⟩
abbrev YJ1_containsKey : YC := (yJ1_containsKey, cJ1_containsKey, 2, (some .boolean), [])
theorem kJ1_containsKey : aMk YJ1_containsKey 1 := ⟨rfl, q1115, q120, ⟨by decide +kernel, by decide +kernel, by decide +kernel⟩, Nat.le_of_ble_eq_true rfl⟩
def x_J1_containsKey (g : AG) (N : Nat) (h : AH) (x0 : Nat) (r1 : Option Nat) : Option (Int32 × AH) :=
  bif clB h x0 [10] then ((x_J1_getNode g N h x0 r1).bind fun q2 => ocase q2.1 (some ((0 : Int32), q2.2)) (fun a4 => some ((1 : Int32), q2.2))) else none
theorem ct_J1_containsKey (g : AG) (hst : (gL g).stackTraces = false) (N : Nat) : ∀ (h : AH) (x0 : Nat) (r1 : Option Nat) (q : (Int32 × AH)), x_J1_containsKey g N h x0 r1 = some q → CT g YJ1_containsKey 113 [.ref x0, va_rf r1] h (xI q) := by
  intro h x0 r1 q hq
  refine CT.of rfl (by decide +kernel) (loc := [some (.ref x0), some (va_rf r1)]) (by first | exact Nat.le_of_ble_eq_true rfl | (simp only [lgl_rf, lgl_i, lgl_j, lgl_ref, lgl_nil]; exact Nat.le_of_ble_eq_true rfl)) (by first | rfl | (simp only [aent_rf, aent_i, aent_j, aent_ref, aent_nil]; rfl)) ?_
  unfold x_J1_containsKey at hq
  refine aw_aload_n (i := 0) dJ1_containsKey_0 rfl rfl trivial ?_
  refine aw_aload_n (i := 1) dJ1_containsKey_1 rfl rfl (aIsR_rf _) ?_
  replace hq := cond_t hq
  obtain ⟨z1, hq⟩ := hq
  obtain ⟨fs9, ha9⟩ := clB1 z1
  replace hq := obind hq
  obtain ⟨q2, e3, hq⟩ := hq
  refine aw_callV (Y2 := YJ1_getNode) (As := [va_rf r1]) (rest := []) (r := (RJ1, TJ1, 8)) kJ1_getNode ha9 rfl rfl q1116 q1117 q1118 dJ1_containsKey_2 rfl rfl (ct_J1_getNode g hst N h x0 r1 _ e3) (Nat.le_of_ble_eq_true rfl) (Nat.le_of_ble_eq_true rfl) (fun v9 h9 z9 y9 => ?_)
  obtain ⟨rfl, rfl⟩ := y9
  refine aw_st (st' := [va_rf q2.1]) rfl ?_
  generalize q2.1 = v9 at hq ⊢
  rcases v9 with _ | a4
  · replace hq := ocase_n hq
    refine xw_ifnullN (tgt := 12) dJ1_containsKey_5 (by decide) ?_
    refine aw_iconst (v := 0) dJ1_containsKey_12 (by decide) ?_
    cases hq
    exact aw_ireturn dJ1_containsKey_13 rfl rfl ⟨rfl, rfl⟩
  · replace hq := ocase_s hq
    refine xw_ifnullS (tgt := 12) dJ1_containsKey_5 (by decide) ?_
    refine aw_iconst (v := 1) dJ1_containsKey_8 (by decide) ?_
    refine aw_goto (tgt := 13) dJ1_containsKey_9 (by decide) ?_
    cases hq
    exact aw_ireturn dJ1_containsKey_13 rfl rfl ⟨rfl, rfl⟩
theorem fJ1_81 : ∀ q ∈ ([(10, 7)] : List (Nat × Nat)), aFl RJ1 81 q.1 q.2 := by
  intro q hq
  simp only [List.mem_cons, List.not_mem_nil, or_false] at hq
  subst hq
  exact aFl.of (RJ1, TJ1, 8) rfl (Nat.le_of_ble_eq_true rfl) q231
theorem okJ1 : aCK (RJ1, TJ1, 8) tyJ1 := ⟨in_J1, tyJ1_ok, nmJ1⟩
theorem tJ1_7f : ∀ q ∈ ([(10, 7)] : List (Nat × Nat)), aFt q.1 q.2 true .float := by
  intro q hq
  simp only [List.mem_cons, List.not_mem_nil, or_false] at hq
  subst hq
  exact ⟨(RJ1, TJ1, 8), tyJ1, Nat.le_of_ble_eq_true rfl, rfl, Nat.le_of_ble_eq_true rfl, okJ1, rfl, rfl⟩
theorem gJ1_81 : ∀ q ∈ ([(10, 7)] : List (Nat × Nat)), ∃ r0 : vw_C, aCl[q.1]? = some r0 ∧ (r0.2.1 q.2).1 = RJ1 ∧ Cond.fieldLink RJ1 81 (r0.2.1 q.2).1 (r0.2.1 q.2).2.1 (r0.2.1 q.2).2.2.1 ∈ lw_all := by
  intro q hq
  simp only [List.mem_cons, List.not_mem_nil, or_false] at hq
  subst hq
  exact ⟨(RJ1, TJ1, 8), rfl, rfl, q231⟩
abbrev YJ1_init : YC := (yJ1_init, cJ1_init, 1, none, [])
theorem kJ1_init : aMk YJ1_init 0 := ⟨rfl, q221, q120, ⟨by decide +kernel, by decide +kernel, by decide +kernel⟩, Nat.le_of_ble_eq_true rfl⟩
def x_J1_init (g : AG) (N : Nat) (h : AH) (x0 : Nat) : Option AH :=
  (x_J0_init g N h x0).bind fun q1 => (wrV g q1 x0 [(10, 7)] (.float (1061158912 : UInt32))).bind fun h3 => some h3
theorem ct_J1_init (g : AG) (hst : (gL g).stackTraces = false) (N : Nat) : ∀ (h : AH) (x0 : Nat) (q : AH), x_J1_init g N h x0 = some q → CT g YJ1_init 4 [.ref x0] h (xV q) := by
  intro h x0 q hq
  refine CT.of rfl (by decide +kernel) (loc := [some (.ref x0)]) (by first | exact Nat.le_of_ble_eq_true rfl | (simp only [lgl_rf, lgl_i, lgl_j, lgl_ref, lgl_nil]; exact Nat.le_of_ble_eq_true rfl)) (by first | rfl | (simp only [aent_rf, aent_i, aent_j, aent_ref, aent_nil]; rfl)) ?_
  unfold x_J1_init at hq
  refine aw_aload_n (i := 0) dJ1_init_0 rfl rfl trivial ?_
  replace hq := obind hq
  obtain ⟨q1, e2, hq⟩ := hq
  refine aw_callI (Y2 := YJ0_init) (As := []) (rest := []) (b := x0) kJ0_init rfl rfl q222 q223 dJ1_init_1 rfl rfl (ct_J0_init g hst N h x0 _ e2) (Nat.le_of_ble_eq_true rfl) (Nat.le_of_ble_eq_true rfl) (fun v9 h9 z9 y9 => ?_)
  obtain ⟨rfl, y9⟩ := y9
  rw [y9]
  refine aw_st (st' := []) rfl ?_
  refine aw_aload_n (i := 0) dJ1_init_4 rfl rfl trivial ?_
  refine aw_ldcf (v := (1061158912)) dJ1_init_5 q226 ?_
  replace hq := obind hq
  obtain ⟨h3, e4, hq⟩ := hq
  refine xw_putF e4 fJ1_81 tJ1_7f rfl gJ1_81 ⟨rfl, rfl⟩ dJ1_init_7 ?_
  cases hq
  exact aw_vret dJ1_init_10 rfl ⟨rfl, rfl⟩
