/-! THE COMPONENT AND THE JDK as functions of the heap, and their contracts: printed by wip gen/dec2.py -/
set_option maxRecDepth 100000
theorem fX2_120 : ∀ q ∈ ([(1, 8)] : List (Nat × Nat)), aFl RX2 120 q.1 q.2 := by
  intro q hq
  simp only [List.mem_cons, List.not_mem_nil, or_false] at hq
  subst hq
  exact aFl.of (RX2, TX2, 9) rfl (Nat.le_of_ble_eq_true rfl) q190
theorem dfX6 : ∀ j, j < 4 → defaultValue (tyX6 j) = vp_V [.null, .int 0, .null, .null] j := by decide +kernel
theorem fX2_130 : ∀ q ∈ ([(5, 3)] : List (Nat × Nat)), aFl RX2 130 q.1 q.2 := by
  intro q hq
  simp only [List.mem_cons, List.not_mem_nil, or_false] at hq
  subst hq
  exact aFl.ofN (RX6, TX6, 4) rfl (Nat.le_of_ble_eq_true rfl) q901
theorem fX2_17 : ∀ q ∈ ([(1, 7)] : List (Nat × Nat)), aFl RX2 17 q.1 q.2 := by
  intro q hq
  simp only [List.mem_cons, List.not_mem_nil, or_false] at hq
  subst hq
  exact aFl.of (RX2, TX2, 9) rfl (Nat.le_of_ble_eq_true rfl) q189
abbrev YX2_named : YC := (yX2_named, cX2_named, 6, (some (.object "ProbeConsole$Node")), [])
abbrev YX2_single : YC := (yX2_single, cX2_single, 3, (some (.object "ProbeConsole$Node")), [])
abbrev YX2_signed : YC := (yX2_signed, cX2_signed, 3, (some (.object "ProbeConsole$Node")), [])
abbrev YX2_product : YC := (yX2_product, cX2_product, 3, (some (.object "ProbeConsole$Node")), [])
abbrev YX2_sum : YC := (yX2_sum, cX2_sum, 3, (some (.object "ProbeConsole$Node")), [])
abbrev YX2_compared : YC := (yX2_compared, cX2_compared, 3, (some (.object "ProbeConsole$Node")), [])
abbrev YX2_chosen : YC := (yX2_chosen, cX2_chosen, 3, (some (.object "ProbeConsole$Node")), [])
abbrev YX2_expression : YC := (yX2_expression, cX2_expression, 2, (some (.object "ProbeConsole$Node")), [])
abbrev R_X2 : Type := (AH → Nat → Int32 → Option ((String ⊕ Option Nat) × AH)) × (AH → Nat → Option ((String ⊕ Option Nat) × AH)) × (AH → Nat → Option ((String ⊕ Option Nat) × AH)) × (AH → Nat → Option ((String ⊕ Option Nat) × AH)) × (AH → Nat → Option ((String ⊕ Option Nat) × AH)) × (AH → Nat → Option ((String ⊕ Option Nat) × AH)) × (AH → Nat → Option ((String ⊕ Option Nat) × AH)) × (AH → Nat → Option ((String ⊕ Option Nat) × AH))
def Ok_X2 (g : AG) (n : Nat) (ρ : R_X2) : Prop := (∀ (h : AH) (x0 : Nat) (x1 : Int32) (q : ((String ⊕ Option Nat) × AH)), ρ.1 h x0 x1 = some q → CT g YX2_named (13 + n) [.ref x0, .int x1] h (tR q)) ∧ (∀ (h : AH) (x0 : Nat) (q : ((String ⊕ Option Nat) × AH)), ρ.2.1 h x0 = some q → CT g YX2_single (13 + n) [.ref x0] h (tR q)) ∧ (∀ (h : AH) (x0 : Nat) (q : ((String ⊕ Option Nat) × AH)), ρ.2.2.1 h x0 = some q → CT g YX2_signed (13 + n) [.ref x0] h (tR q)) ∧ (∀ (h : AH) (x0 : Nat) (q : ((String ⊕ Option Nat) × AH)), ρ.2.2.2.1 h x0 = some q → CT g YX2_product (13 + n) [.ref x0] h (tR q)) ∧ (∀ (h : AH) (x0 : Nat) (q : ((String ⊕ Option Nat) × AH)), ρ.2.2.2.2.1 h x0 = some q → CT g YX2_sum (13 + n) [.ref x0] h (tR q)) ∧ (∀ (h : AH) (x0 : Nat) (q : ((String ⊕ Option Nat) × AH)), ρ.2.2.2.2.2.1 h x0 = some q → CT g YX2_compared (13 + n) [.ref x0] h (tR q)) ∧ (∀ (h : AH) (x0 : Nat) (q : ((String ⊕ Option Nat) × AH)), ρ.2.2.2.2.2.2.1 h x0 = some q → CT g YX2_chosen (13 + n) [.ref x0] h (tR q)) ∧ (∀ (h : AH) (x0 : Nat) (q : ((String ⊕ Option Nat) × AH)), ρ.2.2.2.2.2.2.2 h x0 = some q → CT g YX2_expression (13 + n) [.ref x0] h (tR q))
theorem kX2_named : aMk YX2_named 1 := ⟨rfl, q914, q117, ⟨by decide +kernel, by decide +kernel, by decide +kernel⟩, Nat.le_of_ble_eq_true rfl⟩
def x_X2_named_202 (g : AG) (N : Nat) (ρ : R_X2) (h : AH) (x0 : Nat) (x1 : Int32) (r2 : Option Nat) (r3 : Option Nat) : Option ((String ⊕ Option Nat) × AH) :=
  bif clB h x0 [1] then ((x_X2_closes g N h x0).bind fun q40 => tcase q40.1 (fun E42 => some (.inl E42, q40.2)) (fun v43 => some (.inr r3, q40.2))) else none
theorem p_x_X2_named_202 (g : AG) (hst : (gL g).stackTraces = false) (N : Nat) (ρ : R_X2) (n : Nat) (hρ : Ok_X2 g n ρ) : ∀ (h : AH) (x0 : Nat) (x1 : Int32) (r2 : Option Nat) (r3 : Option Nat) (q : ((String ⊕ Option Nat) × AH)), x_X2_named_202 g N ρ h x0 x1 r2 r3 = some q → AW g YX2_named (13 + n + 1) (tR q) h [some (.ref x0), some (.int x1), some (va_rf r2), some (va_rf r3), none, none] 202 [] := by
  intro h x0 x1 r2 r3 q hq
  unfold x_X2_named_202 at hq
  refine aw_aload_n (i := 0) dX2_named_202 rfl rfl trivial ?_
  replace hq := cond_t hq
  obtain ⟨z39, hq⟩ := hq
  obtain ⟨fs9, ha9⟩ := clB1 z39
  replace hq := obind hq
  obtain ⟨q40, e41, hq⟩ := hq
  refine aw_callVX (Y2 := YX2_closes) (As := []) (rest := []) (r := (RX2, TX2, 9)) kX2_closes ha9 rfl rfl q846 q848 qs14 dX2_named_203 rfl rfl (ct_X2_closes g hst N h x0 _ e41) (by omega) (Nat.le_of_ble_eq_true rfl) (fun v9 h9 z9 y9 => ?_) (fun E42 h9 z9 y9 => ?_)
  rotate_left
  · obtain ⟨e9, rfl⟩ := tV_exc y9
    replace hq := tcase_l e9 hq
    cases hq
    exact ax_out (by decide) ⟨rfl, rfl⟩
  obtain ⟨v43, e9, rfl, rfl⟩ := tV_ret y9
  replace hq := tcase_r e9 hq
  refine aw_st (st' := []) rfl ?_
  refine aw_aload_n (i := 3) dX2_named_206 rfl rfl (aIsR_rf _) ?_
  cases hq
  exact aw_areturn dX2_named_207 rfl (Or.inl ⟨_, rfl⟩) (aIsR_rf _) ⟨rfl, rfl⟩
def x_X2_named_176 (g : AG) (N : Nat) (ρ : R_X2) (K149 : AH → Nat → Int32 → Option Nat → Option Nat → Option ((String ⊕ Option Nat) × AH)) (K202 : AH → Nat → Int32 → Option Nat → Option Nat → Option ((String ⊕ Option Nat) × AH)) (h : AH) (x0 : Nat) (x1 : Int32) (r2 : Option Nat) (r3 : Option Nat) (s1 : Int32) : Option ((String ⊕ Option Nat) × AH) :=
  (rdI h x0 [(1, 2)]).bind fun i48 => bif clB h x0 [1] then ((x_X2_want g N h x0 s1 (3 : Int32) i48).bind fun q51 => tcase q51.1 (fun E53 => some (.inl E53, q51.2)) (fun v54 => bif clB q51.2 x0 [1] then ((ρ.2.2.2.2.2.2.2 q51.2 x0).bind fun q56 => tcase q56.1 (fun E58 => some (.inl E58, q56.2)) (fun v59 => (r3).bind fun a60 => bif clB q56.2 a60 [5] then ((x_X6_with g N q56.2 a60 v59).bind fun q63 => bif clB q63.2 x0 [1] then ((x_X2_goesOver g N q63.2 x0 (44 : Int32)).bind fun q66 => if q66.1 = 0 then (K202 q66.2 x0 x1 r2 (some a60)) else (K149 q66.2 x0 x1 r2 (some a60))) else none) else none)) else none)) else none
theorem p_x_X2_named_176 (g : AG) (hst : (gL g).stackTraces = false) (N : Nat) (ρ : R_X2) (n : Nat) (hρ : Ok_X2 g n ρ) (K149 : AH → Nat → Int32 → Option Nat → Option Nat → Option ((String ⊕ Option Nat) × AH)) (K202 : AH → Nat → Int32 → Option Nat → Option Nat → Option ((String ⊕ Option Nat) × AH)) (hK149 : ∀ (h : AH) (x0 : Nat) (x1 : Int32) (r2 : Option Nat) (r3 : Option Nat) (q : ((String ⊕ Option Nat) × AH)), K149 h x0 x1 r2 r3 = some q → AW g YX2_named (13 + n + 1) (tR q) h [some (.ref x0), some (.int x1), some (va_rf r2), some (va_rf r3), none, none] 149 []) (hK202 : ∀ (h : AH) (x0 : Nat) (x1 : Int32) (r2 : Option Nat) (r3 : Option Nat) (q : ((String ⊕ Option Nat) × AH)), K202 h x0 x1 r2 r3 = some q → AW g YX2_named (13 + n + 1) (tR q) h [some (.ref x0), some (.int x1), some (va_rf r2), some (va_rf r3), none, none] 202 []) : ∀ (h : AH) (x0 : Nat) (x1 : Int32) (r2 : Option Nat) (r3 : Option Nat) (s1 : Int32) (q : ((String ⊕ Option Nat) × AH)), x_X2_named_176 g N ρ K149 K202 h x0 x1 r2 r3 s1 = some q → AW g YX2_named (13 + n + 1) (tR q) h [some (.ref x0), some (.int x1), some (va_rf r2), some (va_rf r3), none, none] 176 [.int s1, .ref x0] := by
  intro h x0 x1 r2 r3 s1 q hq
  unfold x_X2_named_176 at hq
  refine aw_iconst (v := 3) dX2_named_176 (by decide) ?_
  refine aw_aload_n (i := 0) dX2_named_177 rfl rfl trivial ?_
  replace hq := obind hq
  obtain ⟨i48, e49, hq⟩ := hq
  refine xw_getI e49 fX2_38 dX2_named_178 ?_
  replace hq := cond_t hq
  obtain ⟨z50, hq⟩ := hq
  obtain ⟨fs9, ha9⟩ := clB1 z50
  replace hq := obind hq
  obtain ⟨q51, e52, hq⟩ := hq
  refine aw_callVX (Y2 := YX2_want) (As := [.int s1, .int (3 : Int32), .int i48]) (rest := []) (r := (RX2, TX2, 9)) kX2_want ha9 rfl rfl q407 q408 q409 dX2_named_181 rfl rfl (ct_X2_want g hst N h x0 s1 (3 : Int32) i48 _ e52) (by omega) (Nat.le_of_ble_eq_true rfl) (fun v9 h9 z9 y9 => ?_) (fun E53 h9 z9 y9 => ?_)
  rotate_left
  · obtain ⟨e9, rfl⟩ := tV_exc y9
    replace hq := tcase_l e9 hq
    cases hq
    exact ax_out (by decide) ⟨rfl, rfl⟩
  obtain ⟨v54, e9, rfl, rfl⟩ := tV_ret y9
  replace hq := tcase_r e9 hq
  refine aw_st (st' := []) rfl ?_
  refine aw_aload_n (i := 3) dX2_named_184 rfl rfl (aIsR_rf _) ?_
  refine aw_aload_n (i := 0) dX2_named_185 rfl rfl trivial ?_
  replace hq := cond_t hq
  obtain ⟨z55, hq⟩ := hq
  obtain ⟨fs9, ha9⟩ := clB1 z55
  replace hq := obind hq
  obtain ⟨q56, e57, hq⟩ := hq
  refine aw_callVX (Y2 := YX2_expression) (As := []) (rest := [va_rf r3]) (r := (RX2, TX2, 9)) kX2_expression ha9 rfl rfl q814 q816 qs6 dX2_named_186 rfl rfl (hρ.2.2.2.2.2.2.2 q51.2 x0 _ e57) (Nat.le_refl _) (by simp only [List.map_cons, List.map_nil, List.sum_cons, List.sum_nil, cat_rf]; exact Nat.le_of_ble_eq_true rfl) (fun v9 h9 z9 y9 => ?_) (fun E58 h9 z9 y9 => ?_)
  rotate_left
  · obtain ⟨e9, rfl⟩ := tR_exc y9
    replace hq := tcase_l e9 hq
    cases hq
    exact ax_out (by decide) ⟨rfl, rfl⟩
  obtain ⟨v59, e9, rfl, rfl⟩ := tR_ret y9
  replace hq := tcase_r e9 hq
  refine aw_st (st' := [va_rf v59, va_rf r3]) rfl ?_
  replace hq := obind hq
  obtain ⟨a60, e61, hq⟩ := hq
  subst e61
  replace hq := cond_t hq
  obtain ⟨z62, hq⟩ := hq
  obtain ⟨fs9, ha9⟩ := clB1 z62
  replace hq := obind hq
  obtain ⟨q63, e64, hq⟩ := hq
  refine aw_callV (Y2 := YX6_with) (As := [va_rf v59]) (rest := []) (r := (RX6, TX6, 4)) kX6_with ha9 rfl rfl q966 q967 q968 dX2_named_189 rfl rfl (ct_X6_with g hst N q56.2 a60 v59 _ e64) (by omega) (Nat.le_of_ble_eq_true rfl) (fun v9 h9 z9 y9 => ?_)
  obtain ⟨rfl, rfl⟩ := y9
  refine aw_st (st' := [va_rf q63.1]) rfl ?_
  refine aw_pop dX2_named_192 (cat_rf _) ?_
  refine aw_aload_n (i := 0) dX2_named_193 rfl rfl trivial ?_
  refine aw_bipush (v := 44) dX2_named_194 (by decide) ?_
  replace hq := cond_t hq
  obtain ⟨z65, hq⟩ := hq
  obtain ⟨fs9, ha9⟩ := clB1 z65
  replace hq := obind hq
  obtain ⟨q66, e67, hq⟩ := hq
  refine aw_callV (Y2 := YX2_goesOver) (As := [.int (44 : Int32)]) (rest := []) (r := (RX2, TX2, 9)) kX2_goesOver ha9 rfl rfl q1031 q1033 qs22 dX2_named_196 rfl rfl (ct_X2_goesOver g hst N q63.2 x0 (44 : Int32) _ e67) (by omega) (Nat.le_of_ble_eq_true rfl) (fun v9 h9 z9 y9 => ?_)
  obtain ⟨rfl, rfl⟩ := y9
  refine aw_st (st' := [.int q66.1]) rfl ?_
  refine aw_if_ne (tgt := 149) dX2_named_199 (by decide) (fun c68 => ?_) (fun c68 => ?_)
  · rw [if_neg c68] at hq
    exact hK149 q66.2 x0 x1 r2 (some a60) _ hq
  · rw [if_pos c68] at hq
    exact hK202 q66.2 x0 x1 r2 (some a60) _ hq
def x_X2_named_171 (g : AG) (N : Nat) (ρ : R_X2) (K149 : AH → Nat → Int32 → Option Nat → Option Nat → Option ((String ⊕ Option Nat) × AH)) (K202 : AH → Nat → Int32 → Option Nat → Option Nat → Option ((String ⊕ Option Nat) × AH)) (h : AH) (x0 : Nat) (x1 : Int32) (r2 : Option Nat) (r3 : Option Nat) : Option ((String ⊕ Option Nat) × AH) :=
  x_X2_named_176 g N ρ K149 K202 h x0 x1 r2 r3 (1 : Int32)
theorem p_x_X2_named_171 (g : AG) (hst : (gL g).stackTraces = false) (N : Nat) (ρ : R_X2) (n : Nat) (hρ : Ok_X2 g n ρ) (K149 : AH → Nat → Int32 → Option Nat → Option Nat → Option ((String ⊕ Option Nat) × AH)) (K202 : AH → Nat → Int32 → Option Nat → Option Nat → Option ((String ⊕ Option Nat) × AH)) (hK149 : ∀ (h : AH) (x0 : Nat) (x1 : Int32) (r2 : Option Nat) (r3 : Option Nat) (q : ((String ⊕ Option Nat) × AH)), K149 h x0 x1 r2 r3 = some q → AW g YX2_named (13 + n + 1) (tR q) h [some (.ref x0), some (.int x1), some (va_rf r2), some (va_rf r3), none, none] 149 []) (hK202 : ∀ (h : AH) (x0 : Nat) (x1 : Int32) (r2 : Option Nat) (r3 : Option Nat) (q : ((String ⊕ Option Nat) × AH)), K202 h x0 x1 r2 r3 = some q → AW g YX2_named (13 + n + 1) (tR q) h [some (.ref x0), some (.int x1), some (va_rf r2), some (va_rf r3), none, none] 202 []) : ∀ (h : AH) (x0 : Nat) (x1 : Int32) (r2 : Option Nat) (r3 : Option Nat) (q : ((String ⊕ Option Nat) × AH)), x_X2_named_171 g N ρ K149 K202 h x0 x1 r2 r3 = some q → AW g YX2_named (13 + n + 1) (tR q) h [some (.ref x0), some (.int x1), some (va_rf r2), some (va_rf r3), none, none] 171 [.ref x0] := by
  intro h x0 x1 r2 r3 q hq
  unfold x_X2_named_171 at hq
  refine aw_iconst (v := 1) dX2_named_171 (by decide) ?_
  refine aw_goto (tgt := 176) dX2_named_172 (by decide) ?_
  exact p_x_X2_named_176 g hst N ρ n hρ _ _ hK149 hK202 h x0 x1 r2 r3 (1 : Int32) _ hq
def x_X2_named_149 (g : AG) (N : Nat) (ρ : R_X2) (K202 : AH → Nat → Int32 → Option Nat → Option Nat → Option ((String ⊕ Option Nat) × AH)) : Nat → AH → Nat → Int32 → Option Nat → Option Nat → Option ((String ⊕ Option Nat) × AH)
  | 0, _, _, _, _, _ => none
  | n9 + 1, h, x0, x1, r2, r3 =>
  bif clB h x0 [1] then ((x_X2_peek g N h x0).bind fun q45 => if q45.1 = (-1 : Int32) then (x_X2_named_171 g N ρ (fun h x0 x1 r2 r3 => x_X2_named_149 g N ρ K202 n9 h x0 x1 r2 r3) K202 q45.2 x0 x1 r2 r3) else ((r3).bind fun a69 => (rdR q45.2 a69 [(5, 3)]).bind fun o71 => (o71).bind fun a73 => bif clB q45.2 a73 [13] then ((x_J4_size g N q45.2 a73).bind fun q76 => if (3 : Int32) ≤ q76.1 then (x_X2_named_176 g N ρ (fun h x0 x1 r2 r3 => x_X2_named_149 g N ρ K202 n9 h x0 x1 r2 r3) K202 q76.2 x0 x1 r2 (some a69) (0 : Int32)) else (x_X2_named_171 g N ρ (fun h x0 x1 r2 r3 => x_X2_named_149 g N ρ K202 n9 h x0 x1 r2 r3) K202 q76.2 x0 x1 r2 (some a69))) else none)) else none
theorem p_x_X2_named_149 (g : AG) (hst : (gL g).stackTraces = false) (N : Nat) (ρ : R_X2) (n : Nat) (hρ : Ok_X2 g n ρ) (K202 : AH → Nat → Int32 → Option Nat → Option Nat → Option ((String ⊕ Option Nat) × AH)) (hK202 : ∀ (h : AH) (x0 : Nat) (x1 : Int32) (r2 : Option Nat) (r3 : Option Nat) (q : ((String ⊕ Option Nat) × AH)), K202 h x0 x1 r2 r3 = some q → AW g YX2_named (13 + n + 1) (tR q) h [some (.ref x0), some (.int x1), some (va_rf r2), some (va_rf r3), none, none] 202 []) : ∀ (n9 : Nat) (h : AH) (x0 : Nat) (x1 : Int32) (r2 : Option Nat) (r3 : Option Nat) (q : ((String ⊕ Option Nat) × AH)), x_X2_named_149 g N ρ K202 n9 h x0 x1 r2 r3 = some q → AW g YX2_named (13 + n + 1) (tR q) h [some (.ref x0), some (.int x1), some (va_rf r2), some (va_rf r3), none, none] 149 [] := by
  intro n9
  induction n9 with
  | zero =>
    intro h x0 x1 r2 r3 q hq
    cases hq
  | succ n9 ih =>
    intro h x0 x1 r2 r3 q hq
    rw [x_X2_named_149] at hq
    refine aw_aload_n (i := 0) dX2_named_149 rfl rfl trivial ?_
    refine aw_aload_n (i := 0) dX2_named_150 rfl rfl trivial ?_
    replace hq := cond_t hq
    obtain ⟨z44, hq⟩ := hq
    obtain ⟨fs9, ha9⟩ := clB1 z44
    replace hq := obind hq
    obtain ⟨q45, e46, hq⟩ := hq
    refine aw_callV (Y2 := YX2_peek) (As := []) (rest := [.ref x0]) (r := (RX2, TX2, 9)) kX2_peek ha9 rfl rfl q400 q401 q402 dX2_named_151 rfl rfl (ct_X2_peek g hst N h x0 _ e46) (by omega) (Nat.le_of_ble_eq_true rfl) (fun v9 h9 z9 y9 => ?_)
    obtain ⟨rfl, rfl⟩ := y9
    refine aw_st (st' := [.int q45.1, .ref x0]) rfl ?_
    refine aw_iconst (v := (-1)) dX2_named_154 (by decide) ?_
    refine aw_icmp_eq (tgt := 171) dX2_named_155 (by decide) (fun c47 => ?_) (fun c47 => ?_)
    · rw [if_pos c47] at hq
      exact p_x_X2_named_171 g hst N ρ n hρ _ _ ih hK202 q45.2 x0 x1 r2 r3 _ hq
    · rw [if_neg c47] at hq
      refine aw_aload_n (i := 3) dX2_named_158 rfl rfl (aIsR_rf _) ?_
      replace hq := obind hq
      obtain ⟨a69, e70, hq⟩ := hq
      subst e70
      replace hq := obind hq
      obtain ⟨o71, e72, hq⟩ := hq
      refine xw_getR e72 fX2_130 dX2_named_159 ?_
      replace hq := obind hq
      obtain ⟨a73, e74, hq⟩ := hq
      subst e74
      replace hq := cond_t hq
      obtain ⟨z75, hq⟩ := hq
      obtain ⟨fs9, ha9⟩ := clB1 z75
      replace hq := obind hq
      obtain ⟨q76, e77, hq⟩ := hq
      refine aw_callF (Y2 := YJ4_size) (As := []) (rest := [.ref x0]) (r := (RJ4, TJ4, 3)) (x := ⟨"java/util/List", "size", "()I"⟩) kJ4_size ha9 rfl (by decide) (by decide) ⟨by decide +kernel, by decide +kernel, by decide +kernel⟩ q965 q384 q382 dX2_named_162 rfl rfl (ct_J4_size g hst N q45.2 a73 _ e77) (by omega) (Nat.le_of_ble_eq_true rfl) (fun v9 h9 z9 y9 => ?_)
      obtain ⟨rfl, rfl⟩ := y9
      refine aw_st (st' := [.int q76.1, .ref x0]) rfl ?_
      refine aw_iconst (v := 3) dX2_named_167 (by decide) ?_
      refine aw_icmp_ge (tgt := 175) dX2_named_168 (by decide) (fun c78 => ?_) (fun c78 => ?_)
      · rw [if_pos c78] at hq
        refine aw_iconst (v := 0) dX2_named_175 (by decide) ?_
        exact p_x_X2_named_176 g hst N ρ n hρ _ _ ih hK202 q76.2 x0 x1 r2 (some a69) (0 : Int32) _ hq
      · rw [if_neg c78] at hq
        exact p_x_X2_named_171 g hst N ρ n hρ _ _ ih hK202 q76.2 x0 x1 r2 (some a69) _ hq
def x_X2_named_107 (g : AG) (N : Nat) (ρ : R_X2) (h : AH) (x0 : Nat) (x1 : Int32) (r2 : Option Nat) : Option ((String ⊕ Option Nat) × AH) :=
  bif clB h x0 [1] then ((x_X2_isName g N h x0 r2 x1).bind fun q13 => tcase q13.1 (fun E15 => some (.inl E15, q13.2)) (fun v16 => (rdI q13.2 x0 [(1, 8)]).bind fun i17 => bif clB q13.2 x0 [1] then ((x_X2_want g N q13.2 x0 i17 (4 : Int32) x1).bind fun q20 => tcase q20.1 (fun E22 => some (.inl E22, q20.2)) (fun v23 => (mkO g q20.2 4 5 [.null, .int 0, .null, .null]).bind fun h24 => (vR (gV g 2)).bind fun o26 => (x_X6_init g N h24 q20.2.2.1 o26 (0 : Int32) r2).bind fun q28 => bif clB q28 x0 [1] then ((x_X2_opens g N q28 x0).bind fun q31 => tcase q31.1 (fun E33 => some (.inl E33, q31.2)) (fun v34 => bif clB q31.2 x0 [1] then ((x_X2_peek g N q31.2 x0).bind fun q36 => if q36.1 = (41 : Int32) then (x_X2_named_202 g N ρ  q36.2 x0 x1 r2 (some q20.2.2.1)) else (x_X2_named_149 g N ρ (fun h x0 x1 r2 r3 => x_X2_named_202 g N ρ  h x0 x1 r2 r3) N q36.2 x0 x1 r2 (some q20.2.2.1))) else none)) else none)) else none)) else none
theorem p_x_X2_named_107 (g : AG) (hst : (gL g).stackTraces = false) (N : Nat) (ρ : R_X2) (n : Nat) (hρ : Ok_X2 g n ρ) : ∀ (h : AH) (x0 : Nat) (x1 : Int32) (r2 : Option Nat) (q : ((String ⊕ Option Nat) × AH)), x_X2_named_107 g N ρ h x0 x1 r2 = some q → AW g YX2_named (13 + n + 1) (tR q) h [some (.ref x0), some (.int x1), some (va_rf r2), none, none, none] 107 [] := by
  intro h x0 x1 r2 q hq
  unfold x_X2_named_107 at hq
  refine aw_aload_n (i := 0) dX2_named_107 rfl rfl trivial ?_
  refine aw_aload_n (i := 2) dX2_named_108 rfl rfl (aIsR_rf _) ?_
  refine aw_iload_n (i := 1) dX2_named_109 rfl rfl ?_
  replace hq := cond_t hq
  obtain ⟨z12, hq⟩ := hq
  obtain ⟨fs9, ha9⟩ := clB1 z12
  replace hq := obind hq
  obtain ⟨q13, e14, hq⟩ := hq
  refine aw_callVX (Y2 := YX2_isName) (As := [va_rf r2, .int x1]) (rest := []) (r := (RX2, TX2, 9)) kX2_isName ha9 rfl rfl q761 q763 qs3 dX2_named_110 rfl rfl (ct_X2_isName g hst N h x0 r2 x1 _ e14) (by omega) (Nat.le_of_ble_eq_true rfl) (fun v9 h9 z9 y9 => ?_) (fun E15 h9 z9 y9 => ?_)
  rotate_left
  · obtain ⟨e9, rfl⟩ := tV_exc y9
    replace hq := tcase_l e9 hq
    cases hq
    exact ax_out (by decide) ⟨rfl, rfl⟩
  obtain ⟨v16, e9, rfl, rfl⟩ := tV_ret y9
  replace hq := tcase_r e9 hq
  refine aw_st (st' := []) rfl ?_
  refine aw_aload_n (i := 0) dX2_named_113 rfl rfl trivial ?_
  refine aw_aload_n (i := 0) dX2_named_114 rfl rfl trivial ?_
  replace hq := obind hq
  obtain ⟨i17, e18, hq⟩ := hq
  refine xw_getI e18 fX2_120 dX2_named_115 ?_
  refine aw_iconst (v := 4) dX2_named_118 (by decide) ?_
  refine aw_iload_n (i := 1) dX2_named_119 rfl rfl ?_
  replace hq := cond_t hq
  obtain ⟨z19, hq⟩ := hq
  obtain ⟨fs9, ha9⟩ := clB1 z19
  replace hq := obind hq
  obtain ⟨q20, e21, hq⟩ := hq
  refine aw_callVX (Y2 := YX2_want) (As := [.int i17, .int (4 : Int32), .int x1]) (rest := []) (r := (RX2, TX2, 9)) kX2_want ha9 rfl rfl q407 q408 q409 dX2_named_120 rfl rfl (ct_X2_want g hst N q13.2 x0 i17 (4 : Int32) x1 _ e21) (by omega) (Nat.le_of_ble_eq_true rfl) (fun v9 h9 z9 y9 => ?_) (fun E22 h9 z9 y9 => ?_)
  rotate_left
  · obtain ⟨e9, rfl⟩ := tV_exc y9
    replace hq := tcase_l e9 hq
    cases hq
    exact ax_out (by decide) ⟨rfl, rfl⟩
  obtain ⟨v23, e9, rfl, rfl⟩ := tV_ret y9
  replace hq := tcase_r e9 hq
  refine aw_st (st' := []) rfl ?_
  replace hq := obind hq
  obtain ⟨h24, e25, hq⟩ := hq
  refine xw_new (r := (RX6, TX6, 4)) e25 q858 q859 q144 (by decide) rfl okX6 rfl dfX6 dX2_named_123 ?_
  refine aw_dup dX2_named_126 rfl ?_
  replace hq := obind hq
  obtain ⟨o26, e27, hq⟩ := hq
  refine xw_gets (i := 2) (vR_eq e27) rfl q962 dX2_named_127 rfl ?_
  refine aw_iconst (v := 0) dX2_named_130 (by decide) ?_
  refine aw_aload_n (i := 2) dX2_named_131 rfl rfl (aIsR_rf _) ?_
  replace hq := obind hq
  obtain ⟨q28, e29, hq⟩ := hq
  refine aw_callI (Y2 := YX6_init) (As := [va_rf o26, .int (0 : Int32), va_rf r2]) (rest := [.ref q20.2.2.1]) (b := q20.2.2.1) kX6_init rfl rfl q873 q874 dX2_named_132 rfl rfl (ct_X6_init g hst N h24 q20.2.2.1 o26 (0 : Int32) r2 _ e29) (by omega) (Nat.le_of_ble_eq_true rfl) (fun v9 h9 z9 y9 => ?_)
  obtain ⟨rfl, y9⟩ := y9
  rw [y9]
  refine aw_st (st' := [.ref q20.2.2.1]) rfl ?_
  refine aw_astore_n (i := 3) (loc' := [some (.ref x0), some (.int x1), some (va_rf r2), some (.ref q20.2.2.1), none, none]) dX2_named_135 rfl (Nat.le_of_ble_eq_true rfl) trivial (aset1_rf rfl) ?_
  refine aw_aload_n (i := 0) dX2_named_136 rfl rfl trivial ?_
  replace hq := cond_t hq
  obtain ⟨z30, hq⟩ := hq
  obtain ⟨fs9, ha9⟩ := clB1 z30
  replace hq := obind hq
  obtain ⟨q31, e32, hq⟩ := hq
  refine aw_callVX (Y2 := YX2_opens) (As := []) (rest := []) (r := (RX2, TX2, 9)) kX2_opens ha9 rfl rfl q842 q844 qs13 dX2_named_137 rfl rfl (ct_X2_opens g hst N q28 x0 _ e32) (by omega) (Nat.le_of_ble_eq_true rfl) (fun v9 h9 z9 y9 => ?_) (fun E33 h9 z9 y9 => ?_)
  rotate_left
  · obtain ⟨e9, rfl⟩ := tV_exc y9
    replace hq := tcase_l e9 hq
    cases hq
    exact ax_out (by decide) ⟨rfl, rfl⟩
  obtain ⟨v34, e9, rfl, rfl⟩ := tV_ret y9
  replace hq := tcase_r e9 hq
  refine aw_st (st' := []) rfl ?_
  refine aw_aload_n (i := 0) dX2_named_140 rfl rfl trivial ?_
  replace hq := cond_t hq
  obtain ⟨z35, hq⟩ := hq
  obtain ⟨fs9, ha9⟩ := clB1 z35
  replace hq := obind hq
  obtain ⟨q36, e37, hq⟩ := hq
  refine aw_callV (Y2 := YX2_peek) (As := []) (rest := []) (r := (RX2, TX2, 9)) kX2_peek ha9 rfl rfl q400 q401 q402 dX2_named_141 rfl rfl (ct_X2_peek g hst N q31.2 x0 _ e37) (by omega) (Nat.le_of_ble_eq_true rfl) (fun v9 h9 z9 y9 => ?_)
  obtain ⟨rfl, rfl⟩ := y9
  refine aw_st (st' := [.int q36.1]) rfl ?_
  refine aw_bipush (v := 41) dX2_named_144 (by decide) ?_
  refine aw_icmp_eq (tgt := 202) dX2_named_146 (by decide) (fun c38 => ?_) (fun c38 => ?_)
  · rw [if_pos c38] at hq
    exact p_x_X2_named_202 g hst N ρ n hρ   q36.2 x0 x1 r2 (some q20.2.2.1) _ hq
  · rw [if_neg c38] at hq
    refine p_x_X2_named_149 g hst N ρ n hρ _ ?_ N q36.2 x0 x1 r2 (some q20.2.2.1) _ hq
    · intro h x0 x1 r2 r3 q hq
      exact p_x_X2_named_202 g hst N ρ n hρ   h x0 x1 r2 r3 _ hq
def x_X2_named_77 (g : AG) (N : Nat) (ρ : R_X2) (K41 : AH → Nat → Int32 → Option Nat → Int32 → Int32 → Int32 → Option ((String ⊕ Option Nat) × AH)) (K86 : AH → Nat → Int32 → Option Nat → Int32 → Int32 → Int32 → Option ((String ⊕ Option Nat) × AH)) (h : AH) (x0 : Nat) (x1 : Int32) (r2 : Option Nat) (x3 : Int32) (x4 : Int32) (x5 : Int32) (s0 : Int32) (s1 : Int32) : Option ((String ⊕ Option Nat) × AH) :=
  K41 h x0 x1 r2 x3 (s0 ||| s1) (x5 + 1)
theorem p_x_X2_named_77 (g : AG) (hst : (gL g).stackTraces = false) (N : Nat) (ρ : R_X2) (n : Nat) (hρ : Ok_X2 g n ρ) (K41 : AH → Nat → Int32 → Option Nat → Int32 → Int32 → Int32 → Option ((String ⊕ Option Nat) × AH)) (K86 : AH → Nat → Int32 → Option Nat → Int32 → Int32 → Int32 → Option ((String ⊕ Option Nat) × AH)) (hK41 : ∀ (h : AH) (x0 : Nat) (x1 : Int32) (r2 : Option Nat) (x3 : Int32) (x4 : Int32) (x5 : Int32) (q : ((String ⊕ Option Nat) × AH)), K41 h x0 x1 r2 x3 x4 x5 = some q → AW g YX2_named (13 + n + 1) (tR q) h [some (.ref x0), some (.int x1), some (va_rf r2), some (.int x3), some (.int x4), some (.int x5)] 41 []) (hK86 : ∀ (h : AH) (x0 : Nat) (x1 : Int32) (r2 : Option Nat) (x3 : Int32) (x4 : Int32) (x5 : Int32) (q : ((String ⊕ Option Nat) × AH)), K86 h x0 x1 r2 x3 x4 x5 = some q → AW g YX2_named (13 + n + 1) (tR q) h [some (.ref x0), some (.int x1), some (va_rf r2), some (.int x3), some (.int x4), some (.int x5)] 86 []) : ∀ (h : AH) (x0 : Nat) (x1 : Int32) (r2 : Option Nat) (x3 : Int32) (x4 : Int32) (x5 : Int32) (s0 : Int32) (s1 : Int32) (q : ((String ⊕ Option Nat) × AH)), x_X2_named_77 g N ρ K41 K86 h x0 x1 r2 x3 x4 x5 s0 s1 = some q → AW g YX2_named (13 + n + 1) (tR q) h [some (.ref x0), some (.int x1), some (va_rf r2), some (.int x3), some (.int x4), some (.int x5)] 77 [.int s1, .int s0] := by
  intro h x0 x1 r2 x3 x4 x5 s0 s1 q hq
  unfold x_X2_named_77 at hq
  refine aw_ior dX2_named_77 ?_
  refine aw_istore (loc' := [some (.ref x0), some (.int x1), some (va_rf r2), some (.int x3), some (.int (s0 ||| s1)), some (.int x5)]) dX2_named_78 (Nat.le_of_ble_eq_true rfl) rfl ?_
  refine aw_iinc (v := x5 + 1) (loc' := [some (.ref x0), some (.int x1), some (va_rf r2), some (.int x3), some (.int (s0 ||| s1)), some (.int (x5 + 1))]) dX2_named_80 rfl rfl (Nat.le_of_ble_eq_true rfl) rfl ?_
  refine aw_goto (tgt := 41) dX2_named_83 (by decide) ?_
  exact hK41 h x0 x1 r2 x3 (s0 ||| s1) (x5 + 1) _ hq
def x_X2_named_41 (g : AG) (N : Nat) (ρ : R_X2) (K86 : AH → Nat → Int32 → Option Nat → Int32 → Int32 → Int32 → Option ((String ⊕ Option Nat) × AH)) : Nat → AH → Nat → Int32 → Option Nat → Int32 → Int32 → Int32 → Option ((String ⊕ Option Nat) × AH)
  | 0, _, _, _, _, _, _, _ => none
  | n9 + 1, h, x0, x1, r2, x3, x4, x5 =>
  (rdR h x0 [(1, 7)]).bind fun o91 => (o91).bind fun a93 => bif clB h a93 [17] then ((x_J13_length g N h a93).bind fun q96 => if q96.1 ≤ x5 then (K86 q96.2 x0 x1 r2 x3 x4 x5) else ((rdR q96.2 x0 [(1, 7)]).bind fun o99 => (o99).bind fun a101 => bif clB q96.2 a101 [17] then ((x_J13_charAt g N q96.2 a101 x5).bind fun q104 => (r2).bind fun a106 => bif clB q104.2 a106 [17] then ((x_J13_charAt g N q104.2 a106 (0 : Int32)).bind fun q109 => if q104.1 = q109.1 then (x_X2_named_77 g N ρ (fun h x0 x1 r2 x3 x4 x5 => x_X2_named_41 g N ρ K86 n9 h x0 x1 r2 x3 x4 x5) K86 q109.2 x0 x1 (some a106) x3 x4 x5 x4 (1 : Int32)) else (x_X2_named_77 g N ρ (fun h x0 x1 r2 x3 x4 x5 => x_X2_named_41 g N ρ K86 n9 h x0 x1 r2 x3 x4 x5) K86 q109.2 x0 x1 (some a106) x3 x4 x5 x4 (0 : Int32))) else none) else none)) else none
theorem p_x_X2_named_41 (g : AG) (hst : (gL g).stackTraces = false) (N : Nat) (ρ : R_X2) (n : Nat) (hρ : Ok_X2 g n ρ) (K86 : AH → Nat → Int32 → Option Nat → Int32 → Int32 → Int32 → Option ((String ⊕ Option Nat) × AH)) (hK86 : ∀ (h : AH) (x0 : Nat) (x1 : Int32) (r2 : Option Nat) (x3 : Int32) (x4 : Int32) (x5 : Int32) (q : ((String ⊕ Option Nat) × AH)), K86 h x0 x1 r2 x3 x4 x5 = some q → AW g YX2_named (13 + n + 1) (tR q) h [some (.ref x0), some (.int x1), some (va_rf r2), some (.int x3), some (.int x4), some (.int x5)] 86 []) : ∀ (n9 : Nat) (h : AH) (x0 : Nat) (x1 : Int32) (r2 : Option Nat) (x3 : Int32) (x4 : Int32) (x5 : Int32) (q : ((String ⊕ Option Nat) × AH)), x_X2_named_41 g N ρ K86 n9 h x0 x1 r2 x3 x4 x5 = some q → AW g YX2_named (13 + n + 1) (tR q) h [some (.ref x0), some (.int x1), some (va_rf r2), some (.int x3), some (.int x4), some (.int x5)] 41 [] := by
  intro n9
  induction n9 with
  | zero =>
    intro h x0 x1 r2 x3 x4 x5 q hq
    cases hq
  | succ n9 ih =>
    intro h x0 x1 r2 x3 x4 x5 q hq
    rw [x_X2_named_41] at hq
    refine aw_iload dX2_named_41 rfl ?_
    refine aw_aload_n (i := 0) dX2_named_43 rfl rfl trivial ?_
    replace hq := obind hq
    obtain ⟨o91, e92, hq⟩ := hq
    refine xw_getR e92 fX2_17 dX2_named_44 ?_
    replace hq := obind hq
    obtain ⟨a93, e94, hq⟩ := hq
    subst e94
    replace hq := cond_t hq
    obtain ⟨z95, hq⟩ := hq
    obtain ⟨fs9, ha9⟩ := clB1 z95
    replace hq := obind hq
    obtain ⟨q96, e97, hq⟩ := hq
    refine aw_callV (Y2 := YJ13_length) (As := []) (rest := [.int x5]) (r := (RJ13, TJ13, 4)) kJ13_length ha9 rfl rfl q765 q705 q706 dX2_named_47 rfl rfl (ct_J13_length g hst N h a93 _ e97) (by omega) (Nat.le_of_ble_eq_true rfl) (fun v9 h9 z9 y9 => ?_)
    obtain ⟨rfl, rfl⟩ := y9
    refine aw_st (st' := [.int q96.1, .int x5]) rfl ?_
    refine aw_icmp_ge (tgt := 86) dX2_named_50 (by decide) (fun c98 => ?_) (fun c98 => ?_)
    · rw [if_pos c98] at hq
      exact hK86 q96.2 x0 x1 r2 x3 x4 x5 _ hq
    · rw [if_neg c98] at hq
      refine aw_iload dX2_named_53 rfl ?_
      refine aw_aload_n (i := 0) dX2_named_55 rfl rfl trivial ?_
      replace hq := obind hq
      obtain ⟨o99, e100, hq⟩ := hq
      refine xw_getR e100 fX2_17 dX2_named_56 ?_
      refine aw_iload dX2_named_59 rfl ?_
      replace hq := obind hq
      obtain ⟨a101, e102, hq⟩ := hq
      subst e102
      replace hq := cond_t hq
      obtain ⟨z103, hq⟩ := hq
      obtain ⟨fs9, ha9⟩ := clB1 z103
      replace hq := obind hq
      obtain ⟨q104, e105, hq⟩ := hq
      refine aw_callV (Y2 := YJ13_charAt) (As := [.int x5]) (rest := [.int x4]) (r := (RJ13, TJ13, 4)) kJ13_charAt ha9 rfl rfl q766 q767 q768 dX2_named_61 rfl rfl (ct_J13_charAt g hst N q96.2 a101 x5 _ e105) (by omega) (Nat.le_of_ble_eq_true rfl) (fun v9 h9 z9 y9 => ?_)
      obtain ⟨rfl, rfl⟩ := y9
      refine aw_st (st' := [.int q104.1, .int x4]) rfl ?_
      refine aw_aload_n (i := 2) dX2_named_64 rfl rfl (aIsR_rf _) ?_
      refine aw_iconst (v := 0) dX2_named_65 (by decide) ?_
      replace hq := obind hq
      obtain ⟨a106, e107, hq⟩ := hq
      subst e107
      replace hq := cond_t hq
      obtain ⟨z108, hq⟩ := hq
      obtain ⟨fs9, ha9⟩ := clB1 z108
      replace hq := obind hq
      obtain ⟨q109, e110, hq⟩ := hq
      refine aw_callV (Y2 := YJ13_charAt) (As := [.int (0 : Int32)]) (rest := [.int q104.1, .int x4]) (r := (RJ13, TJ13, 4)) kJ13_charAt ha9 rfl rfl q766 q767 q768 dX2_named_66 rfl rfl (ct_J13_charAt g hst N q104.2 a106 (0 : Int32) _ e110) (by omega) (Nat.le_of_ble_eq_true rfl) (fun v9 h9 z9 y9 => ?_)
      obtain ⟨rfl, rfl⟩ := y9
      refine aw_st (st' := [.int q109.1, .int q104.1, .int x4]) rfl ?_
      refine aw_icmp_ne (tgt := 76) dX2_named_69 (by decide) (fun c111 => ?_) (fun c111 => ?_)
      · rw [if_neg c111] at hq
        refine aw_iconst (v := 0) dX2_named_76 (by decide) ?_
        exact p_x_X2_named_77 g hst N ρ n hρ _ _ ih hK86 q109.2 x0 x1 (some a106) x3 x4 x5 x4 (0 : Int32) _ hq
      · rw [if_pos c111] at hq
        refine aw_iconst (v := 1) dX2_named_72 (by decide) ?_
        refine aw_goto (tgt := 77) dX2_named_73 (by decide) ?_
        exact p_x_X2_named_77 g hst N ρ n hρ _ _ ih hK86 q109.2 x0 x1 (some a106) x3 x4 x5 x4 (1 : Int32) _ hq
def xb_X2_named (g : AG) (N : Nat) (ρ : R_X2) (h : AH) (x0 : Nat) (x1 : Int32) : Option ((String ⊕ Option Nat) × AH) :=
  bif clB h x0 [1] then ((x_X2_row g N h x0).bind fun q2 => tcase q2.1 (fun E4 => some (.inl E4, q2.2)) (fun v5 => (v5).bind fun a6 => bif clB q2.2 a6 [17] then ((x_J13_length g N q2.2 a6).bind fun q9 => if q9.1 = (1 : Int32) then (bif clB q9.2 a6 [17] then ((x_J13_charAt g N q9.2 a6 (0 : Int32)).bind fun q80 => (x_X2_isLetter g N q80.2 q80.1).bind fun q82 => if q82.1 = 0 then (x_X2_named_107 g N ρ  q82.2 x0 x1 (some a6)) else (bif clB q82.2 a6 [17] then ((x_J13_charAt g N q82.2 a6 (0 : Int32)).bind fun q86 => bif clB q86.2 (gS g 2) [17] then ((x_J13_indexOf g N q86.2 (gS g 2) q86.1).bind fun q89 => x_X2_named_41 g N ρ (fun h x0 x1 r2 x3 x4 x5 => bif clB h x0 [1] then ((x_X2_want g N h x0 x4 (4 : Int32) x1).bind fun q113 => tcase q113.1 (fun E115 => some (.inl E115, q113.2)) (fun v116 => (mkO g q113.2 4 5 [.null, .int 0, .null, .null]).bind fun h117 => (vR (gV g 1)).bind fun o119 => (x_X6_init g N h117 q113.2.2.1 o119 x3 r2).bind fun q121 => some (.inr (some q113.2.2.1), q121))) else none) N q89.2 x0 x1 (some a6) q89.1 (0 : Int32) (0 : Int32)) else none) else none)) else none) else (x_X2_named_107 g N ρ  q9.2 x0 x1 (some a6))) else none)) else none
theorem cb_X2_named (g : AG) (hst : (gL g).stackTraces = false) (N : Nat) (ρ : R_X2) (n : Nat) (hρ : Ok_X2 g n ρ) : ∀ (h : AH) (x0 : Nat) (x1 : Int32) (q : ((String ⊕ Option Nat) × AH)), xb_X2_named g N ρ h x0 x1 = some q → CT g YX2_named (13 + n + 1) [.ref x0, .int x1] h (tR q) := by
  intro h x0 x1 q hq
  refine CT.of rfl (by decide +kernel) (loc := [some (.ref x0), some (.int x1), none, none, none, none]) (by first | exact Nat.le_of_ble_eq_true rfl | (simp only [lgl_rf, lgl_i, lgl_j, lgl_ref, lgl_nil]; exact Nat.le_of_ble_eq_true rfl)) (by first | rfl | (simp only [aent_rf, aent_i, aent_j, aent_ref, aent_nil]; rfl)) ?_
  unfold xb_X2_named at hq
  refine aw_aload_n (i := 0) dX2_named_0 rfl rfl trivial ?_
  replace hq := cond_t hq
  obtain ⟨z1, hq⟩ := hq
  obtain ⟨fs9, ha9⟩ := clB1 z1
  replace hq := obind hq
  obtain ⟨q2, e3, hq⟩ := hq
  refine aw_callVX (Y2 := YX2_row) (As := []) (rest := []) (r := (RX2, TX2, 9)) kX2_row ha9 rfl rfl q478 q480 qs2 dX2_named_1 rfl rfl (ct_X2_row g hst N h x0 _ e3) (by omega) (Nat.le_of_ble_eq_true rfl) (fun v9 h9 z9 y9 => ?_) (fun E4 h9 z9 y9 => ?_)
  rotate_left
  · obtain ⟨e9, rfl⟩ := tR_exc y9
    replace hq := tcase_l e9 hq
    cases hq
    exact ax_out (by decide) ⟨rfl, rfl⟩
  obtain ⟨v5, e9, rfl, rfl⟩ := tR_ret y9
  replace hq := tcase_r e9 hq
  refine aw_st (st' := [va_rf v5]) rfl ?_
  refine aw_astore_n (i := 2) (loc' := [some (.ref x0), some (.int x1), some (va_rf v5), none, none, none]) dX2_named_4 rfl (Nat.le_of_ble_eq_true rfl) (aIsR_rf _) rfl ?_
  refine aw_aload_n (i := 2) dX2_named_5 rfl rfl (aIsR_rf _) ?_
  replace hq := obind hq
  obtain ⟨a6, e7, hq⟩ := hq
  subst e7
  replace hq := cond_t hq
  obtain ⟨z8, hq⟩ := hq
  obtain ⟨fs9, ha9⟩ := clB1 z8
  replace hq := obind hq
  obtain ⟨q9, e10, hq⟩ := hq
  refine aw_callV (Y2 := YJ13_length) (As := []) (rest := []) (r := (RJ13, TJ13, 4)) kJ13_length ha9 rfl rfl q765 q705 q706 dX2_named_6 rfl rfl (ct_J13_length g hst N q2.2 a6 _ e10) (by omega) (Nat.le_of_ble_eq_true rfl) (fun v9 h9 z9 y9 => ?_)
  obtain ⟨rfl, rfl⟩ := y9
  refine aw_st (st' := [.int q9.1]) rfl ?_
  refine aw_iconst (v := 1) dX2_named_9 (by decide) ?_
  refine aw_icmp_ne (tgt := 107) dX2_named_10 (by decide) (fun c11 => ?_) (fun c11 => ?_)
  · rw [if_neg c11] at hq
    exact p_x_X2_named_107 g hst N ρ n hρ   q9.2 x0 x1 (some a6) _ hq
  · rw [if_pos c11] at hq
    refine aw_aload_n (i := 2) dX2_named_13 rfl rfl trivial ?_
    refine aw_iconst (v := 0) dX2_named_14 (by decide) ?_
    replace hq := cond_t hq
    obtain ⟨z79, hq⟩ := hq
    obtain ⟨fs9, ha9⟩ := clB1 z79
    replace hq := obind hq
    obtain ⟨q80, e81, hq⟩ := hq
    refine aw_callV (Y2 := YJ13_charAt) (As := [.int (0 : Int32)]) (rest := []) (r := (RJ13, TJ13, 4)) kJ13_charAt ha9 rfl rfl q766 q767 q768 dX2_named_15 rfl rfl (ct_J13_charAt g hst N q9.2 a6 (0 : Int32) _ e81) (by omega) (Nat.le_of_ble_eq_true rfl) (fun v9 h9 z9 y9 => ?_)
    obtain ⟨rfl, rfl⟩ := y9
    refine aw_st (st' := [.int q80.1]) rfl ?_
    replace hq := obind hq
    obtain ⟨q82, e83, hq⟩ := hq
    refine aw_callS (Y2 := YX2_isLetter) (As := [.int q80.1]) (rest := []) kX2_isLetter q404 q405 dX2_named_18 rfl rfl (ct_X2_isLetter g hst N q80.2 q80.1 _ e83) (by omega) (Nat.le_of_ble_eq_true rfl) (fun v9 h9 z9 y9 => ?_)
    obtain ⟨rfl, rfl⟩ := y9
    refine aw_st (st' := [.int q82.1]) rfl ?_
    refine aw_if_eq (tgt := 107) dX2_named_21 (by decide) (fun c84 => ?_) (fun c84 => ?_)
    · rw [if_pos c84] at hq
      exact p_x_X2_named_107 g hst N ρ n hρ   q82.2 x0 x1 (some a6) _ hq
    · rw [if_neg c84] at hq
      refine aw_ldcS (i := 2) rfl dX2_named_24 ?_
      refine aw_aload_n (i := 2) dX2_named_26 rfl rfl trivial ?_
      refine aw_iconst (v := 0) dX2_named_27 (by decide) ?_
      replace hq := cond_t hq
      obtain ⟨z85, hq⟩ := hq
      obtain ⟨fs9, ha9⟩ := clB1 z85
      replace hq := obind hq
      obtain ⟨q86, e87, hq⟩ := hq
      refine aw_callV (Y2 := YJ13_charAt) (As := [.int (0 : Int32)]) (rest := [.ref (gS g 2)]) (r := (RJ13, TJ13, 4)) kJ13_charAt ha9 rfl rfl q766 q767 q768 dX2_named_28 rfl rfl (ct_J13_charAt g hst N q82.2 a6 (0 : Int32) _ e87) (by omega) (Nat.le_of_ble_eq_true rfl) (fun v9 h9 z9 y9 => ?_)
      obtain ⟨rfl, rfl⟩ := y9
      refine aw_st (st' := [.int q86.1, .ref (gS g 2)]) rfl ?_
      replace hq := cond_t hq
      obtain ⟨z88, hq⟩ := hq
      obtain ⟨fs9, ha9⟩ := clB1 z88
      replace hq := obind hq
      obtain ⟨q89, e90, hq⟩ := hq
      refine aw_callV (Y2 := YJ13_indexOf) (As := [.int q86.1]) (rest := []) (r := (RJ13, TJ13, 4)) kJ13_indexOf ha9 rfl rfl q915 q916 q917 dX2_named_31 rfl rfl (ct_J13_indexOf g hst N q86.2 (gS g 2) q86.1 _ e90) (by omega) (Nat.le_of_ble_eq_true rfl) (fun v9 h9 z9 y9 => ?_)
      obtain ⟨rfl, rfl⟩ := y9
      refine aw_st (st' := [.int q89.1]) rfl ?_
      refine aw_istore_n (i := 3) (loc' := [some (.ref x0), some (.int x1), some (.ref a6), some (.int q89.1), none, none]) dX2_named_34 rfl (Nat.le_of_ble_eq_true rfl) rfl ?_
      refine aw_iconst (v := 0) dX2_named_35 (by decide) ?_
      refine aw_istore (loc' := [some (.ref x0), some (.int x1), some (.ref a6), some (.int q89.1), some (.int (0 : Int32)), none]) dX2_named_36 (Nat.le_of_ble_eq_true rfl) rfl ?_
      refine aw_iconst (v := 0) dX2_named_38 (by decide) ?_
      refine aw_istore (loc' := [some (.ref x0), some (.int x1), some (.ref a6), some (.int q89.1), some (.int (0 : Int32)), some (.int (0 : Int32))]) dX2_named_39 (Nat.le_of_ble_eq_true rfl) rfl ?_
      refine p_x_X2_named_41 g hst N ρ n hρ _ ?_ N q89.2 x0 x1 (some a6) q89.1 (0 : Int32) (0 : Int32) _ hq
      · intro h x0 x1 r2 x3 x4 x5 q hq
        refine aw_aload_n (i := 0) dX2_named_86 rfl rfl trivial ?_
        refine aw_iload dX2_named_87 rfl ?_
        refine aw_iconst (v := 4) dX2_named_89 (by decide) ?_
        refine aw_iload_n (i := 1) dX2_named_90 rfl rfl ?_
        replace hq := cond_t hq
        obtain ⟨z112, hq⟩ := hq
        obtain ⟨fs9, ha9⟩ := clB1 z112
        replace hq := obind hq
        obtain ⟨q113, e114, hq⟩ := hq
        refine aw_callVX (Y2 := YX2_want) (As := [.int x4, .int (4 : Int32), .int x1]) (rest := []) (r := (RX2, TX2, 9)) kX2_want ha9 rfl rfl q407 q408 q409 dX2_named_91 rfl rfl (ct_X2_want g hst N h x0 x4 (4 : Int32) x1 _ e114) (by omega) (Nat.le_of_ble_eq_true rfl) (fun v9 h9 z9 y9 => ?_) (fun E115 h9 z9 y9 => ?_)
        rotate_left
        · obtain ⟨e9, rfl⟩ := tV_exc y9
          replace hq := tcase_l e9 hq
          cases hq
          exact ax_out (by decide) ⟨rfl, rfl⟩
        obtain ⟨v116, e9, rfl, rfl⟩ := tV_ret y9
        replace hq := tcase_r e9 hq
        refine aw_st (st' := []) rfl ?_
        replace hq := obind hq
        obtain ⟨h117, e118, hq⟩ := hq
        refine xw_new (r := (RX6, TX6, 4)) e118 q858 q859 q144 (by decide) rfl okX6 rfl dfX6 dX2_named_94 ?_
        refine aw_dup dX2_named_97 rfl ?_
        replace hq := obind hq
        obtain ⟨o119, e120, hq⟩ := hq
        refine xw_gets (i := 1) (vR_eq e120) rfl q960 dX2_named_98 rfl ?_
        refine aw_iload_n (i := 3) dX2_named_101 rfl rfl ?_
        refine aw_aload_n (i := 2) dX2_named_102 rfl rfl (aIsR_rf _) ?_
        replace hq := obind hq
        obtain ⟨q121, e122, hq⟩ := hq
        refine aw_callI (Y2 := YX6_init) (As := [va_rf o119, .int x3, va_rf r2]) (rest := [.ref q113.2.2.1]) (b := q113.2.2.1) kX6_init rfl rfl q873 q874 dX2_named_103 rfl rfl (ct_X6_init g hst N h117 q113.2.2.1 o119 x3 r2 _ e122) (by omega) (Nat.le_of_ble_eq_true rfl) (fun v9 h9 z9 y9 => ?_)
        obtain ⟨rfl, y9⟩ := y9
        rw [y9]
        refine aw_st (st' := [.ref q113.2.2.1]) rfl ?_
        cases hq
        exact aw_areturn dX2_named_106 rfl (Or.inl ⟨_, rfl⟩) trivial ⟨rfl, rfl⟩
theorem kX2_single : aMk YX2_single 0 := ⟨rfl, q841, q117, ⟨by decide +kernel, by decide +kernel, by decide +kernel⟩, Nat.le_of_ble_eq_true rfl⟩
def x_X2_single_49 (g : AG) (N : Nat) (ρ : R_X2) (h : AH) (x0 : Nat) (x1 : Int32) (s1 : Int32) : Option ((String ⊕ Option Nat) × AH) :=
  (rdI h x0 [(1, 2)]).bind fun i11 => bif clB h x0 [1] then ((x_X2_want g N h x0 s1 (1 : Int32) i11).bind fun q14 => tcase q14.1 (fun E16 => some (.inl E16, q14.2)) (fun v17 => bif clB q14.2 x0 [1] then ((x_X2_node g N q14.2 x0 x1).bind fun q19 => tcase q19.1 (fun E21 => some (.inl E21, q19.2)) (fun v22 => bif clB q19.2 x0 [1] then ((x_X2_isFigure g N q19.2 x0).bind fun q24 => if q24.1 = 0 then (bif clB q24.2 x0 [1] then ((ρ.1 q24.2 x0 x1).bind fun q28 => tcase q28.1 (fun E30 => some (.inl E30, q28.2)) (fun v31 => some (.inr v31, q28.2))) else none) else ((mkO g q24.2 4 5 [.null, .int 0, .null, .null]).bind fun h32 => (vR (gV g 0)).bind fun o34 => bif clB h32 x0 [1] then ((x_X2_number g N h32 x0 (2147483647 : Int32)).bind fun q37 => tcase q37.1 (fun E39 => some (.inl E39, q37.2)) (fun v40 => (x_X6_init g N q37.2 q24.2.2.1 o34 v40 (none)).bind fun q41 => some (.inr (some q24.2.2.1), q41))) else none)) else none)) else none)) else none
theorem p_x_X2_single_49 (g : AG) (hst : (gL g).stackTraces = false) (N : Nat) (ρ : R_X2) (n : Nat) (hρ : Ok_X2 g n ρ) : ∀ (h : AH) (x0 : Nat) (x1 : Int32) (s1 : Int32) (q : ((String ⊕ Option Nat) × AH)), x_X2_single_49 g N ρ h x0 x1 s1 = some q → AW g YX2_single (13 + n + 1) (tR q) h [some (.ref x0), some (.int x1), none] 49 [.int s1, .ref x0] := by
  intro h x0 x1 s1 q hq
  unfold x_X2_single_49 at hq
  refine aw_iconst (v := 1) dX2_single_49 (by decide) ?_
  refine aw_aload_n (i := 0) dX2_single_50 rfl rfl trivial ?_
  replace hq := obind hq
  obtain ⟨i11, e12, hq⟩ := hq
  refine xw_getI e12 fX2_38 dX2_single_51 ?_
  replace hq := cond_t hq
  obtain ⟨z13, hq⟩ := hq
  obtain ⟨fs9, ha9⟩ := clB1 z13
  replace hq := obind hq
  obtain ⟨q14, e15, hq⟩ := hq
  refine aw_callVX (Y2 := YX2_want) (As := [.int s1, .int (1 : Int32), .int i11]) (rest := []) (r := (RX2, TX2, 9)) kX2_want ha9 rfl rfl q407 q408 q409 dX2_single_54 rfl rfl (ct_X2_want g hst N h x0 s1 (1 : Int32) i11 _ e15) (by omega) (Nat.le_of_ble_eq_true rfl) (fun v9 h9 z9 y9 => ?_) (fun E16 h9 z9 y9 => ?_)
  rotate_left
  · obtain ⟨e9, rfl⟩ := tV_exc y9
    replace hq := tcase_l e9 hq
    cases hq
    exact ax_out (by decide) ⟨rfl, rfl⟩
  obtain ⟨v17, e9, rfl, rfl⟩ := tV_ret y9
  replace hq := tcase_r e9 hq
  refine aw_st (st' := []) rfl ?_
  refine aw_aload_n (i := 0) dX2_single_57 rfl rfl trivial ?_
  refine aw_iload_n (i := 1) dX2_single_58 rfl rfl ?_
  replace hq := cond_t hq
  obtain ⟨z18, hq⟩ := hq
  obtain ⟨fs9, ha9⟩ := clB1 z18
  replace hq := obind hq
  obtain ⟨q19, e20, hq⟩ := hq
  refine aw_callVX (Y2 := YX2_node) (As := [.int x1]) (rest := []) (r := (RX2, TX2, 9)) kX2_node ha9 rfl rfl q854 q856 qs16 dX2_single_59 rfl rfl (ct_X2_node g hst N q14.2 x0 x1 _ e20) (by omega) (Nat.le_of_ble_eq_true rfl) (fun v9 h9 z9 y9 => ?_) (fun E21 h9 z9 y9 => ?_)
  rotate_left
  · obtain ⟨e9, rfl⟩ := tV_exc y9
    replace hq := tcase_l e9 hq
    cases hq
    exact ax_out (by decide) ⟨rfl, rfl⟩
  obtain ⟨v22, e9, rfl, rfl⟩ := tV_ret y9
  replace hq := tcase_r e9 hq
  refine aw_st (st' := []) rfl ?_
  refine aw_aload_n (i := 0) dX2_single_62 rfl rfl trivial ?_
  replace hq := cond_t hq
  obtain ⟨z23, hq⟩ := hq
  obtain ⟨fs9, ha9⟩ := clB1 z23
  replace hq := obind hq
  obtain ⟨q24, e25, hq⟩ := hq
  refine aw_callV (Y2 := YX2_isFigure) (As := []) (rest := []) (r := (RX2, TX2, 9)) kX2_isFigure ha9 rfl rfl q850 q852 qs15 dX2_single_63 rfl rfl (ct_X2_isFigure g hst N q19.2 x0 _ e25) (by omega) (Nat.le_of_ble_eq_true rfl) (fun v9 h9 z9 y9 => ?_)
  obtain ⟨rfl, rfl⟩ := y9
  refine aw_st (st' := [.int q24.1]) rfl ?_
  refine aw_if_eq (tgt := 89) dX2_single_66 (by decide) (fun c26 => ?_) (fun c26 => ?_)
  · rw [if_pos c26] at hq
    refine aw_aload_n (i := 0) dX2_single_89 rfl rfl trivial ?_
    refine aw_iload_n (i := 1) dX2_single_90 rfl rfl ?_
    replace hq := cond_t hq
    obtain ⟨z27, hq⟩ := hq
    obtain ⟨fs9, ha9⟩ := clB1 z27
    replace hq := obind hq
    obtain ⟨q28, e29, hq⟩ := hq
    refine aw_callVX (Y2 := YX2_named) (As := [.int x1]) (rest := []) (r := (RX2, TX2, 9)) kX2_named ha9 rfl rfl q911 q913 qs18 dX2_single_91 rfl rfl (hρ.1 q24.2 x0 x1 _ e29) (Nat.le_refl _) (Nat.le_of_ble_eq_true rfl) (fun v9 h9 z9 y9 => ?_) (fun E30 h9 z9 y9 => ?_)
    rotate_left
    · obtain ⟨e9, rfl⟩ := tR_exc y9
      replace hq := tcase_l e9 hq
      cases hq
      exact ax_out (by decide) ⟨rfl, rfl⟩
    obtain ⟨v31, e9, rfl, rfl⟩ := tR_ret y9
    replace hq := tcase_r e9 hq
    refine aw_st (st' := [va_rf v31]) rfl ?_
    cases hq
    exact aw_areturn dX2_single_94 rfl (Or.inl ⟨_, rfl⟩) (aIsR_rf _) ⟨rfl, rfl⟩
  · rw [if_neg c26] at hq
    replace hq := obind hq
    obtain ⟨h32, e33, hq⟩ := hq
    refine xw_new (r := (RX6, TX6, 4)) e33 q858 q859 q144 (by decide) rfl okX6 rfl dfX6 dX2_single_69 ?_
    refine aw_dup dX2_single_72 rfl ?_
    replace hq := obind hq
    obtain ⟨o34, e35, hq⟩ := hq
    refine xw_gets (i := 0) (vR_eq e35) rfl q860 dX2_single_73 rfl ?_
    refine aw_aload_n (i := 0) dX2_single_76 rfl rfl trivial ?_
    refine aw_ldc (v := (2147483647)) dX2_single_77 q862 ?_
    replace hq := cond_t hq
    obtain ⟨z36, hq⟩ := hq
    obtain ⟨fs9, ha9⟩ := clB1 z36
    replace hq := obind hq
    obtain ⟨q37, e38, hq⟩ := hq
    refine aw_callVX (Y2 := YX2_number) (As := [.int (2147483647 : Int32)]) (rest := [va_rf o34, .ref q24.2.2.1, .ref q24.2.2.1]) (r := (RX2, TX2, 9)) kX2_number ha9 rfl rfl q863 q865 qs17 dX2_single_79 rfl rfl (ct_X2_number g hst N h32 x0 (2147483647 : Int32) _ e38) (by omega) (by simp only [List.map_cons, List.map_nil, List.sum_cons, List.sum_nil, cat_rf]; exact Nat.le_of_ble_eq_true rfl) (fun v9 h9 z9 y9 => ?_) (fun E39 h9 z9 y9 => ?_)
    rotate_left
    · obtain ⟨e9, rfl⟩ := tI_exc y9
      replace hq := tcase_l e9 hq
      cases hq
      exact ax_out (by decide) ⟨rfl, rfl⟩
    obtain ⟨v40, e9, rfl, rfl⟩ := tI_ret y9
    replace hq := tcase_r e9 hq
    refine aw_st (st' := [.int v40, va_rf o34, .ref q24.2.2.1, .ref q24.2.2.1]) rfl ?_
    refine aw_null dX2_single_82 ?_
    replace hq := obind hq
    obtain ⟨q41, e42, hq⟩ := hq
    refine aw_callI (Y2 := YX6_init) (As := [va_rf o34, .int v40, .null]) (rest := [.ref q24.2.2.1]) (b := q24.2.2.1) kX6_init rfl rfl q873 q874 dX2_single_83 rfl rfl (ct_X6_init g hst N q37.2 q24.2.2.1 o34 v40 (none) _ e42) (by omega) (Nat.le_of_ble_eq_true rfl) (fun v9 h9 z9 y9 => ?_)
    obtain ⟨rfl, y9⟩ := y9
    rw [y9]
    refine aw_st (st' := [.ref q24.2.2.1]) rfl ?_
    refine aw_goto (tgt := 94) dX2_single_86 (by decide) ?_
    cases hq
    exact aw_areturn dX2_single_94 rfl (Or.inl ⟨_, rfl⟩) trivial ⟨rfl, rfl⟩
def x_X2_single_44 (g : AG) (N : Nat) (ρ : R_X2) (h : AH) (x0 : Nat) (x1 : Int32) : Option ((String ⊕ Option Nat) × AH) :=
  x_X2_single_49 g N ρ  h x0 x1 (1 : Int32)
theorem p_x_X2_single_44 (g : AG) (hst : (gL g).stackTraces = false) (N : Nat) (ρ : R_X2) (n : Nat) (hρ : Ok_X2 g n ρ) : ∀ (h : AH) (x0 : Nat) (x1 : Int32) (q : ((String ⊕ Option Nat) × AH)), x_X2_single_44 g N ρ h x0 x1 = some q → AW g YX2_single (13 + n + 1) (tR q) h [some (.ref x0), some (.int x1), none] 44 [.ref x0] := by
  intro h x0 x1 q hq
  unfold x_X2_single_44 at hq
  refine aw_iconst (v := 1) dX2_single_44 (by decide) ?_
  refine aw_goto (tgt := 49) dX2_single_45 (by decide) ?_
  exact p_x_X2_single_49 g hst N ρ n hρ   h x0 x1 (1 : Int32) _ hq
def xb_X2_single (g : AG) (N : Nat) (ρ : R_X2) (h : AH) (x0 : Nat) : Option ((String ⊕ Option Nat) × AH) :=
  (rdI h x0 [(1, 2)]).bind fun i1 => bif clB h x0 [1] then ((x_X2_peek g N h x0).bind fun q4 => if q4.1 = (40 : Int32) then (bif clB q4.2 x0 [1] then ((x_X2_opens g N q4.2 x0).bind fun q48 => tcase q48.1 (fun E50 => some (.inl E50, q48.2)) (fun v51 => bif clB q48.2 x0 [1] then ((ρ.2.2.2.2.2.2.2 q48.2 x0).bind fun q53 => tcase q53.1 (fun E55 => some (.inl E55, q53.2)) (fun v56 => bif clB q53.2 x0 [1] then ((x_X2_closes g N q53.2 x0).bind fun q58 => tcase q58.1 (fun E60 => some (.inl E60, q58.2)) (fun v61 => some (.inr v56, q58.2))) else none)) else none)) else none) else (bif clB q4.2 x0 [1] then ((x_X2_isFigure g N q4.2 x0).bind fun q8 => if q8.1 = 0 then (bif clB q8.2 x0 [1] then ((x_X2_isOfName g N q8.2 x0).bind fun q44 => if q44.1 = 0 then (x_X2_single_49 g N ρ  q44.2 x0 i1 (0 : Int32)) else (x_X2_single_44 g N ρ  q44.2 x0 i1)) else none) else (x_X2_single_44 g N ρ  q8.2 x0 i1)) else none)) else none
theorem cb_X2_single (g : AG) (hst : (gL g).stackTraces = false) (N : Nat) (ρ : R_X2) (n : Nat) (hρ : Ok_X2 g n ρ) : ∀ (h : AH) (x0 : Nat) (q : ((String ⊕ Option Nat) × AH)), xb_X2_single g N ρ h x0 = some q → CT g YX2_single (13 + n + 1) [.ref x0] h (tR q) := by
  intro h x0 q hq
  refine CT.of rfl (by decide +kernel) (loc := [some (.ref x0), none, none]) (by first | exact Nat.le_of_ble_eq_true rfl | (simp only [lgl_rf, lgl_i, lgl_j, lgl_ref, lgl_nil]; exact Nat.le_of_ble_eq_true rfl)) (by first | rfl | (simp only [aent_rf, aent_i, aent_j, aent_ref, aent_nil]; rfl)) ?_
  unfold xb_X2_single at hq
  refine aw_aload_n (i := 0) dX2_single_0 rfl rfl trivial ?_
  replace hq := obind hq
  obtain ⟨i1, e2, hq⟩ := hq
  refine xw_getI e2 fX2_38 dX2_single_1 ?_
  refine aw_istore_n (i := 1) (loc' := [some (.ref x0), some (.int i1), none]) dX2_single_4 rfl (Nat.le_of_ble_eq_true rfl) rfl ?_
  refine aw_aload_n (i := 0) dX2_single_5 rfl rfl trivial ?_
  replace hq := cond_t hq
  obtain ⟨z3, hq⟩ := hq
  obtain ⟨fs9, ha9⟩ := clB1 z3
  replace hq := obind hq
  obtain ⟨q4, e5, hq⟩ := hq
  refine aw_callV (Y2 := YX2_peek) (As := []) (rest := []) (r := (RX2, TX2, 9)) kX2_peek ha9 rfl rfl q400 q401 q402 dX2_single_6 rfl rfl (ct_X2_peek g hst N h x0 _ e5) (by omega) (Nat.le_of_ble_eq_true rfl) (fun v9 h9 z9 y9 => ?_)
  obtain ⟨rfl, rfl⟩ := y9
  refine aw_st (st' := [.int q4.1]) rfl ?_
  refine aw_bipush (v := 40) dX2_single_9 (by decide) ?_
  refine aw_icmp_ne (tgt := 29) dX2_single_11 (by decide) (fun c6 => ?_) (fun c6 => ?_)
  · rw [if_neg c6] at hq
    refine aw_aload_n (i := 0) dX2_single_29 rfl rfl trivial ?_
    refine aw_aload_n (i := 0) dX2_single_30 rfl rfl trivial ?_
    replace hq := cond_t hq
    obtain ⟨z7, hq⟩ := hq
    obtain ⟨fs9, ha9⟩ := clB1 z7
    replace hq := obind hq
    obtain ⟨q8, e9, hq⟩ := hq
    refine aw_callV (Y2 := YX2_isFigure) (As := []) (rest := [.ref x0]) (r := (RX2, TX2, 9)) kX2_isFigure ha9 rfl rfl q850 q852 qs15 dX2_single_31 rfl rfl (ct_X2_isFigure g hst N q4.2 x0 _ e9) (by omega) (Nat.le_of_ble_eq_true rfl) (fun v9 h9 z9 y9 => ?_)
    obtain ⟨rfl, rfl⟩ := y9
    refine aw_st (st' := [.int q8.1, .ref x0]) rfl ?_
    refine aw_if_ne (tgt := 44) dX2_single_34 (by decide) (fun c10 => ?_) (fun c10 => ?_)
    · rw [if_neg c10] at hq
      exact p_x_X2_single_44 g hst N ρ n hρ   q8.2 x0 i1 _ hq
    · rw [if_pos c10] at hq
      refine aw_aload_n (i := 0) dX2_single_37 rfl rfl trivial ?_
      replace hq := cond_t hq
      obtain ⟨z43, hq⟩ := hq
      obtain ⟨fs9, ha9⟩ := clB1 z43
      replace hq := obind hq
      obtain ⟨q44, e45, hq⟩ := hq
      refine aw_callV (Y2 := YX2_isOfName) (As := []) (rest := [.ref x0]) (r := (RX2, TX2, 9)) kX2_isOfName ha9 rfl rfl q396 q398 qs0 dX2_single_38 rfl rfl (ct_X2_isOfName g hst N q8.2 x0 _ e45) (by omega) (Nat.le_of_ble_eq_true rfl) (fun v9 h9 z9 y9 => ?_)
      obtain ⟨rfl, rfl⟩ := y9
      refine aw_st (st' := [.int q44.1, .ref x0]) rfl ?_
      refine aw_if_eq (tgt := 48) dX2_single_41 (by decide) (fun c46 => ?_) (fun c46 => ?_)
      · rw [if_pos c46] at hq
        refine aw_iconst (v := 0) dX2_single_48 (by decide) ?_
        exact p_x_X2_single_49 g hst N ρ n hρ   q44.2 x0 i1 (0 : Int32) _ hq
      · rw [if_neg c46] at hq
        exact p_x_X2_single_44 g hst N ρ n hρ   q44.2 x0 i1 _ hq
  · rw [if_pos c6] at hq
    refine aw_aload_n (i := 0) dX2_single_14 rfl rfl trivial ?_
    replace hq := cond_t hq
    obtain ⟨z47, hq⟩ := hq
    obtain ⟨fs9, ha9⟩ := clB1 z47
    replace hq := obind hq
    obtain ⟨q48, e49, hq⟩ := hq
    refine aw_callVX (Y2 := YX2_opens) (As := []) (rest := []) (r := (RX2, TX2, 9)) kX2_opens ha9 rfl rfl q842 q844 qs13 dX2_single_15 rfl rfl (ct_X2_opens g hst N q4.2 x0 _ e49) (by omega) (Nat.le_of_ble_eq_true rfl) (fun v9 h9 z9 y9 => ?_) (fun E50 h9 z9 y9 => ?_)
    rotate_left
    · obtain ⟨e9, rfl⟩ := tV_exc y9
      replace hq := tcase_l e9 hq
      cases hq
      exact ax_out (by decide) ⟨rfl, rfl⟩
    obtain ⟨v51, e9, rfl, rfl⟩ := tV_ret y9
    replace hq := tcase_r e9 hq
    refine aw_st (st' := []) rfl ?_
    refine aw_aload_n (i := 0) dX2_single_18 rfl rfl trivial ?_
    replace hq := cond_t hq
    obtain ⟨z52, hq⟩ := hq
    obtain ⟨fs9, ha9⟩ := clB1 z52
    replace hq := obind hq
    obtain ⟨q53, e54, hq⟩ := hq
    refine aw_callVX (Y2 := YX2_expression) (As := []) (rest := []) (r := (RX2, TX2, 9)) kX2_expression ha9 rfl rfl q814 q816 qs6 dX2_single_19 rfl rfl (hρ.2.2.2.2.2.2.2 q48.2 x0 _ e54) (Nat.le_refl _) (Nat.le_of_ble_eq_true rfl) (fun v9 h9 z9 y9 => ?_) (fun E55 h9 z9 y9 => ?_)
    rotate_left
    · obtain ⟨e9, rfl⟩ := tR_exc y9
      replace hq := tcase_l e9 hq
      cases hq
      exact ax_out (by decide) ⟨rfl, rfl⟩
    obtain ⟨v56, e9, rfl, rfl⟩ := tR_ret y9
    replace hq := tcase_r e9 hq
    refine aw_st (st' := [va_rf v56]) rfl ?_
    refine aw_astore_n (i := 2) (loc' := [some (.ref x0), some (.int i1), some (va_rf v56)]) dX2_single_22 rfl (Nat.le_of_ble_eq_true rfl) (aIsR_rf _) rfl ?_
    refine aw_aload_n (i := 0) dX2_single_23 rfl rfl trivial ?_
    replace hq := cond_t hq
    obtain ⟨z57, hq⟩ := hq
    obtain ⟨fs9, ha9⟩ := clB1 z57
    replace hq := obind hq
    obtain ⟨q58, e59, hq⟩ := hq
    refine aw_callVX (Y2 := YX2_closes) (As := []) (rest := []) (r := (RX2, TX2, 9)) kX2_closes ha9 rfl rfl q846 q848 qs14 dX2_single_24 rfl rfl (ct_X2_closes g hst N q53.2 x0 _ e59) (by omega) (Nat.le_of_ble_eq_true rfl) (fun v9 h9 z9 y9 => ?_) (fun E60 h9 z9 y9 => ?_)
    rotate_left
    · obtain ⟨e9, rfl⟩ := tV_exc y9
      replace hq := tcase_l e9 hq
      cases hq
      exact ax_out (by decide) ⟨rfl, rfl⟩
    obtain ⟨v61, e9, rfl, rfl⟩ := tV_ret y9
    replace hq := tcase_r e9 hq
    refine aw_st (st' := []) rfl ?_
    refine aw_aload_n (i := 2) dX2_single_27 rfl rfl (aIsR_rf _) ?_
    cases hq
    exact aw_areturn dX2_single_28 rfl (Or.inl ⟨_, rfl⟩) (aIsR_rf _) ⟨rfl, rfl⟩
theorem kX2_signed : aMk YX2_signed 0 := ⟨rfl, q837, q117, ⟨by decide +kernel, by decide +kernel, by decide +kernel⟩, Nat.le_of_ble_eq_true rfl⟩
def x_X2_signed_51 (g : AG) (N : Nat) (ρ : R_X2) (h : AH) (x0 : Nat) (x1 : Int32) (t0 : Option Nat) : Option ((String ⊕ Option Nat) × AH) :=
  (rdI h x0 [(1, 2)]).bind fun i18 => (wrV g h x0 [(1, 2)] (.int (i18 + (1 : Int32)))).bind fun h20 => (mkO g h20 4 5 [.null, .int 0, .null, .null]).bind fun h22 => (x_X6_init g N h22 h20.2.1 t0 (0 : Int32) (none)).bind fun q24 => bif clB q24 x0 [1] then ((ρ.2.2.1 q24 x0).bind fun q27 => tcase q27.1 (fun E29 => some (.inl E29, q27.2)) (fun v30 => bif clB q27.2 h20.2.1 [5] then ((x_X6_with g N q27.2 h20.2.1 v30).bind fun q32 => some (.inr q32.1, q32.2)) else none)) else none
theorem p_x_X2_signed_51 (g : AG) (hst : (gL g).stackTraces = false) (N : Nat) (ρ : R_X2) (n : Nat) (hρ : Ok_X2 g n ρ) : ∀ (h : AH) (x0 : Nat) (x1 : Int32) (t0 : Option Nat) (q : ((String ⊕ Option Nat) × AH)), x_X2_signed_51 g N ρ h x0 x1 t0 = some q → AW g YX2_signed (13 + n + 1) (tR q) h [some (.ref x0), some (.int x1), none] 51 [va_rf t0] := by
  intro h x0 x1 t0 q hq
  unfold x_X2_signed_51 at hq
  refine aw_astore_n (i := 2) (loc' := [some (.ref x0), some (.int x1), some (va_rf t0)]) dX2_signed_51 rfl (Nat.le_of_ble_eq_true rfl) (aIsR_rf _) rfl ?_
  refine aw_aload_n (i := 0) dX2_signed_52 rfl rfl trivial ?_
  refine aw_dup dX2_signed_53 rfl ?_
  replace hq := obind hq
  obtain ⟨i18, e19, hq⟩ := hq
  refine xw_getI e19 fX2_38 dX2_signed_54 ?_
  refine aw_iconst (v := 1) dX2_signed_57 (by decide) ?_
  refine aw_iadd dX2_signed_58 ?_
  replace hq := obind hq
  obtain ⟨h20, e21, hq⟩ := hq
  refine xw_put e21 fX2_38 tX2_2 ⟨rfl, rfl⟩ dX2_signed_59 ?_
  replace hq := obind hq
  obtain ⟨h22, e23, hq⟩ := hq
  refine xw_new (r := (RX6, TX6, 4)) e23 q858 q859 q144 (by decide) rfl okX6 rfl dfX6 dX2_signed_62 ?_
  refine aw_dup dX2_signed_65 rfl ?_
  refine aw_aload_n (i := 2) dX2_signed_66 rfl rfl (aIsR_rf _) ?_
  refine aw_iconst (v := 0) dX2_signed_67 (by decide) ?_
  refine aw_null dX2_signed_68 ?_
  replace hq := obind hq
  obtain ⟨q24, e25, hq⟩ := hq
  refine aw_callI (Y2 := YX6_init) (As := [va_rf t0, .int (0 : Int32), .null]) (rest := [.ref h20.2.1]) (b := h20.2.1) kX6_init rfl rfl q873 q874 dX2_signed_69 rfl rfl (ct_X6_init g hst N h22 h20.2.1 t0 (0 : Int32) (none) _ e25) (by omega) (Nat.le_of_ble_eq_true rfl) (fun v9 h9 z9 y9 => ?_)
  obtain ⟨rfl, y9⟩ := y9
  rw [y9]
  refine aw_st (st' := [.ref h20.2.1]) rfl ?_
  refine aw_aload_n (i := 0) dX2_signed_72 rfl rfl trivial ?_
  replace hq := cond_t hq
  obtain ⟨z26, hq⟩ := hq
  obtain ⟨fs9, ha9⟩ := clB1 z26
  replace hq := obind hq
  obtain ⟨q27, e28, hq⟩ := hq
  refine aw_callVX (Y2 := YX2_signed) (As := []) (rest := [.ref h20.2.1]) (r := (RX2, TX2, 9)) kX2_signed ha9 rfl rfl q834 q836 qs11 dX2_signed_73 rfl rfl (hρ.2.2.1 q24 x0 _ e28) (Nat.le_refl _) (Nat.le_of_ble_eq_true rfl) (fun v9 h9 z9 y9 => ?_) (fun E29 h9 z9 y9 => ?_)
  rotate_left
  · obtain ⟨e9, rfl⟩ := tR_exc y9
    replace hq := tcase_l e9 hq
    cases hq
    exact ax_out (by decide) ⟨rfl, rfl⟩
  obtain ⟨v30, e9, rfl, rfl⟩ := tR_ret y9
  replace hq := tcase_r e9 hq
  refine aw_st (st' := [va_rf v30, .ref h20.2.1]) rfl ?_
  replace hq := cond_t hq
  obtain ⟨z31, hq⟩ := hq
  obtain ⟨fs9, ha9⟩ := clB1 z31
  replace hq := obind hq
  obtain ⟨q32, e33, hq⟩ := hq
  refine aw_callV (Y2 := YX6_with) (As := [va_rf v30]) (rest := []) (r := (RX6, TX6, 4)) kX6_with ha9 rfl rfl q966 q967 q968 dX2_signed_76 rfl rfl (ct_X6_with g hst N q27.2 h20.2.1 v30 _ e33) (by omega) (Nat.le_of_ble_eq_true rfl) (fun v9 h9 z9 y9 => ?_)
  obtain ⟨rfl, rfl⟩ := y9
  refine aw_st (st' := [va_rf q32.1]) rfl ?_
  cases hq
  exact aw_areturn dX2_signed_79 rfl (Or.inl ⟨_, rfl⟩) (aIsR_rf _) ⟨rfl, rfl⟩
def x_X2_signed_28 (g : AG) (N : Nat) (ρ : R_X2) (h : AH) (x0 : Nat) (x1 : Int32) : Option ((String ⊕ Option Nat) × AH) :=
  bif clB h x0 [1] then ((x_X2_node g N h x0 x1).bind fun q8 => tcase q8.1 (fun E10 => some (.inl E10, q8.2)) (fun v11 => bif clB q8.2 x0 [1] then ((x_X2_peek g N q8.2 x0).bind fun q13 => if q13.1 = (45 : Int32) then ((vR (gV g 3)).bind fun o34 => x_X2_signed_51 g N ρ  q13.2 x0 x1 o34) else ((vR (gV g 4)).bind fun o16 => x_X2_signed_51 g N ρ  q13.2 x0 x1 o16)) else none)) else none
theorem p_x_X2_signed_28 (g : AG) (hst : (gL g).stackTraces = false) (N : Nat) (ρ : R_X2) (n : Nat) (hρ : Ok_X2 g n ρ) : ∀ (h : AH) (x0 : Nat) (x1 : Int32) (q : ((String ⊕ Option Nat) × AH)), x_X2_signed_28 g N ρ h x0 x1 = some q → AW g YX2_signed (13 + n + 1) (tR q) h [some (.ref x0), some (.int x1), none] 28 [] := by
  intro h x0 x1 q hq
  unfold x_X2_signed_28 at hq
  refine aw_aload_n (i := 0) dX2_signed_28 rfl rfl trivial ?_
  refine aw_iload_n (i := 1) dX2_signed_29 rfl rfl ?_
  replace hq := cond_t hq
  obtain ⟨z7, hq⟩ := hq
  obtain ⟨fs9, ha9⟩ := clB1 z7
  replace hq := obind hq
  obtain ⟨q8, e9, hq⟩ := hq
  refine aw_callVX (Y2 := YX2_node) (As := [.int x1]) (rest := []) (r := (RX2, TX2, 9)) kX2_node ha9 rfl rfl q854 q856 qs16 dX2_signed_30 rfl rfl (ct_X2_node g hst N h x0 x1 _ e9) (by omega) (Nat.le_of_ble_eq_true rfl) (fun v9 h9 z9 y9 => ?_) (fun E10 h9 z9 y9 => ?_)
  rotate_left
  · obtain ⟨e9, rfl⟩ := tV_exc y9
    replace hq := tcase_l e9 hq
    cases hq
    exact ax_out (by decide) ⟨rfl, rfl⟩
  obtain ⟨v11, e9, rfl, rfl⟩ := tV_ret y9
  replace hq := tcase_r e9 hq
  refine aw_st (st' := []) rfl ?_
  refine aw_aload_n (i := 0) dX2_signed_33 rfl rfl trivial ?_
  replace hq := cond_t hq
  obtain ⟨z12, hq⟩ := hq
  obtain ⟨fs9, ha9⟩ := clB1 z12
  replace hq := obind hq
  obtain ⟨q13, e14, hq⟩ := hq
  refine aw_callV (Y2 := YX2_peek) (As := []) (rest := []) (r := (RX2, TX2, 9)) kX2_peek ha9 rfl rfl q400 q401 q402 dX2_signed_34 rfl rfl (ct_X2_peek g hst N q8.2 x0 _ e14) (by omega) (Nat.le_of_ble_eq_true rfl) (fun v9 h9 z9 y9 => ?_)
  obtain ⟨rfl, rfl⟩ := y9
  refine aw_st (st' := [.int q13.1]) rfl ?_
  refine aw_bipush (v := 45) dX2_signed_37 (by decide) ?_
  refine aw_icmp_ne (tgt := 48) dX2_signed_39 (by decide) (fun c15 => ?_) (fun c15 => ?_)
  · rw [if_neg c15] at hq
    replace hq := obind hq
    obtain ⟨o16, e17, hq⟩ := hq
    refine xw_gets (i := 4) (vR_eq e17) rfl q1037 dX2_signed_48 rfl ?_
    exact p_x_X2_signed_51 g hst N ρ n hρ   q13.2 x0 x1 o16 _ hq
  · rw [if_pos c15] at hq
    replace hq := obind hq
    obtain ⟨o34, e35, hq⟩ := hq
    refine xw_gets (i := 3) (vR_eq e35) rfl q1035 dX2_signed_42 rfl ?_
    refine aw_goto (tgt := 51) dX2_signed_45 (by decide) ?_
    exact p_x_X2_signed_51 g hst N ρ n hρ   q13.2 x0 x1 o34 _ hq
def xb_X2_signed (g : AG) (N : Nat) (ρ : R_X2) (h : AH) (x0 : Nat) : Option ((String ⊕ Option Nat) × AH) :=
  (rdI h x0 [(1, 2)]).bind fun i1 => bif clB h x0 [1] then ((x_X2_peek g N h x0).bind fun q4 => if q4.1 = (45 : Int32) then (x_X2_signed_28 g N ρ  q4.2 x0 i1) else (bif clB q4.2 x0 [1] then ((x_X2_peek g N q4.2 x0).bind fun q37 => if q37.1 = (33 : Int32) then (x_X2_signed_28 g N ρ  q37.2 x0 i1) else (bif clB q37.2 x0 [1] then ((ρ.2.1 q37.2 x0).bind fun q41 => tcase q41.1 (fun E43 => some (.inl E43, q41.2)) (fun v44 => some (.inr v44, q41.2))) else none)) else none)) else none
theorem cb_X2_signed (g : AG) (hst : (gL g).stackTraces = false) (N : Nat) (ρ : R_X2) (n : Nat) (hρ : Ok_X2 g n ρ) : ∀ (h : AH) (x0 : Nat) (q : ((String ⊕ Option Nat) × AH)), xb_X2_signed g N ρ h x0 = some q → CT g YX2_signed (13 + n + 1) [.ref x0] h (tR q) := by
  intro h x0 q hq
  refine CT.of rfl (by decide +kernel) (loc := [some (.ref x0), none, none]) (by first | exact Nat.le_of_ble_eq_true rfl | (simp only [lgl_rf, lgl_i, lgl_j, lgl_ref, lgl_nil]; exact Nat.le_of_ble_eq_true rfl)) (by first | rfl | (simp only [aent_rf, aent_i, aent_j, aent_ref, aent_nil]; rfl)) ?_
  unfold xb_X2_signed at hq
  refine aw_aload_n (i := 0) dX2_signed_0 rfl rfl trivial ?_
  replace hq := obind hq
  obtain ⟨i1, e2, hq⟩ := hq
  refine xw_getI e2 fX2_38 dX2_signed_1 ?_
  refine aw_istore_n (i := 1) (loc' := [some (.ref x0), some (.int i1), none]) dX2_signed_4 rfl (Nat.le_of_ble_eq_true rfl) rfl ?_
  refine aw_aload_n (i := 0) dX2_signed_5 rfl rfl trivial ?_
  replace hq := cond_t hq
  obtain ⟨z3, hq⟩ := hq
  obtain ⟨fs9, ha9⟩ := clB1 z3
  replace hq := obind hq
  obtain ⟨q4, e5, hq⟩ := hq
  refine aw_callV (Y2 := YX2_peek) (As := []) (rest := []) (r := (RX2, TX2, 9)) kX2_peek ha9 rfl rfl q400 q401 q402 dX2_signed_6 rfl rfl (ct_X2_peek g hst N h x0 _ e5) (by omega) (Nat.le_of_ble_eq_true rfl) (fun v9 h9 z9 y9 => ?_)
  obtain ⟨rfl, rfl⟩ := y9
  refine aw_st (st' := [.int q4.1]) rfl ?_
  refine aw_bipush (v := 45) dX2_signed_9 (by decide) ?_
  refine aw_icmp_eq (tgt := 28) dX2_signed_11 (by decide) (fun c6 => ?_) (fun c6 => ?_)
  · rw [if_pos c6] at hq
    exact p_x_X2_signed_28 g hst N ρ n hρ   q4.2 x0 i1 _ hq
  · rw [if_neg c6] at hq
    refine aw_aload_n (i := 0) dX2_signed_14 rfl rfl trivial ?_
    replace hq := cond_t hq
    obtain ⟨z36, hq⟩ := hq
    obtain ⟨fs9, ha9⟩ := clB1 z36
    replace hq := obind hq
    obtain ⟨q37, e38, hq⟩ := hq
    refine aw_callV (Y2 := YX2_peek) (As := []) (rest := []) (r := (RX2, TX2, 9)) kX2_peek ha9 rfl rfl q400 q401 q402 dX2_signed_15 rfl rfl (ct_X2_peek g hst N q4.2 x0 _ e38) (by omega) (Nat.le_of_ble_eq_true rfl) (fun v9 h9 z9 y9 => ?_)
    obtain ⟨rfl, rfl⟩ := y9
    refine aw_st (st' := [.int q37.1]) rfl ?_
    refine aw_bipush (v := 33) dX2_signed_18 (by decide) ?_
    refine aw_icmp_eq (tgt := 28) dX2_signed_20 (by decide) (fun c39 => ?_) (fun c39 => ?_)
    · rw [if_pos c39] at hq
      exact p_x_X2_signed_28 g hst N ρ n hρ   q37.2 x0 i1 _ hq
    · rw [if_neg c39] at hq
      refine aw_aload_n (i := 0) dX2_signed_23 rfl rfl trivial ?_
      replace hq := cond_t hq
      obtain ⟨z40, hq⟩ := hq
      obtain ⟨fs9, ha9⟩ := clB1 z40
      replace hq := obind hq
      obtain ⟨q41, e42, hq⟩ := hq
      refine aw_callVX (Y2 := YX2_single) (As := []) (rest := []) (r := (RX2, TX2, 9)) kX2_single ha9 rfl rfl q838 q840 qs12 dX2_signed_24 rfl rfl (hρ.2.1 q37.2 x0 _ e42) (Nat.le_refl _) (Nat.le_of_ble_eq_true rfl) (fun v9 h9 z9 y9 => ?_) (fun E43 h9 z9 y9 => ?_)
      rotate_left
      · obtain ⟨e9, rfl⟩ := tR_exc y9
        replace hq := tcase_l e9 hq
        cases hq
        exact ax_out (by decide) ⟨rfl, rfl⟩
      obtain ⟨v44, e9, rfl, rfl⟩ := tR_ret y9
      replace hq := tcase_r e9 hq
      refine aw_st (st' := [va_rf v44]) rfl ?_
      cases hq
      exact aw_areturn dX2_signed_27 rfl (Or.inl ⟨_, rfl⟩) (aIsR_rf _) ⟨rfl, rfl⟩
theorem kX2_product : aMk YX2_product 0 := ⟨rfl, q833, q117, ⟨by decide +kernel, by decide +kernel, by decide +kernel⟩, Nat.le_of_ble_eq_true rfl⟩
def x_X2_product_15 (g : AG) (N : Nat) (ρ : R_X2) : Nat → AH → Nat → Option Nat → Option Nat → Option ((String ⊕ Option Nat) × AH)
  | 0, _, _, _, _ => none
  | n9 + 1, h, x0, r1, r2 =>
  ocase r2 (some (.inr r1, h)) (fun a11 => (rdI h x0 [(1, 2)]).bind fun i12 => bif clB h x0 [1] then ((x_X2_node g N h x0 i12).bind fun q15 => tcase q15.1 (fun E17 => some (.inl E17, q15.2)) (fun v18 => (rdI q15.2 x0 [(1, 2)]).bind fun i19 => (wrV g q15.2 x0 [(1, 2)] (.int (i19 + (1 : Int32)))).bind fun h21 => (mkO g h21 4 5 [.null, .int 0, .null, .null]).bind fun h23 => (x_X6_init g N h23 h21.2.1 (some a11) (0 : Int32) (none)).bind fun q25 => bif clB q25 h21.2.1 [5] then ((x_X6_with g N q25 h21.2.1 r1).bind fun q28 => bif clB q28.2 x0 [1] then ((ρ.2.2.1 q28.2 x0).bind fun q31 => tcase q31.1 (fun E33 => some (.inl E33, q31.2)) (fun v34 => (q28.1).bind fun a35 => bif clB q31.2 a35 [5] then ((x_X6_with g N q31.2 a35 v34).bind fun q38 => (vR (gV g 9)).bind fun o40 => bif clB q38.2 x0 [1] then ((x_X2_signOf g N q38.2 x0 (some (gS g 4)) o40).bind fun q43 => x_X2_product_15 g N ρ n9 q43.2 x0 q38.1 q43.1) else none) else none)) else none) else none)) else none)
theorem p_x_X2_product_15 (g : AG) (hst : (gL g).stackTraces = false) (N : Nat) (ρ : R_X2) (n : Nat) (hρ : Ok_X2 g n ρ) : ∀ (n9 : Nat) (h : AH) (x0 : Nat) (r1 : Option Nat) (r2 : Option Nat) (q : ((String ⊕ Option Nat) × AH)), x_X2_product_15 g N ρ n9 h x0 r1 r2 = some q → AW g YX2_product (13 + n + 1) (tR q) h [some (.ref x0), some (va_rf r1), some (va_rf r2)] 15 [] := by
  intro n9
  induction n9 with
  | zero =>
    intro h x0 r1 r2 q hq
    cases hq
  | succ n9 ih =>
    intro h x0 r1 r2 q hq
    rw [x_X2_product_15] at hq
    refine aw_aload_n (i := 2) dX2_product_15 rfl rfl (aIsR_rf _) ?_
    rcases r2 with _ | a11
    · replace hq := ocase_n hq
      refine xw_ifnullN (tgt := 72) dX2_product_16 (by decide) ?_
      refine aw_aload_n (i := 1) dX2_product_72 rfl rfl (aIsR_rf _) ?_
      cases hq
      exact aw_areturn dX2_product_73 rfl (Or.inl ⟨_, rfl⟩) (aIsR_rf _) ⟨rfl, rfl⟩
    · replace hq := ocase_s hq
      refine xw_ifnullS (tgt := 72) dX2_product_16 (by decide) ?_
      refine aw_aload_n (i := 0) dX2_product_19 rfl rfl trivial ?_
      refine aw_aload_n (i := 0) dX2_product_20 rfl rfl trivial ?_
      replace hq := obind hq
      obtain ⟨i12, e13, hq⟩ := hq
      refine xw_getI e13 fX2_38 dX2_product_21 ?_
      replace hq := cond_t hq
      obtain ⟨z14, hq⟩ := hq
      obtain ⟨fs9, ha9⟩ := clB1 z14
      replace hq := obind hq
      obtain ⟨q15, e16, hq⟩ := hq
      refine aw_callVX (Y2 := YX2_node) (As := [.int i12]) (rest := []) (r := (RX2, TX2, 9)) kX2_node ha9 rfl rfl q854 q856 qs16 dX2_product_24 rfl rfl (ct_X2_node g hst N h x0 i12 _ e16) (by omega) (Nat.le_of_ble_eq_true rfl) (fun v9 h9 z9 y9 => ?_) (fun E17 h9 z9 y9 => ?_)
      rotate_left
      · obtain ⟨e9, rfl⟩ := tV_exc y9
        replace hq := tcase_l e9 hq
        cases hq
        exact ax_out (by decide) ⟨rfl, rfl⟩
      obtain ⟨v18, e9, rfl, rfl⟩ := tV_ret y9
      replace hq := tcase_r e9 hq
      refine aw_st (st' := []) rfl ?_
      refine aw_aload_n (i := 0) dX2_product_27 rfl rfl trivial ?_
      refine aw_dup dX2_product_28 rfl ?_
      replace hq := obind hq
      obtain ⟨i19, e20, hq⟩ := hq
      refine xw_getI e20 fX2_38 dX2_product_29 ?_
      refine aw_iconst (v := 1) dX2_product_32 (by decide) ?_
      refine aw_iadd dX2_product_33 ?_
      replace hq := obind hq
      obtain ⟨h21, e22, hq⟩ := hq
      refine xw_put e22 fX2_38 tX2_2 ⟨rfl, rfl⟩ dX2_product_34 ?_
      replace hq := obind hq
      obtain ⟨h23, e24, hq⟩ := hq
      refine xw_new (r := (RX6, TX6, 4)) e24 q858 q859 q144 (by decide) rfl okX6 rfl dfX6 dX2_product_37 ?_
      refine aw_dup dX2_product_40 rfl ?_
      refine aw_aload_n (i := 2) dX2_product_41 rfl rfl trivial ?_
      refine aw_iconst (v := 0) dX2_product_42 (by decide) ?_
      refine aw_null dX2_product_43 ?_
      replace hq := obind hq
      obtain ⟨q25, e26, hq⟩ := hq
      refine aw_callI (Y2 := YX6_init) (As := [.ref a11, .int (0 : Int32), .null]) (rest := [.ref h21.2.1]) (b := h21.2.1) kX6_init rfl rfl q873 q874 dX2_product_44 rfl rfl (ct_X6_init g hst N h23 h21.2.1 (some a11) (0 : Int32) (none) _ e26) (by omega) (Nat.le_of_ble_eq_true rfl) (fun v9 h9 z9 y9 => ?_)
      obtain ⟨rfl, y9⟩ := y9
      rw [y9]
      refine aw_st (st' := [.ref h21.2.1]) rfl ?_
      refine aw_aload_n (i := 1) dX2_product_47 rfl rfl (aIsR_rf _) ?_
      replace hq := cond_t hq
      obtain ⟨z27, hq⟩ := hq
      obtain ⟨fs9, ha9⟩ := clB1 z27
      replace hq := obind hq
      obtain ⟨q28, e29, hq⟩ := hq
      refine aw_callV (Y2 := YX6_with) (As := [va_rf r1]) (rest := []) (r := (RX6, TX6, 4)) kX6_with ha9 rfl rfl q966 q967 q968 dX2_product_48 rfl rfl (ct_X6_with g hst N q25 h21.2.1 r1 _ e29) (by omega) (Nat.le_of_ble_eq_true rfl) (fun v9 h9 z9 y9 => ?_)
      obtain ⟨rfl, rfl⟩ := y9
      refine aw_st (st' := [va_rf q28.1]) rfl ?_
      refine aw_aload_n (i := 0) dX2_product_51 rfl rfl trivial ?_
      replace hq := cond_t hq
      obtain ⟨z30, hq⟩ := hq
      obtain ⟨fs9, ha9⟩ := clB1 z30
      replace hq := obind hq
      obtain ⟨q31, e32, hq⟩ := hq
      refine aw_callVX (Y2 := YX2_signed) (As := []) (rest := [va_rf q28.1]) (r := (RX2, TX2, 9)) kX2_signed ha9 rfl rfl q834 q836 qs11 dX2_product_52 rfl rfl (hρ.2.2.1 q28.2 x0 _ e32) (Nat.le_refl _) (by simp only [List.map_cons, List.map_nil, List.sum_cons, List.sum_nil, cat_rf]; exact Nat.le_of_ble_eq_true rfl) (fun v9 h9 z9 y9 => ?_) (fun E33 h9 z9 y9 => ?_)
      rotate_left
      · obtain ⟨e9, rfl⟩ := tR_exc y9
        replace hq := tcase_l e9 hq
        cases hq
        exact ax_out (by decide) ⟨rfl, rfl⟩
      obtain ⟨v34, e9, rfl, rfl⟩ := tR_ret y9
      replace hq := tcase_r e9 hq
      refine aw_st (st' := [va_rf v34, va_rf q28.1]) rfl ?_
      replace hq := obind hq
      obtain ⟨a35, e36, hq⟩ := hq
      rw [e36]
      replace hq := cond_t hq
      obtain ⟨z37, hq⟩ := hq
      obtain ⟨fs9, ha9⟩ := clB1 z37
      replace hq := obind hq
      obtain ⟨q38, e39, hq⟩ := hq
      refine aw_callV (Y2 := YX6_with) (As := [va_rf v34]) (rest := []) (r := (RX6, TX6, 4)) kX6_with ha9 rfl rfl q966 q967 q968 dX2_product_55 rfl rfl (ct_X6_with g hst N q31.2 a35 v34 _ e39) (by omega) (Nat.le_of_ble_eq_true rfl) (fun v9 h9 z9 y9 => ?_)
      obtain ⟨rfl, rfl⟩ := y9
      refine aw_st (st' := [va_rf q38.1]) rfl ?_
      refine aw_astore_n (i := 1) (loc' := [some (.ref x0), some (va_rf q38.1), some (.ref a11)]) dX2_product_58 rfl (Nat.le_of_ble_eq_true rfl) (aIsR_rf _) rfl ?_
      refine aw_aload_n (i := 0) dX2_product_59 rfl rfl trivial ?_
      refine aw_ldcS (i := 4) rfl dX2_product_60 ?_
      replace hq := obind hq
      obtain ⟨o40, e41, hq⟩ := hq
      refine xw_gets (i := 9) (vR_eq e41) rfl q1040 dX2_product_62 rfl ?_
      replace hq := cond_t hq
      obtain ⟨z42, hq⟩ := hq
      obtain ⟨fs9, ha9⟩ := clB1 z42
      replace hq := obind hq
      obtain ⟨q43, e44, hq⟩ := hq
      refine aw_callV (Y2 := YX2_signOf) (As := [.ref (gS g 4), va_rf o40]) (rest := []) (r := (RX2, TX2, 9)) kX2_signOf ha9 rfl rfl q1042 q1044 qs23 dX2_product_65 rfl rfl (ct_X2_signOf g hst N q38.2 x0 (some (gS g 4)) o40 _ e44) (by omega) (Nat.le_of_ble_eq_true rfl) (fun v9 h9 z9 y9 => ?_)
      obtain ⟨rfl, rfl⟩ := y9
      refine aw_st (st' := [va_rf q43.1]) rfl ?_
      refine aw_astore_n (i := 2) (loc' := [some (.ref x0), some (va_rf q38.1), some (va_rf q43.1)]) dX2_product_68 rfl (Nat.le_of_ble_eq_true rfl) (aIsR_rf _) (aset1_rf rfl) ?_
      refine aw_goto (tgt := 15) dX2_product_69 (by decide) ?_
      exact ih q43.2 x0 q38.1 q43.1 _ hq
def xb_X2_product (g : AG) (N : Nat) (ρ : R_X2) (h : AH) (x0 : Nat) : Option ((String ⊕ Option Nat) × AH) :=
  bif clB h x0 [1] then ((ρ.2.2.1 h x0).bind fun q2 => tcase q2.1 (fun E4 => some (.inl E4, q2.2)) (fun v5 => (vR (gV g 9)).bind fun o6 => bif clB q2.2 x0 [1] then ((x_X2_signOf g N q2.2 x0 (some (gS g 4)) o6).bind fun q9 => x_X2_product_15 g N ρ  N q9.2 x0 v5 q9.1) else none)) else none
theorem cb_X2_product (g : AG) (hst : (gL g).stackTraces = false) (N : Nat) (ρ : R_X2) (n : Nat) (hρ : Ok_X2 g n ρ) : ∀ (h : AH) (x0 : Nat) (q : ((String ⊕ Option Nat) × AH)), xb_X2_product g N ρ h x0 = some q → CT g YX2_product (13 + n + 1) [.ref x0] h (tR q) := by
  intro h x0 q hq
  refine CT.of rfl (by decide +kernel) (loc := [some (.ref x0), none, none]) (by first | exact Nat.le_of_ble_eq_true rfl | (simp only [lgl_rf, lgl_i, lgl_j, lgl_ref, lgl_nil]; exact Nat.le_of_ble_eq_true rfl)) (by first | rfl | (simp only [aent_rf, aent_i, aent_j, aent_ref, aent_nil]; rfl)) ?_
  unfold xb_X2_product at hq
  refine aw_aload_n (i := 0) dX2_product_0 rfl rfl trivial ?_
  replace hq := cond_t hq
  obtain ⟨z1, hq⟩ := hq
  obtain ⟨fs9, ha9⟩ := clB1 z1
  replace hq := obind hq
  obtain ⟨q2, e3, hq⟩ := hq
  refine aw_callVX (Y2 := YX2_signed) (As := []) (rest := []) (r := (RX2, TX2, 9)) kX2_signed ha9 rfl rfl q834 q836 qs11 dX2_product_1 rfl rfl (hρ.2.2.1 h x0 _ e3) (Nat.le_refl _) (Nat.le_of_ble_eq_true rfl) (fun v9 h9 z9 y9 => ?_) (fun E4 h9 z9 y9 => ?_)
  rotate_left
  · obtain ⟨e9, rfl⟩ := tR_exc y9
    replace hq := tcase_l e9 hq
    cases hq
    exact ax_out (by decide) ⟨rfl, rfl⟩
  obtain ⟨v5, e9, rfl, rfl⟩ := tR_ret y9
  replace hq := tcase_r e9 hq
  refine aw_st (st' := [va_rf v5]) rfl ?_
  refine aw_astore_n (i := 1) (loc' := [some (.ref x0), some (va_rf v5), none]) dX2_product_4 rfl (Nat.le_of_ble_eq_true rfl) (aIsR_rf _) rfl ?_
  refine aw_aload_n (i := 0) dX2_product_5 rfl rfl trivial ?_
  refine aw_ldcS (i := 4) rfl dX2_product_6 ?_
  replace hq := obind hq
  obtain ⟨o6, e7, hq⟩ := hq
  refine xw_gets (i := 9) (vR_eq e7) rfl q1040 dX2_product_8 rfl ?_
  replace hq := cond_t hq
  obtain ⟨z8, hq⟩ := hq
  obtain ⟨fs9, ha9⟩ := clB1 z8
  replace hq := obind hq
  obtain ⟨q9, e10, hq⟩ := hq
  refine aw_callV (Y2 := YX2_signOf) (As := [.ref (gS g 4), va_rf o6]) (rest := []) (r := (RX2, TX2, 9)) kX2_signOf ha9 rfl rfl q1042 q1044 qs23 dX2_product_11 rfl rfl (ct_X2_signOf g hst N q2.2 x0 (some (gS g 4)) o6 _ e10) (by omega) (Nat.le_of_ble_eq_true rfl) (fun v9 h9 z9 y9 => ?_)
  obtain ⟨rfl, rfl⟩ := y9
  refine aw_st (st' := [va_rf q9.1]) rfl ?_
  refine aw_astore_n (i := 2) (loc' := [some (.ref x0), some (va_rf v5), some (va_rf q9.1)]) dX2_product_14 rfl (Nat.le_of_ble_eq_true rfl) (aIsR_rf _) (aset1_rf rfl) ?_
  exact p_x_X2_product_15 g hst N ρ n hρ   N q9.2 x0 v5 q9.1 _ hq
theorem kX2_sum : aMk YX2_sum 0 := ⟨rfl, q829, q117, ⟨by decide +kernel, by decide +kernel, by decide +kernel⟩, Nat.le_of_ble_eq_true rfl⟩
def x_X2_sum_15 (g : AG) (N : Nat) (ρ : R_X2) : Nat → AH → Nat → Option Nat → Option Nat → Option ((String ⊕ Option Nat) × AH)
  | 0, _, _, _, _ => none
  | n9 + 1, h, x0, r1, r2 =>
  ocase r2 (some (.inr r1, h)) (fun a11 => (rdI h x0 [(1, 2)]).bind fun i12 => bif clB h x0 [1] then ((x_X2_node g N h x0 i12).bind fun q15 => tcase q15.1 (fun E17 => some (.inl E17, q15.2)) (fun v18 => (rdI q15.2 x0 [(1, 2)]).bind fun i19 => (wrV g q15.2 x0 [(1, 2)] (.int (i19 + (1 : Int32)))).bind fun h21 => (mkO g h21 4 5 [.null, .int 0, .null, .null]).bind fun h23 => (x_X6_init g N h23 h21.2.1 (some a11) (0 : Int32) (none)).bind fun q25 => bif clB q25 h21.2.1 [5] then ((x_X6_with g N q25 h21.2.1 r1).bind fun q28 => bif clB q28.2 x0 [1] then ((ρ.2.2.2.1 q28.2 x0).bind fun q31 => tcase q31.1 (fun E33 => some (.inl E33, q31.2)) (fun v34 => (q28.1).bind fun a35 => bif clB q31.2 a35 [5] then ((x_X6_with g N q31.2 a35 v34).bind fun q38 => (vR (gV g 7)).bind fun o40 => bif clB q38.2 x0 [1] then ((x_X2_signOf g N q38.2 x0 (some (gS g 5)) o40).bind fun q43 => x_X2_sum_15 g N ρ n9 q43.2 x0 q38.1 q43.1) else none) else none)) else none) else none)) else none)
theorem p_x_X2_sum_15 (g : AG) (hst : (gL g).stackTraces = false) (N : Nat) (ρ : R_X2) (n : Nat) (hρ : Ok_X2 g n ρ) : ∀ (n9 : Nat) (h : AH) (x0 : Nat) (r1 : Option Nat) (r2 : Option Nat) (q : ((String ⊕ Option Nat) × AH)), x_X2_sum_15 g N ρ n9 h x0 r1 r2 = some q → AW g YX2_sum (13 + n + 1) (tR q) h [some (.ref x0), some (va_rf r1), some (va_rf r2)] 15 [] := by
  intro n9
  induction n9 with
  | zero =>
    intro h x0 r1 r2 q hq
    cases hq
  | succ n9 ih =>
    intro h x0 r1 r2 q hq
    rw [x_X2_sum_15] at hq
    refine aw_aload_n (i := 2) dX2_sum_15 rfl rfl (aIsR_rf _) ?_
    rcases r2 with _ | a11
    · replace hq := ocase_n hq
      refine xw_ifnullN (tgt := 72) dX2_sum_16 (by decide) ?_
      refine aw_aload_n (i := 1) dX2_sum_72 rfl rfl (aIsR_rf _) ?_
      cases hq
      exact aw_areturn dX2_sum_73 rfl (Or.inl ⟨_, rfl⟩) (aIsR_rf _) ⟨rfl, rfl⟩
    · replace hq := ocase_s hq
      refine xw_ifnullS (tgt := 72) dX2_sum_16 (by decide) ?_
      refine aw_aload_n (i := 0) dX2_sum_19 rfl rfl trivial ?_
      refine aw_aload_n (i := 0) dX2_sum_20 rfl rfl trivial ?_
      replace hq := obind hq
      obtain ⟨i12, e13, hq⟩ := hq
      refine xw_getI e13 fX2_38 dX2_sum_21 ?_
      replace hq := cond_t hq
      obtain ⟨z14, hq⟩ := hq
      obtain ⟨fs9, ha9⟩ := clB1 z14
      replace hq := obind hq
      obtain ⟨q15, e16, hq⟩ := hq
      refine aw_callVX (Y2 := YX2_node) (As := [.int i12]) (rest := []) (r := (RX2, TX2, 9)) kX2_node ha9 rfl rfl q854 q856 qs16 dX2_sum_24 rfl rfl (ct_X2_node g hst N h x0 i12 _ e16) (by omega) (Nat.le_of_ble_eq_true rfl) (fun v9 h9 z9 y9 => ?_) (fun E17 h9 z9 y9 => ?_)
      rotate_left
      · obtain ⟨e9, rfl⟩ := tV_exc y9
        replace hq := tcase_l e9 hq
        cases hq
        exact ax_out (by decide) ⟨rfl, rfl⟩
      obtain ⟨v18, e9, rfl, rfl⟩ := tV_ret y9
      replace hq := tcase_r e9 hq
      refine aw_st (st' := []) rfl ?_
      refine aw_aload_n (i := 0) dX2_sum_27 rfl rfl trivial ?_
      refine aw_dup dX2_sum_28 rfl ?_
      replace hq := obind hq
      obtain ⟨i19, e20, hq⟩ := hq
      refine xw_getI e20 fX2_38 dX2_sum_29 ?_
      refine aw_iconst (v := 1) dX2_sum_32 (by decide) ?_
      refine aw_iadd dX2_sum_33 ?_
      replace hq := obind hq
      obtain ⟨h21, e22, hq⟩ := hq
      refine xw_put e22 fX2_38 tX2_2 ⟨rfl, rfl⟩ dX2_sum_34 ?_
      replace hq := obind hq
      obtain ⟨h23, e24, hq⟩ := hq
      refine xw_new (r := (RX6, TX6, 4)) e24 q858 q859 q144 (by decide) rfl okX6 rfl dfX6 dX2_sum_37 ?_
      refine aw_dup dX2_sum_40 rfl ?_
      refine aw_aload_n (i := 2) dX2_sum_41 rfl rfl trivial ?_
      refine aw_iconst (v := 0) dX2_sum_42 (by decide) ?_
      refine aw_null dX2_sum_43 ?_
      replace hq := obind hq
      obtain ⟨q25, e26, hq⟩ := hq
      refine aw_callI (Y2 := YX6_init) (As := [.ref a11, .int (0 : Int32), .null]) (rest := [.ref h21.2.1]) (b := h21.2.1) kX6_init rfl rfl q873 q874 dX2_sum_44 rfl rfl (ct_X6_init g hst N h23 h21.2.1 (some a11) (0 : Int32) (none) _ e26) (by omega) (Nat.le_of_ble_eq_true rfl) (fun v9 h9 z9 y9 => ?_)
      obtain ⟨rfl, y9⟩ := y9
      rw [y9]
      refine aw_st (st' := [.ref h21.2.1]) rfl ?_
      refine aw_aload_n (i := 1) dX2_sum_47 rfl rfl (aIsR_rf _) ?_
      replace hq := cond_t hq
      obtain ⟨z27, hq⟩ := hq
      obtain ⟨fs9, ha9⟩ := clB1 z27
      replace hq := obind hq
      obtain ⟨q28, e29, hq⟩ := hq
      refine aw_callV (Y2 := YX6_with) (As := [va_rf r1]) (rest := []) (r := (RX6, TX6, 4)) kX6_with ha9 rfl rfl q966 q967 q968 dX2_sum_48 rfl rfl (ct_X6_with g hst N q25 h21.2.1 r1 _ e29) (by omega) (Nat.le_of_ble_eq_true rfl) (fun v9 h9 z9 y9 => ?_)
      obtain ⟨rfl, rfl⟩ := y9
      refine aw_st (st' := [va_rf q28.1]) rfl ?_
      refine aw_aload_n (i := 0) dX2_sum_51 rfl rfl trivial ?_
      replace hq := cond_t hq
      obtain ⟨z30, hq⟩ := hq
      obtain ⟨fs9, ha9⟩ := clB1 z30
      replace hq := obind hq
      obtain ⟨q31, e32, hq⟩ := hq
      refine aw_callVX (Y2 := YX2_product) (As := []) (rest := [va_rf q28.1]) (r := (RX2, TX2, 9)) kX2_product ha9 rfl rfl q830 q832 qs10 dX2_sum_52 rfl rfl (hρ.2.2.2.1 q28.2 x0 _ e32) (Nat.le_refl _) (by simp only [List.map_cons, List.map_nil, List.sum_cons, List.sum_nil, cat_rf]; exact Nat.le_of_ble_eq_true rfl) (fun v9 h9 z9 y9 => ?_) (fun E33 h9 z9 y9 => ?_)
      rotate_left
      · obtain ⟨e9, rfl⟩ := tR_exc y9
        replace hq := tcase_l e9 hq
        cases hq
        exact ax_out (by decide) ⟨rfl, rfl⟩
      obtain ⟨v34, e9, rfl, rfl⟩ := tR_ret y9
      replace hq := tcase_r e9 hq
      refine aw_st (st' := [va_rf v34, va_rf q28.1]) rfl ?_
      replace hq := obind hq
      obtain ⟨a35, e36, hq⟩ := hq
      rw [e36]
      replace hq := cond_t hq
      obtain ⟨z37, hq⟩ := hq
      obtain ⟨fs9, ha9⟩ := clB1 z37
      replace hq := obind hq
      obtain ⟨q38, e39, hq⟩ := hq
      refine aw_callV (Y2 := YX6_with) (As := [va_rf v34]) (rest := []) (r := (RX6, TX6, 4)) kX6_with ha9 rfl rfl q966 q967 q968 dX2_sum_55 rfl rfl (ct_X6_with g hst N q31.2 a35 v34 _ e39) (by omega) (Nat.le_of_ble_eq_true rfl) (fun v9 h9 z9 y9 => ?_)
      obtain ⟨rfl, rfl⟩ := y9
      refine aw_st (st' := [va_rf q38.1]) rfl ?_
      refine aw_astore_n (i := 1) (loc' := [some (.ref x0), some (va_rf q38.1), some (.ref a11)]) dX2_sum_58 rfl (Nat.le_of_ble_eq_true rfl) (aIsR_rf _) rfl ?_
      refine aw_aload_n (i := 0) dX2_sum_59 rfl rfl trivial ?_
      refine aw_ldcS (i := 5) rfl dX2_sum_60 ?_
      replace hq := obind hq
      obtain ⟨o40, e41, hq⟩ := hq
      refine xw_gets (i := 7) (vR_eq e41) rfl q1064 dX2_sum_62 rfl ?_
      replace hq := cond_t hq
      obtain ⟨z42, hq⟩ := hq
      obtain ⟨fs9, ha9⟩ := clB1 z42
      replace hq := obind hq
      obtain ⟨q43, e44, hq⟩ := hq
      refine aw_callV (Y2 := YX2_signOf) (As := [.ref (gS g 5), va_rf o40]) (rest := []) (r := (RX2, TX2, 9)) kX2_signOf ha9 rfl rfl q1042 q1044 qs23 dX2_sum_65 rfl rfl (ct_X2_signOf g hst N q38.2 x0 (some (gS g 5)) o40 _ e44) (by omega) (Nat.le_of_ble_eq_true rfl) (fun v9 h9 z9 y9 => ?_)
      obtain ⟨rfl, rfl⟩ := y9
      refine aw_st (st' := [va_rf q43.1]) rfl ?_
      refine aw_astore_n (i := 2) (loc' := [some (.ref x0), some (va_rf q38.1), some (va_rf q43.1)]) dX2_sum_68 rfl (Nat.le_of_ble_eq_true rfl) (aIsR_rf _) (aset1_rf rfl) ?_
      refine aw_goto (tgt := 15) dX2_sum_69 (by decide) ?_
      exact ih q43.2 x0 q38.1 q43.1 _ hq
def xb_X2_sum (g : AG) (N : Nat) (ρ : R_X2) (h : AH) (x0 : Nat) : Option ((String ⊕ Option Nat) × AH) :=
  bif clB h x0 [1] then ((ρ.2.2.2.1 h x0).bind fun q2 => tcase q2.1 (fun E4 => some (.inl E4, q2.2)) (fun v5 => (vR (gV g 7)).bind fun o6 => bif clB q2.2 x0 [1] then ((x_X2_signOf g N q2.2 x0 (some (gS g 5)) o6).bind fun q9 => x_X2_sum_15 g N ρ  N q9.2 x0 v5 q9.1) else none)) else none
theorem cb_X2_sum (g : AG) (hst : (gL g).stackTraces = false) (N : Nat) (ρ : R_X2) (n : Nat) (hρ : Ok_X2 g n ρ) : ∀ (h : AH) (x0 : Nat) (q : ((String ⊕ Option Nat) × AH)), xb_X2_sum g N ρ h x0 = some q → CT g YX2_sum (13 + n + 1) [.ref x0] h (tR q) := by
  intro h x0 q hq
  refine CT.of rfl (by decide +kernel) (loc := [some (.ref x0), none, none]) (by first | exact Nat.le_of_ble_eq_true rfl | (simp only [lgl_rf, lgl_i, lgl_j, lgl_ref, lgl_nil]; exact Nat.le_of_ble_eq_true rfl)) (by first | rfl | (simp only [aent_rf, aent_i, aent_j, aent_ref, aent_nil]; rfl)) ?_
  unfold xb_X2_sum at hq
  refine aw_aload_n (i := 0) dX2_sum_0 rfl rfl trivial ?_
  replace hq := cond_t hq
  obtain ⟨z1, hq⟩ := hq
  obtain ⟨fs9, ha9⟩ := clB1 z1
  replace hq := obind hq
  obtain ⟨q2, e3, hq⟩ := hq
  refine aw_callVX (Y2 := YX2_product) (As := []) (rest := []) (r := (RX2, TX2, 9)) kX2_product ha9 rfl rfl q830 q832 qs10 dX2_sum_1 rfl rfl (hρ.2.2.2.1 h x0 _ e3) (Nat.le_refl _) (Nat.le_of_ble_eq_true rfl) (fun v9 h9 z9 y9 => ?_) (fun E4 h9 z9 y9 => ?_)
  rotate_left
  · obtain ⟨e9, rfl⟩ := tR_exc y9
    replace hq := tcase_l e9 hq
    cases hq
    exact ax_out (by decide) ⟨rfl, rfl⟩
  obtain ⟨v5, e9, rfl, rfl⟩ := tR_ret y9
  replace hq := tcase_r e9 hq
  refine aw_st (st' := [va_rf v5]) rfl ?_
  refine aw_astore_n (i := 1) (loc' := [some (.ref x0), some (va_rf v5), none]) dX2_sum_4 rfl (Nat.le_of_ble_eq_true rfl) (aIsR_rf _) rfl ?_
  refine aw_aload_n (i := 0) dX2_sum_5 rfl rfl trivial ?_
  refine aw_ldcS (i := 5) rfl dX2_sum_6 ?_
  replace hq := obind hq
  obtain ⟨o6, e7, hq⟩ := hq
  refine xw_gets (i := 7) (vR_eq e7) rfl q1064 dX2_sum_8 rfl ?_
  replace hq := cond_t hq
  obtain ⟨z8, hq⟩ := hq
  obtain ⟨fs9, ha9⟩ := clB1 z8
  replace hq := obind hq
  obtain ⟨q9, e10, hq⟩ := hq
  refine aw_callV (Y2 := YX2_signOf) (As := [.ref (gS g 5), va_rf o6]) (rest := []) (r := (RX2, TX2, 9)) kX2_signOf ha9 rfl rfl q1042 q1044 qs23 dX2_sum_11 rfl rfl (ct_X2_signOf g hst N q2.2 x0 (some (gS g 5)) o6 _ e10) (by omega) (Nat.le_of_ble_eq_true rfl) (fun v9 h9 z9 y9 => ?_)
  obtain ⟨rfl, rfl⟩ := y9
  refine aw_st (st' := [va_rf q9.1]) rfl ?_
  refine aw_astore_n (i := 2) (loc' := [some (.ref x0), some (va_rf v5), some (va_rf q9.1)]) dX2_sum_14 rfl (Nat.le_of_ble_eq_true rfl) (aIsR_rf _) (aset1_rf rfl) ?_
  exact p_x_X2_sum_15 g hst N ρ n hρ   N q9.2 x0 v5 q9.1 _ hq
theorem kX2_compared : aMk YX2_compared 0 := ⟨rfl, q825, q117, ⟨by decide +kernel, by decide +kernel, by decide +kernel⟩, Nat.le_of_ble_eq_true rfl⟩
def xb_X2_compared (g : AG) (N : Nat) (ρ : R_X2) (h : AH) (x0 : Nat) : Option ((String ⊕ Option Nat) × AH) :=
  bif clB h x0 [1] then ((ρ.2.2.2.2.1 h x0).bind fun q2 => tcase q2.1 (fun E4 => some (.inl E4, q2.2)) (fun v5 => (vR (gV g 12)).bind fun o6 => bif clB q2.2 x0 [1] then ((x_X2_signOf g N q2.2 x0 (some (gS g 6)) o6).bind fun q9 => ocase q9.1 (some (.inr v5, q9.2)) (fun a11 => (rdI q9.2 x0 [(1, 2)]).bind fun i12 => bif clB q9.2 x0 [1] then ((x_X2_node g N q9.2 x0 i12).bind fun q15 => tcase q15.1 (fun E17 => some (.inl E17, q15.2)) (fun v18 => (rdI q15.2 x0 [(1, 2)]).bind fun i19 => (wrV g q15.2 x0 [(1, 2)] (.int (i19 + (1 : Int32)))).bind fun h21 => (mkO g h21 4 5 [.null, .int 0, .null, .null]).bind fun h23 => (x_X6_init g N h23 h21.2.1 (some a11) (0 : Int32) (none)).bind fun q25 => bif clB q25 h21.2.1 [5] then ((x_X6_with g N q25 h21.2.1 v5).bind fun q28 => bif clB q28.2 x0 [1] then ((ρ.2.2.2.2.1 q28.2 x0).bind fun q31 => tcase q31.1 (fun E33 => some (.inl E33, q31.2)) (fun v34 => (q28.1).bind fun a35 => bif clB q31.2 a35 [5] then ((x_X6_with g N q31.2 a35 v34).bind fun q38 => some (.inr q38.1, q38.2)) else none)) else none) else none)) else none)) else none)) else none
theorem cb_X2_compared (g : AG) (hst : (gL g).stackTraces = false) (N : Nat) (ρ : R_X2) (n : Nat) (hρ : Ok_X2 g n ρ) : ∀ (h : AH) (x0 : Nat) (q : ((String ⊕ Option Nat) × AH)), xb_X2_compared g N ρ h x0 = some q → CT g YX2_compared (13 + n + 1) [.ref x0] h (tR q) := by
  intro h x0 q hq
  refine CT.of rfl (by decide +kernel) (loc := [some (.ref x0), none, none]) (by first | exact Nat.le_of_ble_eq_true rfl | (simp only [lgl_rf, lgl_i, lgl_j, lgl_ref, lgl_nil]; exact Nat.le_of_ble_eq_true rfl)) (by first | rfl | (simp only [aent_rf, aent_i, aent_j, aent_ref, aent_nil]; rfl)) ?_
  unfold xb_X2_compared at hq
  refine aw_aload_n (i := 0) dX2_compared_0 rfl rfl trivial ?_
  replace hq := cond_t hq
  obtain ⟨z1, hq⟩ := hq
  obtain ⟨fs9, ha9⟩ := clB1 z1
  replace hq := obind hq
  obtain ⟨q2, e3, hq⟩ := hq
  refine aw_callVX (Y2 := YX2_sum) (As := []) (rest := []) (r := (RX2, TX2, 9)) kX2_sum ha9 rfl rfl q826 q828 qs9 dX2_compared_1 rfl rfl (hρ.2.2.2.2.1 h x0 _ e3) (Nat.le_refl _) (Nat.le_of_ble_eq_true rfl) (fun v9 h9 z9 y9 => ?_) (fun E4 h9 z9 y9 => ?_)
  rotate_left
  · obtain ⟨e9, rfl⟩ := tR_exc y9
    replace hq := tcase_l e9 hq
    cases hq
    exact ax_out (by decide) ⟨rfl, rfl⟩
  obtain ⟨v5, e9, rfl, rfl⟩ := tR_ret y9
  replace hq := tcase_r e9 hq
  refine aw_st (st' := [va_rf v5]) rfl ?_
  refine aw_astore_n (i := 1) (loc' := [some (.ref x0), some (va_rf v5), none]) dX2_compared_4 rfl (Nat.le_of_ble_eq_true rfl) (aIsR_rf _) rfl ?_
  refine aw_aload_n (i := 0) dX2_compared_5 rfl rfl trivial ?_
  refine aw_ldcS (i := 6) rfl dX2_compared_6 ?_
  replace hq := obind hq
  obtain ⟨o6, e7, hq⟩ := hq
  refine xw_gets (i := 12) (vR_eq e7) rfl q1067 dX2_compared_8 rfl ?_
  replace hq := cond_t hq
  obtain ⟨z8, hq⟩ := hq
  obtain ⟨fs9, ha9⟩ := clB1 z8
  replace hq := obind hq
  obtain ⟨q9, e10, hq⟩ := hq
  refine aw_callV (Y2 := YX2_signOf) (As := [.ref (gS g 6), va_rf o6]) (rest := []) (r := (RX2, TX2, 9)) kX2_signOf ha9 rfl rfl q1042 q1044 qs23 dX2_compared_11 rfl rfl (ct_X2_signOf g hst N q2.2 x0 (some (gS g 6)) o6 _ e10) (by omega) (Nat.le_of_ble_eq_true rfl) (fun v9 h9 z9 y9 => ?_)
  obtain ⟨rfl, rfl⟩ := y9
  refine aw_st (st' := [va_rf q9.1]) rfl ?_
  refine aw_astore_n (i := 2) (loc' := [some (.ref x0), some (va_rf v5), some (va_rf q9.1)]) dX2_compared_14 rfl (Nat.le_of_ble_eq_true rfl) (aIsR_rf _) (aset1_rf rfl) ?_
  refine aw_aload_n (i := 2) dX2_compared_15 rfl rfl (aIsR_rf _) ?_
  generalize q9.1 = v9 at hq ⊢
  rcases v9 with _ | a11
  · replace hq := ocase_n hq
    refine xw_ifnonN (tgt := 21) dX2_compared_16 (by decide) ?_
    refine aw_aload_n (i := 1) dX2_compared_19 rfl rfl (aIsR_rf _) ?_
    cases hq
    exact aw_areturn dX2_compared_20 rfl (Or.inl ⟨_, rfl⟩) (aIsR_rf _) ⟨rfl, rfl⟩
  · replace hq := ocase_s hq
    refine xw_ifnonS (tgt := 21) dX2_compared_16 (by decide) ?_
    refine aw_aload_n (i := 0) dX2_compared_21 rfl rfl trivial ?_
    refine aw_aload_n (i := 0) dX2_compared_22 rfl rfl trivial ?_
    replace hq := obind hq
    obtain ⟨i12, e13, hq⟩ := hq
    refine xw_getI e13 fX2_38 dX2_compared_23 ?_
    replace hq := cond_t hq
    obtain ⟨z14, hq⟩ := hq
    obtain ⟨fs9, ha9⟩ := clB1 z14
    replace hq := obind hq
    obtain ⟨q15, e16, hq⟩ := hq
    refine aw_callVX (Y2 := YX2_node) (As := [.int i12]) (rest := []) (r := (RX2, TX2, 9)) kX2_node ha9 rfl rfl q854 q856 qs16 dX2_compared_26 rfl rfl (ct_X2_node g hst N q9.2 x0 i12 _ e16) (by omega) (Nat.le_of_ble_eq_true rfl) (fun v9 h9 z9 y9 => ?_) (fun E17 h9 z9 y9 => ?_)
    rotate_left
    · obtain ⟨e9, rfl⟩ := tV_exc y9
      replace hq := tcase_l e9 hq
      cases hq
      exact ax_out (by decide) ⟨rfl, rfl⟩
    obtain ⟨v18, e9, rfl, rfl⟩ := tV_ret y9
    replace hq := tcase_r e9 hq
    refine aw_st (st' := []) rfl ?_
    refine aw_aload_n (i := 0) dX2_compared_29 rfl rfl trivial ?_
    refine aw_dup dX2_compared_30 rfl ?_
    replace hq := obind hq
    obtain ⟨i19, e20, hq⟩ := hq
    refine xw_getI e20 fX2_38 dX2_compared_31 ?_
    refine aw_iconst (v := 1) dX2_compared_34 (by decide) ?_
    refine aw_iadd dX2_compared_35 ?_
    replace hq := obind hq
    obtain ⟨h21, e22, hq⟩ := hq
    refine xw_put e22 fX2_38 tX2_2 ⟨rfl, rfl⟩ dX2_compared_36 ?_
    replace hq := obind hq
    obtain ⟨h23, e24, hq⟩ := hq
    refine xw_new (r := (RX6, TX6, 4)) e24 q858 q859 q144 (by decide) rfl okX6 rfl dfX6 dX2_compared_39 ?_
    refine aw_dup dX2_compared_42 rfl ?_
    refine aw_aload_n (i := 2) dX2_compared_43 rfl rfl trivial ?_
    refine aw_iconst (v := 0) dX2_compared_44 (by decide) ?_
    refine aw_null dX2_compared_45 ?_
    replace hq := obind hq
    obtain ⟨q25, e26, hq⟩ := hq
    refine aw_callI (Y2 := YX6_init) (As := [.ref a11, .int (0 : Int32), .null]) (rest := [.ref h21.2.1]) (b := h21.2.1) kX6_init rfl rfl q873 q874 dX2_compared_46 rfl rfl (ct_X6_init g hst N h23 h21.2.1 (some a11) (0 : Int32) (none) _ e26) (by omega) (Nat.le_of_ble_eq_true rfl) (fun v9 h9 z9 y9 => ?_)
    obtain ⟨rfl, y9⟩ := y9
    rw [y9]
    refine aw_st (st' := [.ref h21.2.1]) rfl ?_
    refine aw_aload_n (i := 1) dX2_compared_49 rfl rfl (aIsR_rf _) ?_
    replace hq := cond_t hq
    obtain ⟨z27, hq⟩ := hq
    obtain ⟨fs9, ha9⟩ := clB1 z27
    replace hq := obind hq
    obtain ⟨q28, e29, hq⟩ := hq
    refine aw_callV (Y2 := YX6_with) (As := [va_rf v5]) (rest := []) (r := (RX6, TX6, 4)) kX6_with ha9 rfl rfl q966 q967 q968 dX2_compared_50 rfl rfl (ct_X6_with g hst N q25 h21.2.1 v5 _ e29) (by omega) (Nat.le_of_ble_eq_true rfl) (fun v9 h9 z9 y9 => ?_)
    obtain ⟨rfl, rfl⟩ := y9
    refine aw_st (st' := [va_rf q28.1]) rfl ?_
    refine aw_aload_n (i := 0) dX2_compared_53 rfl rfl trivial ?_
    replace hq := cond_t hq
    obtain ⟨z30, hq⟩ := hq
    obtain ⟨fs9, ha9⟩ := clB1 z30
    replace hq := obind hq
    obtain ⟨q31, e32, hq⟩ := hq
    refine aw_callVX (Y2 := YX2_sum) (As := []) (rest := [va_rf q28.1]) (r := (RX2, TX2, 9)) kX2_sum ha9 rfl rfl q826 q828 qs9 dX2_compared_54 rfl rfl (hρ.2.2.2.2.1 q28.2 x0 _ e32) (Nat.le_refl _) (by simp only [List.map_cons, List.map_nil, List.sum_cons, List.sum_nil, cat_rf]; exact Nat.le_of_ble_eq_true rfl) (fun v9 h9 z9 y9 => ?_) (fun E33 h9 z9 y9 => ?_)
    rotate_left
    · obtain ⟨e9, rfl⟩ := tR_exc y9
      replace hq := tcase_l e9 hq
      cases hq
      exact ax_out (by decide) ⟨rfl, rfl⟩
    obtain ⟨v34, e9, rfl, rfl⟩ := tR_ret y9
    replace hq := tcase_r e9 hq
    refine aw_st (st' := [va_rf v34, va_rf q28.1]) rfl ?_
    replace hq := obind hq
    obtain ⟨a35, e36, hq⟩ := hq
    rw [e36]
    replace hq := cond_t hq
    obtain ⟨z37, hq⟩ := hq
    obtain ⟨fs9, ha9⟩ := clB1 z37
    replace hq := obind hq
    obtain ⟨q38, e39, hq⟩ := hq
    refine aw_callV (Y2 := YX6_with) (As := [va_rf v34]) (rest := []) (r := (RX6, TX6, 4)) kX6_with ha9 rfl rfl q966 q967 q968 dX2_compared_57 rfl rfl (ct_X6_with g hst N q31.2 a35 v34 _ e39) (by omega) (Nat.le_of_ble_eq_true rfl) (fun v9 h9 z9 y9 => ?_)
    obtain ⟨rfl, rfl⟩ := y9
    refine aw_st (st' := [va_rf q38.1]) rfl ?_
    cases hq
    exact aw_areturn dX2_compared_60 rfl (Or.inl ⟨_, rfl⟩) (aIsR_rf _) ⟨rfl, rfl⟩
theorem kX2_chosen : aMk YX2_chosen 0 := ⟨rfl, q821, q117, ⟨by decide +kernel, by decide +kernel, by decide +kernel⟩, Nat.le_of_ble_eq_true rfl⟩
def xb_X2_chosen (g : AG) (N : Nat) (ρ : R_X2) (h : AH) (x0 : Nat) : Option ((String ⊕ Option Nat) × AH) :=
  bif clB h x0 [1] then ((ρ.2.2.2.2.2.1 h x0).bind fun q2 => tcase q2.1 (fun E4 => some (.inl E4, q2.2)) (fun v5 => bif clB q2.2 x0 [1] then ((x_X2_peek g N q2.2 x0).bind fun q7 => if q7.1 = (63 : Int32) then ((rdI q7.2 x0 [(1, 2)]).bind fun i10 => bif clB q7.2 x0 [1] then ((x_X2_node g N q7.2 x0 i10).bind fun q13 => tcase q13.1 (fun E15 => some (.inl E15, q13.2)) (fun v16 => (rdI q13.2 x0 [(1, 2)]).bind fun i17 => (wrV g q13.2 x0 [(1, 2)] (.int (i17 + (1 : Int32)))).bind fun h19 => (mkO g h19 4 5 [.null, .int 0, .null, .null]).bind fun h21 => (vR (gV g 5)).bind fun o23 => (x_X6_init g N h21 h19.2.1 o23 (0 : Int32) (none)).bind fun q25 => bif clB q25 h19.2.1 [5] then ((x_X6_with g N q25 h19.2.1 v5).bind fun q28 => bif clB q28.2 x0 [1] then ((ρ.2.2.2.2.2.2.2 q28.2 x0).bind fun q31 => tcase q31.1 (fun E33 => some (.inl E33, q31.2)) (fun v34 => (q28.1).bind fun a35 => bif clB q31.2 a35 [5] then ((x_X6_with g N q31.2 a35 v34).bind fun q38 => bif clB q38.2 x0 [1] then ((x_X2_take g N q38.2 x0 (58 : Int32)).bind fun q41 => tcase q41.1 (fun E43 => some (.inl E43, q41.2)) (fun v44 => bif clB q41.2 x0 [1] then ((ρ.2.2.2.2.2.2.1 q41.2 x0).bind fun q46 => tcase q46.1 (fun E48 => some (.inl E48, q46.2)) (fun v49 => (q38.1).bind fun a50 => bif clB q46.2 a50 [5] then ((x_X6_with g N q46.2 a50 v49).bind fun q53 => some (.inr q53.1, q53.2)) else none)) else none)) else none) else none)) else none) else none)) else none) else (some (.inr v5, q7.2))) else none)) else none
theorem cb_X2_chosen (g : AG) (hst : (gL g).stackTraces = false) (N : Nat) (ρ : R_X2) (n : Nat) (hρ : Ok_X2 g n ρ) : ∀ (h : AH) (x0 : Nat) (q : ((String ⊕ Option Nat) × AH)), xb_X2_chosen g N ρ h x0 = some q → CT g YX2_chosen (13 + n + 1) [.ref x0] h (tR q) := by
  intro h x0 q hq
  refine CT.of rfl (by decide +kernel) (loc := [some (.ref x0), none, none]) (by first | exact Nat.le_of_ble_eq_true rfl | (simp only [lgl_rf, lgl_i, lgl_j, lgl_ref, lgl_nil]; exact Nat.le_of_ble_eq_true rfl)) (by first | rfl | (simp only [aent_rf, aent_i, aent_j, aent_ref, aent_nil]; rfl)) ?_
  unfold xb_X2_chosen at hq
  refine aw_aload_n (i := 0) dX2_chosen_0 rfl rfl trivial ?_
  replace hq := cond_t hq
  obtain ⟨z1, hq⟩ := hq
  obtain ⟨fs9, ha9⟩ := clB1 z1
  replace hq := obind hq
  obtain ⟨q2, e3, hq⟩ := hq
  refine aw_callVX (Y2 := YX2_compared) (As := []) (rest := []) (r := (RX2, TX2, 9)) kX2_compared ha9 rfl rfl q822 q824 qs8 dX2_chosen_1 rfl rfl (hρ.2.2.2.2.2.1 h x0 _ e3) (Nat.le_refl _) (Nat.le_of_ble_eq_true rfl) (fun v9 h9 z9 y9 => ?_) (fun E4 h9 z9 y9 => ?_)
  rotate_left
  · obtain ⟨e9, rfl⟩ := tR_exc y9
    replace hq := tcase_l e9 hq
    cases hq
    exact ax_out (by decide) ⟨rfl, rfl⟩
  obtain ⟨v5, e9, rfl, rfl⟩ := tR_ret y9
  replace hq := tcase_r e9 hq
  refine aw_st (st' := [va_rf v5]) rfl ?_
  refine aw_astore_n (i := 1) (loc' := [some (.ref x0), some (va_rf v5), none]) dX2_chosen_4 rfl (Nat.le_of_ble_eq_true rfl) (aIsR_rf _) rfl ?_
  refine aw_aload_n (i := 0) dX2_chosen_5 rfl rfl trivial ?_
  replace hq := cond_t hq
  obtain ⟨z6, hq⟩ := hq
  obtain ⟨fs9, ha9⟩ := clB1 z6
  replace hq := obind hq
  obtain ⟨q7, e8, hq⟩ := hq
  refine aw_callV (Y2 := YX2_peek) (As := []) (rest := []) (r := (RX2, TX2, 9)) kX2_peek ha9 rfl rfl q400 q401 q402 dX2_chosen_6 rfl rfl (ct_X2_peek g hst N q2.2 x0 _ e8) (by omega) (Nat.le_of_ble_eq_true rfl) (fun v9 h9 z9 y9 => ?_)
  obtain ⟨rfl, rfl⟩ := y9
  refine aw_st (st' := [.int q7.1]) rfl ?_
  refine aw_bipush (v := 63) dX2_chosen_9 (by decide) ?_
  refine aw_icmp_eq (tgt := 16) dX2_chosen_11 (by decide) (fun c9 => ?_) (fun c9 => ?_)
  · rw [if_pos c9] at hq
    refine aw_aload_n (i := 0) dX2_chosen_16 rfl rfl trivial ?_
    refine aw_aload_n (i := 0) dX2_chosen_17 rfl rfl trivial ?_
    replace hq := obind hq
    obtain ⟨i10, e11, hq⟩ := hq
    refine xw_getI e11 fX2_38 dX2_chosen_18 ?_
    replace hq := cond_t hq
    obtain ⟨z12, hq⟩ := hq
    obtain ⟨fs9, ha9⟩ := clB1 z12
    replace hq := obind hq
    obtain ⟨q13, e14, hq⟩ := hq
    refine aw_callVX (Y2 := YX2_node) (As := [.int i10]) (rest := []) (r := (RX2, TX2, 9)) kX2_node ha9 rfl rfl q854 q856 qs16 dX2_chosen_21 rfl rfl (ct_X2_node g hst N q7.2 x0 i10 _ e14) (by omega) (Nat.le_of_ble_eq_true rfl) (fun v9 h9 z9 y9 => ?_) (fun E15 h9 z9 y9 => ?_)
    rotate_left
    · obtain ⟨e9, rfl⟩ := tV_exc y9
      replace hq := tcase_l e9 hq
      cases hq
      exact ax_out (by decide) ⟨rfl, rfl⟩
    obtain ⟨v16, e9, rfl, rfl⟩ := tV_ret y9
    replace hq := tcase_r e9 hq
    refine aw_st (st' := []) rfl ?_
    refine aw_aload_n (i := 0) dX2_chosen_24 rfl rfl trivial ?_
    refine aw_dup dX2_chosen_25 rfl ?_
    replace hq := obind hq
    obtain ⟨i17, e18, hq⟩ := hq
    refine xw_getI e18 fX2_38 dX2_chosen_26 ?_
    refine aw_iconst (v := 1) dX2_chosen_29 (by decide) ?_
    refine aw_iadd dX2_chosen_30 ?_
    replace hq := obind hq
    obtain ⟨h19, e20, hq⟩ := hq
    refine xw_put e20 fX2_38 tX2_2 ⟨rfl, rfl⟩ dX2_chosen_31 ?_
    replace hq := obind hq
    obtain ⟨h21, e22, hq⟩ := hq
    refine xw_new (r := (RX6, TX6, 4)) e22 q858 q859 q144 (by decide) rfl okX6 rfl dfX6 dX2_chosen_34 ?_
    refine aw_dup dX2_chosen_37 rfl ?_
    replace hq := obind hq
    obtain ⟨o23, e24, hq⟩ := hq
    refine xw_gets (i := 5) (vR_eq e24) rfl q1069 dX2_chosen_38 rfl ?_
    refine aw_iconst (v := 0) dX2_chosen_41 (by decide) ?_
    refine aw_null dX2_chosen_42 ?_
    replace hq := obind hq
    obtain ⟨q25, e26, hq⟩ := hq
    refine aw_callI (Y2 := YX6_init) (As := [va_rf o23, .int (0 : Int32), .null]) (rest := [.ref h19.2.1]) (b := h19.2.1) kX6_init rfl rfl q873 q874 dX2_chosen_43 rfl rfl (ct_X6_init g hst N h21 h19.2.1 o23 (0 : Int32) (none) _ e26) (by omega) (Nat.le_of_ble_eq_true rfl) (fun v9 h9 z9 y9 => ?_)
    obtain ⟨rfl, y9⟩ := y9
    rw [y9]
    refine aw_st (st' := [.ref h19.2.1]) rfl ?_
    refine aw_aload_n (i := 1) dX2_chosen_46 rfl rfl (aIsR_rf _) ?_
    replace hq := cond_t hq
    obtain ⟨z27, hq⟩ := hq
    obtain ⟨fs9, ha9⟩ := clB1 z27
    replace hq := obind hq
    obtain ⟨q28, e29, hq⟩ := hq
    refine aw_callV (Y2 := YX6_with) (As := [va_rf v5]) (rest := []) (r := (RX6, TX6, 4)) kX6_with ha9 rfl rfl q966 q967 q968 dX2_chosen_47 rfl rfl (ct_X6_with g hst N q25 h19.2.1 v5 _ e29) (by omega) (Nat.le_of_ble_eq_true rfl) (fun v9 h9 z9 y9 => ?_)
    obtain ⟨rfl, rfl⟩ := y9
    refine aw_st (st' := [va_rf q28.1]) rfl ?_
    refine aw_aload_n (i := 0) dX2_chosen_50 rfl rfl trivial ?_
    replace hq := cond_t hq
    obtain ⟨z30, hq⟩ := hq
    obtain ⟨fs9, ha9⟩ := clB1 z30
    replace hq := obind hq
    obtain ⟨q31, e32, hq⟩ := hq
    refine aw_callVX (Y2 := YX2_expression) (As := []) (rest := [va_rf q28.1]) (r := (RX2, TX2, 9)) kX2_expression ha9 rfl rfl q814 q816 qs6 dX2_chosen_51 rfl rfl (hρ.2.2.2.2.2.2.2 q28.2 x0 _ e32) (Nat.le_refl _) (by simp only [List.map_cons, List.map_nil, List.sum_cons, List.sum_nil, cat_rf]; exact Nat.le_of_ble_eq_true rfl) (fun v9 h9 z9 y9 => ?_) (fun E33 h9 z9 y9 => ?_)
    rotate_left
    · obtain ⟨e9, rfl⟩ := tR_exc y9
      replace hq := tcase_l e9 hq
      cases hq
      exact ax_out (by decide) ⟨rfl, rfl⟩
    obtain ⟨v34, e9, rfl, rfl⟩ := tR_ret y9
    replace hq := tcase_r e9 hq
    refine aw_st (st' := [va_rf v34, va_rf q28.1]) rfl ?_
    replace hq := obind hq
    obtain ⟨a35, e36, hq⟩ := hq
    rw [e36]
    replace hq := cond_t hq
    obtain ⟨z37, hq⟩ := hq
    obtain ⟨fs9, ha9⟩ := clB1 z37
    replace hq := obind hq
    obtain ⟨q38, e39, hq⟩ := hq
    refine aw_callV (Y2 := YX6_with) (As := [va_rf v34]) (rest := []) (r := (RX6, TX6, 4)) kX6_with ha9 rfl rfl q966 q967 q968 dX2_chosen_54 rfl rfl (ct_X6_with g hst N q31.2 a35 v34 _ e39) (by omega) (Nat.le_of_ble_eq_true rfl) (fun v9 h9 z9 y9 => ?_)
    obtain ⟨rfl, rfl⟩ := y9
    refine aw_st (st' := [va_rf q38.1]) rfl ?_
    refine aw_astore_n (i := 2) (loc' := [some (.ref x0), some (va_rf v5), some (va_rf q38.1)]) dX2_chosen_57 rfl (Nat.le_of_ble_eq_true rfl) (aIsR_rf _) (aset1_rf rfl) ?_
    refine aw_aload_n (i := 0) dX2_chosen_58 rfl rfl trivial ?_
    refine aw_bipush (v := 58) dX2_chosen_59 (by decide) ?_
    replace hq := cond_t hq
    obtain ⟨z40, hq⟩ := hq
    obtain ⟨fs9, ha9⟩ := clB1 z40
    replace hq := obind hq
    obtain ⟨q41, e42, hq⟩ := hq
    refine aw_callVX (Y2 := YX2_take) (As := [.int (58 : Int32)]) (rest := []) (r := (RX2, TX2, 9)) kX2_take ha9 rfl rfl q781 q783 qs4 dX2_chosen_61 rfl rfl (ct_X2_take g hst N q38.2 x0 (58 : Int32) _ e42) (by omega) (Nat.le_of_ble_eq_true rfl) (fun v9 h9 z9 y9 => ?_) (fun E43 h9 z9 y9 => ?_)
    rotate_left
    · obtain ⟨e9, rfl⟩ := tV_exc y9
      replace hq := tcase_l e9 hq
      cases hq
      exact ax_out (by decide) ⟨rfl, rfl⟩
    obtain ⟨v44, e9, rfl, rfl⟩ := tV_ret y9
    replace hq := tcase_r e9 hq
    refine aw_st (st' := []) rfl ?_
    refine aw_aload_n (i := 2) dX2_chosen_64 rfl rfl (aIsR_rf _) ?_
    refine aw_aload_n (i := 0) dX2_chosen_65 rfl rfl trivial ?_
    replace hq := cond_t hq
    obtain ⟨z45, hq⟩ := hq
    obtain ⟨fs9, ha9⟩ := clB1 z45
    replace hq := obind hq
    obtain ⟨q46, e47, hq⟩ := hq
    refine aw_callVX (Y2 := YX2_chosen) (As := []) (rest := [va_rf q38.1]) (r := (RX2, TX2, 9)) kX2_chosen ha9 rfl rfl q818 q820 qs7 dX2_chosen_66 rfl rfl (hρ.2.2.2.2.2.2.1 q41.2 x0 _ e47) (Nat.le_refl _) (by simp only [List.map_cons, List.map_nil, List.sum_cons, List.sum_nil, cat_rf]; exact Nat.le_of_ble_eq_true rfl) (fun v9 h9 z9 y9 => ?_) (fun E48 h9 z9 y9 => ?_)
    rotate_left
    · obtain ⟨e9, rfl⟩ := tR_exc y9
      replace hq := tcase_l e9 hq
      cases hq
      exact ax_out (by decide) ⟨rfl, rfl⟩
    obtain ⟨v49, e9, rfl, rfl⟩ := tR_ret y9
    replace hq := tcase_r e9 hq
    refine aw_st (st' := [va_rf v49, va_rf q38.1]) rfl ?_
    replace hq := obind hq
    obtain ⟨a50, e51, hq⟩ := hq
    rw [e51]
    replace hq := cond_t hq
    obtain ⟨z52, hq⟩ := hq
    obtain ⟨fs9, ha9⟩ := clB1 z52
    replace hq := obind hq
    obtain ⟨q53, e54, hq⟩ := hq
    refine aw_callV (Y2 := YX6_with) (As := [va_rf v49]) (rest := []) (r := (RX6, TX6, 4)) kX6_with ha9 rfl rfl q966 q967 q968 dX2_chosen_69 rfl rfl (ct_X6_with g hst N q46.2 a50 v49 _ e54) (by omega) (Nat.le_of_ble_eq_true rfl) (fun v9 h9 z9 y9 => ?_)
    obtain ⟨rfl, rfl⟩ := y9
    refine aw_st (st' := [va_rf q53.1]) rfl ?_
    cases hq
    exact aw_areturn dX2_chosen_72 rfl (Or.inl ⟨_, rfl⟩) (aIsR_rf _) ⟨rfl, rfl⟩
  · rw [if_neg c9] at hq
    refine aw_aload_n (i := 1) dX2_chosen_14 rfl rfl (aIsR_rf _) ?_
    cases hq
    exact aw_areturn dX2_chosen_15 rfl (Or.inl ⟨_, rfl⟩) (aIsR_rf _) ⟨rfl, rfl⟩
theorem kX2_expression : aMk YX2_expression 0 := ⟨rfl, q817, q117, ⟨by decide +kernel, by decide +kernel, by decide +kernel⟩, Nat.le_of_ble_eq_true rfl⟩
def x_X2_expression_5 (g : AG) (N : Nat) (ρ : R_X2) : Nat → AH → Nat → Option Nat → Option ((String ⊕ Option Nat) × AH)
  | 0, _, _, _ => none
  | n9 + 1, h, x0, r1 =>
  bif clB h x0 [1] then ((x_X2_peek g N h x0).bind fun q7 => if q7.1 = (35 : Int32) then ((rdI q7.2 x0 [(1, 2)]).bind fun i10 => bif clB q7.2 x0 [1] then ((x_X2_node g N q7.2 x0 i10).bind fun q13 => tcase q13.1 (fun E15 => some (.inl E15, q13.2)) (fun v16 => (rdI q13.2 x0 [(1, 2)]).bind fun i17 => (wrV g q13.2 x0 [(1, 2)] (.int (i17 + (1 : Int32)))).bind fun h19 => (mkO g h19 4 5 [.null, .int 0, .null, .null]).bind fun h21 => (vR (gV g 6)).bind fun o23 => (x_X6_init g N h21 h19.2.1 o23 (0 : Int32) (none)).bind fun q25 => bif clB q25 h19.2.1 [5] then ((x_X6_with g N q25 h19.2.1 r1).bind fun q28 => bif clB q28.2 x0 [1] then ((ρ.2.2.2.2.2.2.1 q28.2 x0).bind fun q31 => tcase q31.1 (fun E33 => some (.inl E33, q31.2)) (fun v34 => (q28.1).bind fun a35 => bif clB q31.2 a35 [5] then ((x_X6_with g N q31.2 a35 v34).bind fun q38 => x_X2_expression_5 g N ρ n9 q38.2 x0 q38.1) else none)) else none) else none)) else none) else (some (.inr r1, q7.2))) else none
theorem p_x_X2_expression_5 (g : AG) (hst : (gL g).stackTraces = false) (N : Nat) (ρ : R_X2) (n : Nat) (hρ : Ok_X2 g n ρ) : ∀ (n9 : Nat) (h : AH) (x0 : Nat) (r1 : Option Nat) (q : ((String ⊕ Option Nat) × AH)), x_X2_expression_5 g N ρ n9 h x0 r1 = some q → AW g YX2_expression (13 + n + 1) (tR q) h [some (.ref x0), some (va_rf r1)] 5 [] := by
  intro n9
  induction n9 with
  | zero =>
    intro h x0 r1 q hq
    cases hq
  | succ n9 ih =>
    intro h x0 r1 q hq
    rw [x_X2_expression_5] at hq
    refine aw_aload_n (i := 0) dX2_expression_5 rfl rfl trivial ?_
    replace hq := cond_t hq
    obtain ⟨z6, hq⟩ := hq
    obtain ⟨fs9, ha9⟩ := clB1 z6
    replace hq := obind hq
    obtain ⟨q7, e8, hq⟩ := hq
    refine aw_callV (Y2 := YX2_peek) (As := []) (rest := []) (r := (RX2, TX2, 9)) kX2_peek ha9 rfl rfl q400 q401 q402 dX2_expression_6 rfl rfl (ct_X2_peek g hst N h x0 _ e8) (by omega) (Nat.le_of_ble_eq_true rfl) (fun v9 h9 z9 y9 => ?_)
    obtain ⟨rfl, rfl⟩ := y9
    refine aw_st (st' := [.int q7.1]) rfl ?_
    refine aw_bipush (v := 35) dX2_expression_9 (by decide) ?_
    refine aw_icmp_ne (tgt := 59) dX2_expression_11 (by decide) (fun c9 => ?_) (fun c9 => ?_)
    · rw [if_neg c9] at hq
      refine aw_aload_n (i := 1) dX2_expression_59 rfl rfl (aIsR_rf _) ?_
      cases hq
      exact aw_areturn dX2_expression_60 rfl (Or.inl ⟨_, rfl⟩) (aIsR_rf _) ⟨rfl, rfl⟩
    · rw [if_pos c9] at hq
      refine aw_aload_n (i := 0) dX2_expression_14 rfl rfl trivial ?_
      refine aw_aload_n (i := 0) dX2_expression_15 rfl rfl trivial ?_
      replace hq := obind hq
      obtain ⟨i10, e11, hq⟩ := hq
      refine xw_getI e11 fX2_38 dX2_expression_16 ?_
      replace hq := cond_t hq
      obtain ⟨z12, hq⟩ := hq
      obtain ⟨fs9, ha9⟩ := clB1 z12
      replace hq := obind hq
      obtain ⟨q13, e14, hq⟩ := hq
      refine aw_callVX (Y2 := YX2_node) (As := [.int i10]) (rest := []) (r := (RX2, TX2, 9)) kX2_node ha9 rfl rfl q854 q856 qs16 dX2_expression_19 rfl rfl (ct_X2_node g hst N q7.2 x0 i10 _ e14) (by omega) (Nat.le_of_ble_eq_true rfl) (fun v9 h9 z9 y9 => ?_) (fun E15 h9 z9 y9 => ?_)
      rotate_left
      · obtain ⟨e9, rfl⟩ := tV_exc y9
        replace hq := tcase_l e9 hq
        cases hq
        exact ax_out (by decide) ⟨rfl, rfl⟩
      obtain ⟨v16, e9, rfl, rfl⟩ := tV_ret y9
      replace hq := tcase_r e9 hq
      refine aw_st (st' := []) rfl ?_
      refine aw_aload_n (i := 0) dX2_expression_22 rfl rfl trivial ?_
      refine aw_dup dX2_expression_23 rfl ?_
      replace hq := obind hq
      obtain ⟨i17, e18, hq⟩ := hq
      refine xw_getI e18 fX2_38 dX2_expression_24 ?_
      refine aw_iconst (v := 1) dX2_expression_27 (by decide) ?_
      refine aw_iadd dX2_expression_28 ?_
      replace hq := obind hq
      obtain ⟨h19, e20, hq⟩ := hq
      refine xw_put e20 fX2_38 tX2_2 ⟨rfl, rfl⟩ dX2_expression_29 ?_
      replace hq := obind hq
      obtain ⟨h21, e22, hq⟩ := hq
      refine xw_new (r := (RX6, TX6, 4)) e22 q858 q859 q144 (by decide) rfl okX6 rfl dfX6 dX2_expression_32 ?_
      refine aw_dup dX2_expression_35 rfl ?_
      replace hq := obind hq
      obtain ⟨o23, e24, hq⟩ := hq
      refine xw_gets (i := 6) (vR_eq e24) rfl q1071 dX2_expression_36 rfl ?_
      refine aw_iconst (v := 0) dX2_expression_39 (by decide) ?_
      refine aw_null dX2_expression_40 ?_
      replace hq := obind hq
      obtain ⟨q25, e26, hq⟩ := hq
      refine aw_callI (Y2 := YX6_init) (As := [va_rf o23, .int (0 : Int32), .null]) (rest := [.ref h19.2.1]) (b := h19.2.1) kX6_init rfl rfl q873 q874 dX2_expression_41 rfl rfl (ct_X6_init g hst N h21 h19.2.1 o23 (0 : Int32) (none) _ e26) (by omega) (Nat.le_of_ble_eq_true rfl) (fun v9 h9 z9 y9 => ?_)
      obtain ⟨rfl, y9⟩ := y9
      rw [y9]
      refine aw_st (st' := [.ref h19.2.1]) rfl ?_
      refine aw_aload_n (i := 1) dX2_expression_44 rfl rfl (aIsR_rf _) ?_
      replace hq := cond_t hq
      obtain ⟨z27, hq⟩ := hq
      obtain ⟨fs9, ha9⟩ := clB1 z27
      replace hq := obind hq
      obtain ⟨q28, e29, hq⟩ := hq
      refine aw_callV (Y2 := YX6_with) (As := [va_rf r1]) (rest := []) (r := (RX6, TX6, 4)) kX6_with ha9 rfl rfl q966 q967 q968 dX2_expression_45 rfl rfl (ct_X6_with g hst N q25 h19.2.1 r1 _ e29) (by omega) (Nat.le_of_ble_eq_true rfl) (fun v9 h9 z9 y9 => ?_)
      obtain ⟨rfl, rfl⟩ := y9
      refine aw_st (st' := [va_rf q28.1]) rfl ?_
      refine aw_aload_n (i := 0) dX2_expression_48 rfl rfl trivial ?_
      replace hq := cond_t hq
      obtain ⟨z30, hq⟩ := hq
      obtain ⟨fs9, ha9⟩ := clB1 z30
      replace hq := obind hq
      obtain ⟨q31, e32, hq⟩ := hq
      refine aw_callVX (Y2 := YX2_chosen) (As := []) (rest := [va_rf q28.1]) (r := (RX2, TX2, 9)) kX2_chosen ha9 rfl rfl q818 q820 qs7 dX2_expression_49 rfl rfl (hρ.2.2.2.2.2.2.1 q28.2 x0 _ e32) (Nat.le_refl _) (by simp only [List.map_cons, List.map_nil, List.sum_cons, List.sum_nil, cat_rf]; exact Nat.le_of_ble_eq_true rfl) (fun v9 h9 z9 y9 => ?_) (fun E33 h9 z9 y9 => ?_)
      rotate_left
      · obtain ⟨e9, rfl⟩ := tR_exc y9
        replace hq := tcase_l e9 hq
        cases hq
        exact ax_out (by decide) ⟨rfl, rfl⟩
      obtain ⟨v34, e9, rfl, rfl⟩ := tR_ret y9
      replace hq := tcase_r e9 hq
      refine aw_st (st' := [va_rf v34, va_rf q28.1]) rfl ?_
      replace hq := obind hq
      obtain ⟨a35, e36, hq⟩ := hq
      rw [e36]
      replace hq := cond_t hq
      obtain ⟨z37, hq⟩ := hq
      obtain ⟨fs9, ha9⟩ := clB1 z37
      replace hq := obind hq
      obtain ⟨q38, e39, hq⟩ := hq
      refine aw_callV (Y2 := YX6_with) (As := [va_rf v34]) (rest := []) (r := (RX6, TX6, 4)) kX6_with ha9 rfl rfl q966 q967 q968 dX2_expression_52 rfl rfl (ct_X6_with g hst N q31.2 a35 v34 _ e39) (by omega) (Nat.le_of_ble_eq_true rfl) (fun v9 h9 z9 y9 => ?_)
      obtain ⟨rfl, rfl⟩ := y9
      refine aw_st (st' := [va_rf q38.1]) rfl ?_
      refine aw_astore_n (i := 1) (loc' := [some (.ref x0), some (va_rf q38.1)]) dX2_expression_55 rfl (Nat.le_of_ble_eq_true rfl) (aIsR_rf _) rfl ?_
      refine aw_goto (tgt := 5) dX2_expression_56 (by decide) ?_
      exact ih q38.2 x0 q38.1 _ hq
def xb_X2_expression (g : AG) (N : Nat) (ρ : R_X2) (h : AH) (x0 : Nat) : Option ((String ⊕ Option Nat) × AH) :=
  bif clB h x0 [1] then ((ρ.2.2.2.2.2.2.1 h x0).bind fun q2 => tcase q2.1 (fun E4 => some (.inl E4, q2.2)) (fun v5 => x_X2_expression_5 g N ρ  N q2.2 x0 v5)) else none
theorem cb_X2_expression (g : AG) (hst : (gL g).stackTraces = false) (N : Nat) (ρ : R_X2) (n : Nat) (hρ : Ok_X2 g n ρ) : ∀ (h : AH) (x0 : Nat) (q : ((String ⊕ Option Nat) × AH)), xb_X2_expression g N ρ h x0 = some q → CT g YX2_expression (13 + n + 1) [.ref x0] h (tR q) := by
  intro h x0 q hq
  refine CT.of rfl (by decide +kernel) (loc := [some (.ref x0), none]) (by first | exact Nat.le_of_ble_eq_true rfl | (simp only [lgl_rf, lgl_i, lgl_j, lgl_ref, lgl_nil]; exact Nat.le_of_ble_eq_true rfl)) (by first | rfl | (simp only [aent_rf, aent_i, aent_j, aent_ref, aent_nil]; rfl)) ?_
  unfold xb_X2_expression at hq
  refine aw_aload_n (i := 0) dX2_expression_0 rfl rfl trivial ?_
  replace hq := cond_t hq
  obtain ⟨z1, hq⟩ := hq
  obtain ⟨fs9, ha9⟩ := clB1 z1
  replace hq := obind hq
  obtain ⟨q2, e3, hq⟩ := hq
  refine aw_callVX (Y2 := YX2_chosen) (As := []) (rest := []) (r := (RX2, TX2, 9)) kX2_chosen ha9 rfl rfl q818 q820 qs7 dX2_expression_1 rfl rfl (hρ.2.2.2.2.2.2.1 h x0 _ e3) (Nat.le_refl _) (Nat.le_of_ble_eq_true rfl) (fun v9 h9 z9 y9 => ?_) (fun E4 h9 z9 y9 => ?_)
  rotate_left
  · obtain ⟨e9, rfl⟩ := tR_exc y9
    replace hq := tcase_l e9 hq
    cases hq
    exact ax_out (by decide) ⟨rfl, rfl⟩
  obtain ⟨v5, e9, rfl, rfl⟩ := tR_ret y9
  replace hq := tcase_r e9 hq
  refine aw_st (st' := [va_rf v5]) rfl ?_
  refine aw_astore_n (i := 1) (loc' := [some (.ref x0), some (va_rf v5)]) dX2_expression_4 rfl (Nat.le_of_ble_eq_true rfl) (aIsR_rf _) rfl ?_
  exact p_x_X2_expression_5 g hst N ρ n hρ   N q2.2 x0 v5 _ hq
def it_X2 (g : AG) (N : Nat) : Nat → R_X2
  | 0 => ⟨fun _ _ _ => none, fun _ _ => none, fun _ _ => none, fun _ _ => none, fun _ _ => none, fun _ _ => none, fun _ _ => none, fun _ _ => none⟩
  | n + 1 => ⟨xb_X2_named g N (it_X2 g N n), xb_X2_single g N (it_X2 g N n), xb_X2_signed g N (it_X2 g N n), xb_X2_product g N (it_X2 g N n), xb_X2_sum g N (it_X2 g N n), xb_X2_compared g N (it_X2 g N n), xb_X2_chosen g N (it_X2 g N n), xb_X2_expression g N (it_X2 g N n)⟩
theorem ok_X2 (g : AG) (hst : (gL g).stackTraces = false) (N : Nat) : ∀ n, Ok_X2 g n (it_X2 g N n) := by
  intro n
  induction n with
  | zero => exact ⟨(fun _ _ _ _ hq => by cases hq), (fun _ _ _ hq => by cases hq), (fun _ _ _ hq => by cases hq), (fun _ _ _ hq => by cases hq), (fun _ _ _ hq => by cases hq), (fun _ _ _ hq => by cases hq), (fun _ _ _ hq => by cases hq), (fun _ _ _ hq => by cases hq)⟩
  | succ n ih => exact ⟨cb_X2_named g hst N (it_X2 g N n) n ih, cb_X2_single g hst N (it_X2 g N n) n ih, cb_X2_signed g hst N (it_X2 g N n) n ih, cb_X2_product g hst N (it_X2 g N n) n ih, cb_X2_sum g hst N (it_X2 g N n) n ih, cb_X2_compared g hst N (it_X2 g N n) n ih, cb_X2_chosen g hst N (it_X2 g N n) n ih, cb_X2_expression g hst N (it_X2 g N n) n ih⟩
def x_X2_named (g : AG) (N : Nat) (h : AH) (x0 : Nat) (x1 : Int32) : Option ((String ⊕ Option Nat) × AH) := (it_X2 g N 500).1 h x0 x1
theorem ct_X2_named (g : AG) (hst : (gL g).stackTraces = false) (N : Nat) : ∀ (h : AH) (x0 : Nat) (x1 : Int32) (q : ((String ⊕ Option Nat) × AH)), x_X2_named g N h x0 x1 = some q → CT g YX2_named 513 [.ref x0, .int x1] h (tR q) := (ok_X2 g hst N 500).1
def x_X2_single (g : AG) (N : Nat) (h : AH) (x0 : Nat) : Option ((String ⊕ Option Nat) × AH) := (it_X2 g N 500).2.1 h x0
theorem ct_X2_single (g : AG) (hst : (gL g).stackTraces = false) (N : Nat) : ∀ (h : AH) (x0 : Nat) (q : ((String ⊕ Option Nat) × AH)), x_X2_single g N h x0 = some q → CT g YX2_single 513 [.ref x0] h (tR q) := (ok_X2 g hst N 500).2.1
def x_X2_signed (g : AG) (N : Nat) (h : AH) (x0 : Nat) : Option ((String ⊕ Option Nat) × AH) := (it_X2 g N 500).2.2.1 h x0
theorem ct_X2_signed (g : AG) (hst : (gL g).stackTraces = false) (N : Nat) : ∀ (h : AH) (x0 : Nat) (q : ((String ⊕ Option Nat) × AH)), x_X2_signed g N h x0 = some q → CT g YX2_signed 513 [.ref x0] h (tR q) := (ok_X2 g hst N 500).2.2.1
def x_X2_product (g : AG) (N : Nat) (h : AH) (x0 : Nat) : Option ((String ⊕ Option Nat) × AH) := (it_X2 g N 500).2.2.2.1 h x0
theorem ct_X2_product (g : AG) (hst : (gL g).stackTraces = false) (N : Nat) : ∀ (h : AH) (x0 : Nat) (q : ((String ⊕ Option Nat) × AH)), x_X2_product g N h x0 = some q → CT g YX2_product 513 [.ref x0] h (tR q) := (ok_X2 g hst N 500).2.2.2.1
def x_X2_sum (g : AG) (N : Nat) (h : AH) (x0 : Nat) : Option ((String ⊕ Option Nat) × AH) := (it_X2 g N 500).2.2.2.2.1 h x0
theorem ct_X2_sum (g : AG) (hst : (gL g).stackTraces = false) (N : Nat) : ∀ (h : AH) (x0 : Nat) (q : ((String ⊕ Option Nat) × AH)), x_X2_sum g N h x0 = some q → CT g YX2_sum 513 [.ref x0] h (tR q) := (ok_X2 g hst N 500).2.2.2.2.1
def x_X2_compared (g : AG) (N : Nat) (h : AH) (x0 : Nat) : Option ((String ⊕ Option Nat) × AH) := (it_X2 g N 500).2.2.2.2.2.1 h x0
theorem ct_X2_compared (g : AG) (hst : (gL g).stackTraces = false) (N : Nat) : ∀ (h : AH) (x0 : Nat) (q : ((String ⊕ Option Nat) × AH)), x_X2_compared g N h x0 = some q → CT g YX2_compared 513 [.ref x0] h (tR q) := (ok_X2 g hst N 500).2.2.2.2.2.1
def x_X2_chosen (g : AG) (N : Nat) (h : AH) (x0 : Nat) : Option ((String ⊕ Option Nat) × AH) := (it_X2 g N 500).2.2.2.2.2.2.1 h x0
theorem ct_X2_chosen (g : AG) (hst : (gL g).stackTraces = false) (N : Nat) : ∀ (h : AH) (x0 : Nat) (q : ((String ⊕ Option Nat) × AH)), x_X2_chosen g N h x0 = some q → CT g YX2_chosen 513 [.ref x0] h (tR q) := (ok_X2 g hst N 500).2.2.2.2.2.2.1
def x_X2_expression (g : AG) (N : Nat) (h : AH) (x0 : Nat) : Option ((String ⊕ Option Nat) × AH) := (it_X2 g N 500).2.2.2.2.2.2.2 h x0
theorem ct_X2_expression (g : AG) (hst : (gL g).stackTraces = false) (N : Nat) : ∀ (h : AH) (x0 : Nat) (q : ((String ⊕ Option Nat) × AH)), x_X2_expression g N h x0 = some q → CT g YX2_expression 513 [.ref x0] h (tR q) := (ok_X2 g hst N 500).2.2.2.2.2.2.2
