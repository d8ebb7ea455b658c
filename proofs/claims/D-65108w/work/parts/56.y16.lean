/-! THE COMPONENT AND THE JDK as functions of the heap, and their contracts: printed by wip gen/dec2.py -/
set_option maxRecDepth 100000
theorem fJ1_202 : ∀ q ∈ ([(10, 5)] : List (Nat × Nat)), aFl RJ1 202 q.1 q.2 := by
  intro q hq
  simp only [List.mem_cons, List.not_mem_nil, or_false] at hq
  subst hq
  exact aFl.of (RJ1, TJ1, 8) rfl (Nat.le_of_ble_eq_true rfl) q229
theorem tJ1_5 : ∀ q ∈ ([(10, 5)] : List (Nat × Nat)), aFt q.1 q.2 false .int := by
  intro q hq
  simp only [List.mem_cons, List.not_mem_nil, or_false] at hq
  subst hq
  exact ⟨(RJ1, TJ1, 8), tyJ1, Nat.le_of_ble_eq_true rfl, rfl, Nat.le_of_ble_eq_true rfl, okJ1, rfl, rfl⟩
theorem fJ1_156 : ∀ q ∈ ([(10, 4)] : List (Nat × Nat)), aFl RJ1 156 q.1 q.2 := by
  intro q hq
  simp only [List.mem_cons, List.not_mem_nil, or_false] at hq
  subst hq
  exact aFl.of (RJ1, TJ1, 8) rfl (Nat.le_of_ble_eq_true rfl) q228
theorem tJ1_4 : ∀ q ∈ ([(10, 4)] : List (Nat × Nat)), aFt q.1 q.2 false .int := by
  intro q hq
  simp only [List.mem_cons, List.not_mem_nil, or_false] at hq
  subst hq
  exact ⟨(RJ1, TJ1, 8), tyJ1, Nat.le_of_ble_eq_true rfl, rfl, Nat.le_of_ble_eq_true rfl, okJ1, rfl, rfl⟩
abbrev YJ1_putVal : YC := (yJ1_putVal, cJ1_putVal, 13, (some (.object "java/lang/Object")), [])
theorem kJ1_putVal : aMk YJ1_putVal 5 := ⟨rfl, q1535, q120, ⟨by decide +kernel, by decide +kernel, by decide +kernel⟩, Nat.le_of_ble_eq_true rfl⟩
def x_J1_putVal_292 (g : AG) (N : Nat) (h : AH) (x0 : Nat) (x1 : Int32) (r2 : Option Nat) (r3 : Option Nat) (x4 : Int32) (x5 : Int32) (r6 : Option Nat) (r7 : Option Nat) (x8 : Int32) (x9 : Int32) : Option (Option Nat × AH) :=
  bif clB h x0 [10] then ((x_J1_afterNodeInsertion g N h x0 x5).bind fun q33 => some ((none), q33)) else none
theorem p_x_J1_putVal_292 (g : AG) (hst : (gL g).stackTraces = false) (N : Nat) : ∀ (h : AH) (x0 : Nat) (x1 : Int32) (r2 : Option Nat) (r3 : Option Nat) (x4 : Int32) (x5 : Int32) (r6 : Option Nat) (r7 : Option Nat) (x8 : Int32) (x9 : Int32) (q : (Option Nat × AH)), x_J1_putVal_292 g N h x0 x1 r2 r3 x4 x5 r6 r7 x8 x9 = some q → AW g YJ1_putVal 112 (xR q) h [some (.ref x0), some (.int x1), some (va_rf r2), some (va_rf r3), some (.int x4), some (.int x5), some (va_rf r6), some (va_rf r7), some (.int x8), some (.int x9), none, none, none] 292 [] := by
  intro h x0 x1 r2 r3 x4 x5 r6 r7 x8 x9 q hq
  unfold x_J1_putVal_292 at hq
  refine aw_aload_n (i := 0) dJ1_putVal_292 rfl rfl trivial ?_
  refine aw_iload dJ1_putVal_293 rfl ?_
  replace hq := cond_t hq
  obtain ⟨z32, hq⟩ := hq
  obtain ⟨fs9, ha9⟩ := clB1 z32
  replace hq := obind hq
  obtain ⟨q33, e34, hq⟩ := hq
  refine aw_callV (Y2 := YJ1_afterNodeInsertion) (As := [.int x5]) (rest := []) (r := (RJ1, TJ1, 8)) kJ1_afterNodeInsertion ha9 rfl rfl q1664 q1665 q1666 dJ1_putVal_295 rfl rfl (ct_J1_afterNodeInsertion g hst N h x0 x5 _ e34) (Nat.le_of_ble_eq_true rfl) (Nat.le_of_ble_eq_true rfl) (fun v9 h9 z9 y9 => ?_)
  obtain ⟨rfl, y9⟩ := y9
  rw [y9]
  refine aw_st (st' := []) rfl ?_
  refine aw_null dJ1_putVal_298 ?_
  cases hq
  exact aw_areturn dJ1_putVal_299 rfl (Or.inl ⟨_, rfl⟩) trivial ⟨rfl, rfl⟩
def x_J1_putVal_259 (g : AG) (N : Nat) (h : AH) (x0 : Nat) (x1 : Int32) (r2 : Option Nat) (r3 : Option Nat) (x4 : Int32) (x5 : Int32) (r6 : Option Nat) (r7 : Option Nat) (x8 : Int32) (x9 : Int32) : Option (Option Nat × AH) :=
  (rdI h x0 [(10, 5)]).bind fun i21 => (wrV g h x0 [(10, 5)] (.int (i21 + (1 : Int32)))).bind fun h23 => (rdI h23 x0 [(10, 4)]).bind fun i25 => (wrV g h23 x0 [(10, 4)] (.int (i25 + (1 : Int32)))).bind fun h27 => (rdI h27 x0 [(10, 6)]).bind fun i29 => if (i25 + (1 : Int32)) ≤ i29 then (x_J1_putVal_292 g N  h27 x0 x1 r2 r3 x4 x5 r6 r7 x8 x9) else (bif clB h27 x0 [10] then ((x_J1_resize g N h27 x0).bind fun q36 => x_J1_putVal_292 g N  q36.2 x0 x1 r2 r3 x4 x5 r6 r7 x8 x9) else none)
theorem p_x_J1_putVal_259 (g : AG) (hst : (gL g).stackTraces = false) (N : Nat) : ∀ (h : AH) (x0 : Nat) (x1 : Int32) (r2 : Option Nat) (r3 : Option Nat) (x4 : Int32) (x5 : Int32) (r6 : Option Nat) (r7 : Option Nat) (x8 : Int32) (x9 : Int32) (q : (Option Nat × AH)), x_J1_putVal_259 g N h x0 x1 r2 r3 x4 x5 r6 r7 x8 x9 = some q → AW g YJ1_putVal 112 (xR q) h [some (.ref x0), some (.int x1), some (va_rf r2), some (va_rf r3), some (.int x4), some (.int x5), some (va_rf r6), some (va_rf r7), some (.int x8), some (.int x9), none, none, none] 259 [] := by
  intro h x0 x1 r2 r3 x4 x5 r6 r7 x8 x9 q hq
  unfold x_J1_putVal_259 at hq
  refine aw_aload_n (i := 0) dJ1_putVal_259 rfl rfl trivial ?_
  refine aw_dup dJ1_putVal_260 rfl ?_
  replace hq := obind hq
  obtain ⟨i21, e22, hq⟩ := hq
  refine xw_getI e22 fJ1_202 dJ1_putVal_261 ?_
  refine aw_iconst (v := 1) dJ1_putVal_264 (by decide) ?_
  refine aw_iadd dJ1_putVal_265 ?_
  replace hq := obind hq
  obtain ⟨h23, e24, hq⟩ := hq
  refine xw_put e24 fJ1_202 tJ1_5 ⟨rfl, rfl⟩ dJ1_putVal_266 ?_
  refine aw_aload_n (i := 0) dJ1_putVal_269 rfl rfl trivial ?_
  refine aw_dup dJ1_putVal_270 rfl ?_
  replace hq := obind hq
  obtain ⟨i25, e26, hq⟩ := hq
  refine xw_getI e26 fJ1_156 dJ1_putVal_271 ?_
  refine aw_iconst (v := 1) dJ1_putVal_274 (by decide) ?_
  refine aw_iadd dJ1_putVal_275 ?_
  refine aw_dup_x1 dJ1_putVal_276 rfl rfl ?_
  replace hq := obind hq
  obtain ⟨h27, e28, hq⟩ := hq
  refine xw_put e28 fJ1_156 tJ1_4 ⟨rfl, rfl⟩ dJ1_putVal_277 ?_
  refine aw_aload_n (i := 0) dJ1_putVal_280 rfl rfl trivial ?_
  replace hq := obind hq
  obtain ⟨i29, e30, hq⟩ := hq
  refine xw_getI e30 fJ1_88 dJ1_putVal_281 ?_
  refine aw_icmp_le (tgt := 292) dJ1_putVal_284 (by decide) (fun c31 => ?_) (fun c31 => ?_)
  · rw [if_pos c31] at hq
    exact p_x_J1_putVal_292 g hst N   h27 x0 x1 r2 r3 x4 x5 r6 r7 x8 x9 _ hq
  · rw [if_neg c31] at hq
    refine aw_aload_n (i := 0) dJ1_putVal_287 rfl rfl trivial ?_
    replace hq := cond_t hq
    obtain ⟨z35, hq⟩ := hq
    obtain ⟨fs9, ha9⟩ := clB1 z35
    replace hq := obind hq
    obtain ⟨q36, e37, hq⟩ := hq
    refine aw_callV (Y2 := YJ1_resize) (As := []) (rest := []) (r := (RJ1, TJ1, 8)) kJ1_resize ha9 rfl rfl q1536 q1537 q1538 dJ1_putVal_288 rfl rfl (ct_J1_resize g hst N h27 x0 _ e37) (Nat.le_of_ble_eq_true rfl) (Nat.le_of_ble_eq_true rfl) (fun v9 h9 z9 y9 => ?_)
    obtain ⟨rfl, rfl⟩ := y9
    refine aw_st (st' := [va_rf q36.1]) rfl ?_
    refine aw_pop dJ1_putVal_291 (cat_rf _) ?_
    exact p_x_J1_putVal_292 g hst N   q36.2 x0 x1 r2 r3 x4 x5 r6 r7 x8 x9 _ hq
def x_J1_putVal_212 (g : AG) (N : Nat) (K134 : AH → Nat → Int32 → Option Nat → Option Nat → Int32 → Int32 → Option Nat → Option Nat → Int32 → Int32 → Int32 → Option (Option Nat × AH)) (K145 : AH → Nat → Int32 → Option Nat → Option Nat → Int32 → Int32 → Option Nat → Option Nat → Int32 → Int32 → Option Nat → Int32 → Option (Option Nat × AH)) (K222 : AH → Nat → Int32 → Option Nat → Option Nat → Int32 → Int32 → Option Nat → Option Nat → Int32 → Int32 → Option Nat → Option (Option Nat × AH)) (K209 : AH → Nat → Int32 → Option Nat → Option Nat → Int32 → Int32 → Option Nat → Option Nat → Int32 → Int32 → Option Nat → Option Nat → Int32 → Option (Option Nat × AH)) (h : AH) (x0 : Nat) (x1 : Int32) (r2 : Option Nat) (r3 : Option Nat) (x4 : Int32) (x5 : Int32) (r6 : Option Nat) (r7 : Option Nat) (x8 : Int32) (x9 : Int32) (r10 : Option Nat) (x12 : Int32) : Option (Option Nat × AH) :=
  K134 h x0 x1 r2 r3 x4 x5 r6 r10 x8 x9 (x12 + 1)
theorem p_x_J1_putVal_212 (g : AG) (hst : (gL g).stackTraces = false) (N : Nat) (K134 : AH → Nat → Int32 → Option Nat → Option Nat → Int32 → Int32 → Option Nat → Option Nat → Int32 → Int32 → Int32 → Option (Option Nat × AH)) (K145 : AH → Nat → Int32 → Option Nat → Option Nat → Int32 → Int32 → Option Nat → Option Nat → Int32 → Int32 → Option Nat → Int32 → Option (Option Nat × AH)) (K222 : AH → Nat → Int32 → Option Nat → Option Nat → Int32 → Int32 → Option Nat → Option Nat → Int32 → Int32 → Option Nat → Option (Option Nat × AH)) (K209 : AH → Nat → Int32 → Option Nat → Option Nat → Int32 → Int32 → Option Nat → Option Nat → Int32 → Int32 → Option Nat → Option Nat → Int32 → Option (Option Nat × AH)) (hK134 : ∀ (h : AH) (x0 : Nat) (x1 : Int32) (r2 : Option Nat) (r3 : Option Nat) (x4 : Int32) (x5 : Int32) (r6 : Option Nat) (r7 : Option Nat) (x8 : Int32) (x9 : Int32) (x12 : Int32) (q : (Option Nat × AH)), K134 h x0 x1 r2 r3 x4 x5 r6 r7 x8 x9 x12 = some q → AW g YJ1_putVal 112 (xR q) h [some (.ref x0), some (.int x1), some (va_rf r2), some (va_rf r3), some (.int x4), some (.int x5), some (va_rf r6), some (va_rf r7), some (.int x8), some (.int x9), none, none, some (.int x12)] 134 []) (hK145 : ∀ (h : AH) (x0 : Nat) (x1 : Int32) (r2 : Option Nat) (r3 : Option Nat) (x4 : Int32) (x5 : Int32) (r6 : Option Nat) (r7 : Option Nat) (x8 : Int32) (x9 : Int32) (r10 : Option Nat) (x12 : Int32) (q : (Option Nat × AH)), K145 h x0 x1 r2 r3 x4 x5 r6 r7 x8 x9 r10 x12 = some q → AW g YJ1_putVal 112 (xR q) h [some (.ref x0), some (.int x1), some (va_rf r2), some (va_rf r3), some (.int x4), some (.int x5), some (va_rf r6), some (va_rf r7), some (.int x8), some (.int x9), some (va_rf r10), none, some (.int x12)] 145 []) (hK222 : ∀ (h : AH) (x0 : Nat) (x1 : Int32) (r2 : Option Nat) (r3 : Option Nat) (x4 : Int32) (x5 : Int32) (r6 : Option Nat) (r7 : Option Nat) (x8 : Int32) (x9 : Int32) (r10 : Option Nat) (q : (Option Nat × AH)), K222 h x0 x1 r2 r3 x4 x5 r6 r7 x8 x9 r10 = some q → AW g YJ1_putVal 112 (xR q) h [some (.ref x0), some (.int x1), some (va_rf r2), some (va_rf r3), some (.int x4), some (.int x5), some (va_rf r6), some (va_rf r7), some (.int x8), some (.int x9), some (va_rf r10), none, none] 222 []) (hK209 : ∀ (h : AH) (x0 : Nat) (x1 : Int32) (r2 : Option Nat) (r3 : Option Nat) (x4 : Int32) (x5 : Int32) (r6 : Option Nat) (r7 : Option Nat) (x8 : Int32) (x9 : Int32) (r10 : Option Nat) (r11 : Option Nat) (x12 : Int32) (q : (Option Nat × AH)), K209 h x0 x1 r2 r3 x4 x5 r6 r7 x8 x9 r10 r11 x12 = some q → AW g YJ1_putVal 112 (xR q) h [some (.ref x0), some (.int x1), some (va_rf r2), some (va_rf r3), some (.int x4), some (.int x5), some (va_rf r6), some (va_rf r7), some (.int x8), some (.int x9), some (va_rf r10), some (va_rf r11), some (.int x12)] 209 []) : ∀ (h : AH) (x0 : Nat) (x1 : Int32) (r2 : Option Nat) (r3 : Option Nat) (x4 : Int32) (x5 : Int32) (r6 : Option Nat) (r7 : Option Nat) (x8 : Int32) (x9 : Int32) (r10 : Option Nat) (x12 : Int32) (q : (Option Nat × AH)), x_J1_putVal_212 g N K134 K145 K222 K209 h x0 x1 r2 r3 x4 x5 r6 r7 x8 x9 r10 x12 = some q → AW g YJ1_putVal 112 (xR q) h [some (.ref x0), some (.int x1), some (va_rf r2), some (va_rf r3), some (.int x4), some (.int x5), some (va_rf r6), some (va_rf r7), some (.int x8), some (.int x9), some (va_rf r10), none, some (.int x12)] 212 [] := by
  intro h x0 x1 r2 r3 x4 x5 r6 r7 x8 x9 r10 x12 q hq
  unfold x_J1_putVal_212 at hq
  refine aw_aload dJ1_putVal_212 rfl (aIsR_rf _) ?_
  refine aw_astore (loc' := [some (.ref x0), some (.int x1), some (va_rf r2), some (va_rf r3), some (.int x4), some (.int x5), some (va_rf r6), some (va_rf r10), some (.int x8), some (.int x9), some (va_rf r10), none, some (.int x12)]) dJ1_putVal_214 (Nat.le_of_ble_eq_true rfl) (aIsR_rf _) (aset1_rf rfl) ?_
  refine aw_iinc (v := x12 + 1) (loc' := [some (.ref x0), some (.int x1), some (va_rf r2), some (va_rf r3), some (.int x4), some (.int x5), some (va_rf r6), some (va_rf r10), some (.int x8), some (.int x9), some (va_rf r10), none, some (.int (x12 + 1))]) dJ1_putVal_216 rfl rfl (Nat.le_of_ble_eq_true rfl) rfl ?_
  refine aw_goto (tgt := 134) dJ1_putVal_219 (by decide) ?_
  refine aw_subl (loc' := [some (.ref x0), some (.int x1), some (va_rf r2), some (va_rf r3), some (.int x4), some (.int x5), some (va_rf r6), some (va_rf r10), some (.int x8), some (.int x9), none, none, some (.int (x12 + 1))]) ⟨Or.inr rfl, Or.inr rfl, Or.inr rfl, Or.inr rfl, Or.inr rfl, Or.inr rfl, Or.inr rfl, Or.inr rfl, Or.inr rfl, Or.inr rfl, Or.inl rfl, Or.inl rfl, Or.inr rfl, trivial⟩ ?_
  exact hK134 h x0 x1 r2 r3 x4 x5 r6 r10 x8 x9 (x12 + 1) _ hq
def x_J1_putVal_134 (g : AG) (N : Nat) (K145 : AH → Nat → Int32 → Option Nat → Option Nat → Int32 → Int32 → Option Nat → Option Nat → Int32 → Int32 → Option Nat → Int32 → Option (Option Nat × AH)) (K222 : AH → Nat → Int32 → Option Nat → Option Nat → Int32 → Int32 → Option Nat → Option Nat → Int32 → Int32 → Option Nat → Option (Option Nat × AH)) (K209 : AH → Nat → Int32 → Option Nat → Option Nat → Int32 → Int32 → Option Nat → Option Nat → Int32 → Int32 → Option Nat → Option Nat → Int32 → Option (Option Nat × AH)) : Nat → AH → Nat → Int32 → Option Nat → Option Nat → Int32 → Int32 → Option Nat → Option Nat → Int32 → Int32 → Int32 → Option (Option Nat × AH)
  | 0, _, _, _, _, _, _, _, _, _, _, _, _ => none
  | n9 + 1, h, x0, x1, r2, r3, x4, x5, r6, r7, x8, x9, x12 =>
  (r7).bind fun a44 => (rdR h a44 [(11, 3), (12, 5)]).bind fun o46 => ocase o46 (K145 h x0 x1 r2 r3 x4 x5 r6 (some a44) x8 x9 (none) x12) (fun a48 => (rdI h a48 [(11, 0), (12, 2)]).bind fun i49 => if i49 = x1 then ((rdR h a48 [(11, 1), (12, 3)]).bind fun o52 => if o52 = r2 then (K222 h x0 x1 r2 r3 x4 x5 r6 (some a44) x8 x9 (some a48)) else (ocase r2 (x_J1_putVal_212 g N (fun h x0 x1 r2 r3 x4 x5 r6 r7 x8 x9 x12 => x_J1_putVal_134 g N K145 K222 K209 n9 h x0 x1 r2 r3 x4 x5 r6 r7 x8 x9 x12) K145 K222 K209 h x0 x1 (none) r3 x4 x5 r6 (some a44) x8 x9 (some a48) x12) (fun a55 => bif clB h a55 [17] then ((x_J13_equals g N h a55 o52).bind fun q57 => if q57.1 = 0 then (x_J1_putVal_212 g N (fun h x0 x1 r2 r3 x4 x5 r6 r7 x8 x9 x12 => x_J1_putVal_134 g N K145 K222 K209 n9 h x0 x1 r2 r3 x4 x5 r6 r7 x8 x9 x12) K145 K222 K209 q57.2 x0 x1 (some a55) r3 x4 x5 r6 (some a44) x8 x9 (some a48) x12) else (K209 q57.2 x0 x1 (some a55) r3 x4 x5 r6 (some a44) x8 x9 (some a48) o52 x12)) else none))) else (x_J1_putVal_212 g N (fun h x0 x1 r2 r3 x4 x5 r6 r7 x8 x9 x12 => x_J1_putVal_134 g N K145 K222 K209 n9 h x0 x1 r2 r3 x4 x5 r6 r7 x8 x9 x12) K145 K222 K209 h x0 x1 r2 r3 x4 x5 r6 (some a44) x8 x9 (some a48) x12))
theorem p_x_J1_putVal_134 (g : AG) (hst : (gL g).stackTraces = false) (N : Nat) (K145 : AH → Nat → Int32 → Option Nat → Option Nat → Int32 → Int32 → Option Nat → Option Nat → Int32 → Int32 → Option Nat → Int32 → Option (Option Nat × AH)) (K222 : AH → Nat → Int32 → Option Nat → Option Nat → Int32 → Int32 → Option Nat → Option Nat → Int32 → Int32 → Option Nat → Option (Option Nat × AH)) (K209 : AH → Nat → Int32 → Option Nat → Option Nat → Int32 → Int32 → Option Nat → Option Nat → Int32 → Int32 → Option Nat → Option Nat → Int32 → Option (Option Nat × AH)) (hK145 : ∀ (h : AH) (x0 : Nat) (x1 : Int32) (r2 : Option Nat) (r3 : Option Nat) (x4 : Int32) (x5 : Int32) (r6 : Option Nat) (r7 : Option Nat) (x8 : Int32) (x9 : Int32) (r10 : Option Nat) (x12 : Int32) (q : (Option Nat × AH)), K145 h x0 x1 r2 r3 x4 x5 r6 r7 x8 x9 r10 x12 = some q → AW g YJ1_putVal 112 (xR q) h [some (.ref x0), some (.int x1), some (va_rf r2), some (va_rf r3), some (.int x4), some (.int x5), some (va_rf r6), some (va_rf r7), some (.int x8), some (.int x9), some (va_rf r10), none, some (.int x12)] 145 []) (hK222 : ∀ (h : AH) (x0 : Nat) (x1 : Int32) (r2 : Option Nat) (r3 : Option Nat) (x4 : Int32) (x5 : Int32) (r6 : Option Nat) (r7 : Option Nat) (x8 : Int32) (x9 : Int32) (r10 : Option Nat) (q : (Option Nat × AH)), K222 h x0 x1 r2 r3 x4 x5 r6 r7 x8 x9 r10 = some q → AW g YJ1_putVal 112 (xR q) h [some (.ref x0), some (.int x1), some (va_rf r2), some (va_rf r3), some (.int x4), some (.int x5), some (va_rf r6), some (va_rf r7), some (.int x8), some (.int x9), some (va_rf r10), none, none] 222 []) (hK209 : ∀ (h : AH) (x0 : Nat) (x1 : Int32) (r2 : Option Nat) (r3 : Option Nat) (x4 : Int32) (x5 : Int32) (r6 : Option Nat) (r7 : Option Nat) (x8 : Int32) (x9 : Int32) (r10 : Option Nat) (r11 : Option Nat) (x12 : Int32) (q : (Option Nat × AH)), K209 h x0 x1 r2 r3 x4 x5 r6 r7 x8 x9 r10 r11 x12 = some q → AW g YJ1_putVal 112 (xR q) h [some (.ref x0), some (.int x1), some (va_rf r2), some (va_rf r3), some (.int x4), some (.int x5), some (va_rf r6), some (va_rf r7), some (.int x8), some (.int x9), some (va_rf r10), some (va_rf r11), some (.int x12)] 209 []) : ∀ (n9 : Nat) (h : AH) (x0 : Nat) (x1 : Int32) (r2 : Option Nat) (r3 : Option Nat) (x4 : Int32) (x5 : Int32) (r6 : Option Nat) (r7 : Option Nat) (x8 : Int32) (x9 : Int32) (x12 : Int32) (q : (Option Nat × AH)), x_J1_putVal_134 g N K145 K222 K209 n9 h x0 x1 r2 r3 x4 x5 r6 r7 x8 x9 x12 = some q → AW g YJ1_putVal 112 (xR q) h [some (.ref x0), some (.int x1), some (va_rf r2), some (va_rf r3), some (.int x4), some (.int x5), some (va_rf r6), some (va_rf r7), some (.int x8), some (.int x9), none, none, some (.int x12)] 134 [] := by
  intro n9
  induction n9 with
  | zero =>
    intro h x0 x1 r2 r3 x4 x5 r6 r7 x8 x9 x12 q hq
    cases hq
  | succ n9 ih =>
    intro h x0 x1 r2 r3 x4 x5 r6 r7 x8 x9 x12 q hq
    rw [x_J1_putVal_134] at hq
    refine aw_aload dJ1_putVal_134 rfl (aIsR_rf _) ?_
    replace hq := obind hq
    obtain ⟨a44, e45, hq⟩ := hq
    subst e45
    replace hq := obind hq
    obtain ⟨o46, e47, hq⟩ := hq
    refine xw_getR e47 fJ1_177 dJ1_putVal_136 ?_
    refine aw_dup dJ1_putVal_139 (cat_rf _) ?_
    refine aw_astore (loc' := [some (.ref x0), some (.int x1), some (va_rf r2), some (va_rf r3), some (.int x4), some (.int x5), some (va_rf r6), some (.ref a44), some (.int x8), some (.int x9), some (va_rf o46), none, some (.int x12)]) dJ1_putVal_140 (Nat.le_of_ble_eq_true rfl) (aIsR_rf _) rfl ?_
    rcases o46 with _ | a48
    · replace hq := ocase_n hq
      refine xw_ifnonN (tgt := 175) dJ1_putVal_142 (by decide) ?_
      exact hK145 h x0 x1 r2 r3 x4 x5 r6 (some a44) x8 x9 (none) x12 _ hq
    · replace hq := ocase_s hq
      refine xw_ifnonS (tgt := 175) dJ1_putVal_142 (by decide) ?_
      refine aw_aload dJ1_putVal_175 rfl trivial ?_
      replace hq := obind hq
      obtain ⟨i49, e50, hq⟩ := hq
      refine xw_getI e50 fJ1_168 dJ1_putVal_177 ?_
      refine aw_iload_n (i := 1) dJ1_putVal_180 rfl rfl ?_
      refine aw_icmp_ne (tgt := 212) dJ1_putVal_181 (by decide) (fun c51 => ?_) (fun c51 => ?_)
      · rw [if_neg c51] at hq
        exact p_x_J1_putVal_212 g hst N _ _ _ _ ih hK145 hK222 hK209 h x0 x1 r2 r3 x4 x5 r6 (some a44) x8 x9 (some a48) x12 _ hq
      · rw [if_pos c51] at hq
        refine aw_aload dJ1_putVal_184 rfl trivial ?_
        replace hq := obind hq
        obtain ⟨o52, e53, hq⟩ := hq
        refine xw_getR e53 fJ1_170 dJ1_putVal_186 ?_
        refine aw_dup dJ1_putVal_189 (cat_rf _) ?_
        refine aw_astore (loc' := [some (.ref x0), some (.int x1), some (va_rf r2), some (va_rf r3), some (.int x4), some (.int x5), some (va_rf r6), some (.ref a44), some (.int x8), some (.int x9), some (.ref a48), some (va_rf o52), some (.int x12)]) dJ1_putVal_190 (Nat.le_of_ble_eq_true rfl) (aIsR_rf _) rfl ?_
        refine aw_aload_n (i := 2) dJ1_putVal_192 rfl rfl (aIsR_rf _) ?_
        refine xw_acmp_eq (v := o52) (w := r2) (tgt := 222) dJ1_putVal_193 (by decide) (fun c54 => ?_) (fun c54 => ?_)
        · rw [if_pos c54] at hq
          refine aw_subl (loc' := [some (.ref x0), some (.int x1), some (va_rf r2), some (va_rf r3), some (.int x4), some (.int x5), some (va_rf r6), some (.ref a44), some (.int x8), some (.int x9), some (.ref a48), none, none]) ⟨Or.inr rfl, Or.inr rfl, Or.inr rfl, Or.inr rfl, Or.inr rfl, Or.inr rfl, Or.inr rfl, Or.inr rfl, Or.inr rfl, Or.inr rfl, Or.inr rfl, Or.inl rfl, Or.inl rfl, trivial⟩ ?_
          exact hK222 h x0 x1 r2 r3 x4 x5 r6 (some a44) x8 x9 (some a48) _ hq
        · rw [if_neg c54] at hq
          refine aw_aload_n (i := 2) dJ1_putVal_196 rfl rfl (aIsR_rf _) ?_
          rcases r2 with _ | a55
          · replace hq := ocase_n hq
            refine xw_ifnullN (tgt := 212) dJ1_putVal_197 (by decide) ?_
            refine aw_subl (loc' := [some (.ref x0), some (.int x1), some (.null), some (va_rf r3), some (.int x4), some (.int x5), some (va_rf r6), some (.ref a44), some (.int x8), some (.int x9), some (.ref a48), none, some (.int x12)]) ⟨Or.inr rfl, Or.inr rfl, Or.inr rfl, Or.inr rfl, Or.inr rfl, Or.inr rfl, Or.inr rfl, Or.inr rfl, Or.inr rfl, Or.inr rfl, Or.inr rfl, Or.inl rfl, Or.inr rfl, trivial⟩ ?_
            exact p_x_J1_putVal_212 g hst N _ _ _ _ ih hK145 hK222 hK209 h x0 x1 (none) r3 x4 x5 r6 (some a44) x8 x9 (some a48) x12 _ hq
          · replace hq := ocase_s hq
            refine xw_ifnullS (tgt := 212) dJ1_putVal_197 (by decide) ?_
            refine aw_aload_n (i := 2) dJ1_putVal_200 rfl rfl trivial ?_
            refine aw_aload dJ1_putVal_201 rfl (aIsR_rf _) ?_
            replace hq := cond_t hq
            obtain ⟨z56, hq⟩ := hq
            obtain ⟨fs9, ha9⟩ := clB1 z56
            replace hq := obind hq
            obtain ⟨q57, e58, hq⟩ := hq
            refine aw_callO (Y2 := YJ13_equals) (As := [va_rf o52]) (rest := []) (r := (RJ13, TJ13, 4)) (x := ⟨"java/lang/Object", "equals", "(Ljava/lang/Object;)Z"⟩) (o := "java/lang/Object") kJ13_equals ha9 rfl ⟨by decide +kernel, by decide +kernel, by decide +kernel⟩ q1218 q1220 q1217 q1251 q1250 dJ1_putVal_203 rfl rfl (ct_J13_equals g hst N h a55 o52 _ e58) (Nat.le_of_ble_eq_true rfl) (Nat.le_of_ble_eq_true rfl) (fun v9 h9 z9 y9 => ?_)
            obtain ⟨rfl, rfl⟩ := y9
            refine aw_st (st' := [.int q57.1]) rfl ?_
            refine aw_if_eq (tgt := 212) dJ1_putVal_206 (by decide) (fun c59 => ?_) (fun c59 => ?_)
            · rw [if_pos c59] at hq
              refine aw_subl (loc' := [some (.ref x0), some (.int x1), some (.ref a55), some (va_rf r3), some (.int x4), some (.int x5), some (va_rf r6), some (.ref a44), some (.int x8), some (.int x9), some (.ref a48), none, some (.int x12)]) ⟨Or.inr rfl, Or.inr rfl, Or.inr rfl, Or.inr rfl, Or.inr rfl, Or.inr rfl, Or.inr rfl, Or.inr rfl, Or.inr rfl, Or.inr rfl, Or.inr rfl, Or.inl rfl, Or.inr rfl, trivial⟩ ?_
              exact p_x_J1_putVal_212 g hst N _ _ _ _ ih hK145 hK222 hK209 q57.2 x0 x1 (some a55) r3 x4 x5 r6 (some a44) x8 x9 (some a48) x12 _ hq
            · rw [if_neg c59] at hq
              exact hK209 q57.2 x0 x1 (some a55) r3 x4 x5 r6 (some a44) x8 x9 (some a48) o52 x12 _ hq
def x_J1_putVal_250 (g : AG) (N : Nat) (h : AH) (x0 : Nat) (x1 : Int32) (r2 : Option Nat) (r3 : Option Nat) (x4 : Int32) (x5 : Int32) (r6 : Option Nat) (r7 : Option Nat) (x8 : Int32) (x9 : Int32) (r10 : Option Nat) (r12 : Option Nat) : Option (Option Nat × AH) :=
  bif clB h x0 [10] then ((x_J1_afterNodeAccess g N h x0 r10).bind fun q77 => some (r12, q77)) else none
theorem p_x_J1_putVal_250 (g : AG) (hst : (gL g).stackTraces = false) (N : Nat) : ∀ (h : AH) (x0 : Nat) (x1 : Int32) (r2 : Option Nat) (r3 : Option Nat) (x4 : Int32) (x5 : Int32) (r6 : Option Nat) (r7 : Option Nat) (x8 : Int32) (x9 : Int32) (r10 : Option Nat) (r12 : Option Nat) (q : (Option Nat × AH)), x_J1_putVal_250 g N h x0 x1 r2 r3 x4 x5 r6 r7 x8 x9 r10 r12 = some q → AW g YJ1_putVal 112 (xR q) h [some (.ref x0), some (.int x1), some (va_rf r2), some (va_rf r3), some (.int x4), some (.int x5), some (va_rf r6), some (va_rf r7), some (.int x8), some (.int x9), some (va_rf r10), none, some (va_rf r12)] 250 [] := by
  intro h x0 x1 r2 r3 x4 x5 r6 r7 x8 x9 r10 r12 q hq
  unfold x_J1_putVal_250 at hq
  refine aw_aload_n (i := 0) dJ1_putVal_250 rfl rfl trivial ?_
  refine aw_aload dJ1_putVal_251 rfl (aIsR_rf _) ?_
  replace hq := cond_t hq
  obtain ⟨z76, hq⟩ := hq
  obtain ⟨fs9, ha9⟩ := clB1 z76
  replace hq := obind hq
  obtain ⟨q77, e78, hq⟩ := hq
  refine aw_callV (Y2 := YJ1_afterNodeAccess) (As := [va_rf r10]) (rest := []) (r := (RJ1, TJ1, 8)) kJ1_afterNodeAccess ha9 rfl rfl q1660 q1661 q1662 dJ1_putVal_253 rfl rfl (ct_J1_afterNodeAccess g hst N h x0 r10 _ e78) (Nat.le_of_ble_eq_true rfl) (Nat.le_of_ble_eq_true rfl) (fun v9 h9 z9 y9 => ?_)
  obtain ⟨rfl, y9⟩ := y9
  rw [y9]
  refine aw_st (st' := []) rfl ?_
  refine aw_aload dJ1_putVal_256 rfl (aIsR_rf _) ?_
  cases hq
  exact aw_areturn dJ1_putVal_258 rfl (Or.inl ⟨_, rfl⟩) (aIsR_rf _) ⟨rfl, rfl⟩
def x_J1_putVal_244 (g : AG) (N : Nat) (h : AH) (x0 : Nat) (x1 : Int32) (r2 : Option Nat) (r3 : Option Nat) (x4 : Int32) (x5 : Int32) (r6 : Option Nat) (r7 : Option Nat) (x8 : Int32) (x9 : Int32) (r10 : Option Nat) (r12 : Option Nat) : Option (Option Nat × AH) :=
  (r10).bind fun a72 => (wrV g h a72 [(11, 2), (12, 4)] (va_rf r3)).bind fun h74 => x_J1_putVal_250 g N  h74 x0 x1 r2 r3 x4 x5 r6 r7 x8 x9 (some a72) r12
theorem p_x_J1_putVal_244 (g : AG) (hst : (gL g).stackTraces = false) (N : Nat) : ∀ (h : AH) (x0 : Nat) (x1 : Int32) (r2 : Option Nat) (r3 : Option Nat) (x4 : Int32) (x5 : Int32) (r6 : Option Nat) (r7 : Option Nat) (x8 : Int32) (x9 : Int32) (r10 : Option Nat) (r12 : Option Nat) (q : (Option Nat × AH)), x_J1_putVal_244 g N h x0 x1 r2 r3 x4 x5 r6 r7 x8 x9 r10 r12 = some q → AW g YJ1_putVal 112 (xR q) h [some (.ref x0), some (.int x1), some (va_rf r2), some (va_rf r3), some (.int x4), some (.int x5), some (va_rf r6), some (va_rf r7), some (.int x8), some (.int x9), some (va_rf r10), none, some (va_rf r12)] 244 [] := by
  intro h x0 x1 r2 r3 x4 x5 r6 r7 x8 x9 r10 r12 q hq
  unfold x_J1_putVal_244 at hq
  refine aw_aload dJ1_putVal_244 rfl (aIsR_rf _) ?_
  refine aw_aload_n (i := 3) dJ1_putVal_246 rfl rfl (aIsR_rf _) ?_
  replace hq := obind hq
  obtain ⟨a72, e73, hq⟩ := hq
  subst e73
  replace hq := obind hq
  obtain ⟨h74, e75, hq⟩ := hq
  refine xw_put e75 fJ1_162 tJ27_2_J29_4 (fits_rf _ r3) dJ1_putVal_247 ?_
  exact p_x_J1_putVal_250 g hst N   h74 x0 x1 r2 r3 x4 x5 r6 r7 x8 x9 (some a72) r12 _ hq
def x_J1_putVal_222 (g : AG) (N : Nat) (h : AH) (x0 : Nat) (x1 : Int32) (r2 : Option Nat) (r3 : Option Nat) (x4 : Int32) (x5 : Int32) (r6 : Option Nat) (r7 : Option Nat) (x8 : Int32) (x9 : Int32) (r10 : Option Nat) : Option (Option Nat × AH) :=
  ocase r10 (x_J1_putVal_259 g N  h x0 x1 r2 r3 x4 x5 r6 r7 x8 x9) (fun a68 => (rdR h a68 [(11, 2), (12, 4)]).bind fun o69 => if x4 = 0 then (x_J1_putVal_244 g N  h x0 x1 r2 r3 x4 x5 r6 r7 x8 x9 (some a68) o69) else (ocase o69 (x_J1_putVal_244 g N  h x0 x1 r2 r3 x4 x5 r6 r7 x8 x9 (some a68) (none)) (fun a79 => x_J1_putVal_250 g N  h x0 x1 r2 r3 x4 x5 r6 r7 x8 x9 (some a68) (some a79))))
theorem p_x_J1_putVal_222 (g : AG) (hst : (gL g).stackTraces = false) (N : Nat) : ∀ (h : AH) (x0 : Nat) (x1 : Int32) (r2 : Option Nat) (r3 : Option Nat) (x4 : Int32) (x5 : Int32) (r6 : Option Nat) (r7 : Option Nat) (x8 : Int32) (x9 : Int32) (r10 : Option Nat) (q : (Option Nat × AH)), x_J1_putVal_222 g N h x0 x1 r2 r3 x4 x5 r6 r7 x8 x9 r10 = some q → AW g YJ1_putVal 112 (xR q) h [some (.ref x0), some (.int x1), some (va_rf r2), some (va_rf r3), some (.int x4), some (.int x5), some (va_rf r6), some (va_rf r7), some (.int x8), some (.int x9), some (va_rf r10), none, none] 222 [] := by
  intro h x0 x1 r2 r3 x4 x5 r6 r7 x8 x9 r10 q hq
  unfold x_J1_putVal_222 at hq
  refine aw_aload dJ1_putVal_222 rfl (aIsR_rf _) ?_
  rcases r10 with _ | a68
  · replace hq := ocase_n hq
    refine xw_ifnullN (tgt := 259) dJ1_putVal_224 (by decide) ?_
    refine aw_subl (loc' := [some (.ref x0), some (.int x1), some (va_rf r2), some (va_rf r3), some (.int x4), some (.int x5), some (va_rf r6), some (va_rf r7), some (.int x8), some (.int x9), none, none, none]) ⟨Or.inr rfl, Or.inr rfl, Or.inr rfl, Or.inr rfl, Or.inr rfl, Or.inr rfl, Or.inr rfl, Or.inr rfl, Or.inr rfl, Or.inr rfl, Or.inl rfl, Or.inl rfl, Or.inl rfl, trivial⟩ ?_
    exact p_x_J1_putVal_259 g hst N   h x0 x1 r2 r3 x4 x5 r6 r7 x8 x9 _ hq
  · replace hq := ocase_s hq
    refine xw_ifnullS (tgt := 259) dJ1_putVal_224 (by decide) ?_
    refine aw_aload dJ1_putVal_227 rfl trivial ?_
    replace hq := obind hq
    obtain ⟨o69, e70, hq⟩ := hq
    refine xw_getR e70 fJ1_162 dJ1_putVal_229 ?_
    refine aw_astore (loc' := [some (.ref x0), some (.int x1), some (va_rf r2), some (va_rf r3), some (.int x4), some (.int x5), some (va_rf r6), some (va_rf r7), some (.int x8), some (.int x9), some (.ref a68), none, some (va_rf o69)]) dJ1_putVal_232 (Nat.le_of_ble_eq_true rfl) (aIsR_rf _) rfl ?_
    refine aw_iload dJ1_putVal_234 rfl ?_
    refine aw_if_eq (tgt := 244) dJ1_putVal_236 (by decide) (fun c71 => ?_) (fun c71 => ?_)
    · rw [if_pos c71] at hq
      exact p_x_J1_putVal_244 g hst N   h x0 x1 r2 r3 x4 x5 r6 r7 x8 x9 (some a68) o69 _ hq
    · rw [if_neg c71] at hq
      refine aw_aload dJ1_putVal_239 rfl (aIsR_rf _) ?_
      rcases o69 with _ | a79
      · replace hq := ocase_n hq
        refine xw_ifnonN (tgt := 250) dJ1_putVal_241 (by decide) ?_
        exact p_x_J1_putVal_244 g hst N   h x0 x1 r2 r3 x4 x5 r6 r7 x8 x9 (some a68) (none) _ hq
      · replace hq := ocase_s hq
        refine xw_ifnonS (tgt := 250) dJ1_putVal_241 (by decide) ?_
        exact p_x_J1_putVal_250 g hst N   h x0 x1 r2 r3 x4 x5 r6 r7 x8 x9 (some a68) (some a79) _ hq
def x_J1_putVal_104 (g : AG) (N : Nat) (h : AH) (x0 : Nat) (x1 : Int32) (r2 : Option Nat) (r3 : Option Nat) (x4 : Int32) (x5 : Int32) (r6 : Option Nat) (r7 : Option Nat) (x8 : Int32) (x9 : Int32) : Option (Option Nat × AH) :=
  (insI h r7 [12] [11]).bind fun i41 => if i41 = 0 then (x_J1_putVal_134 g N (fun h x0 x1 r2 r3 x4 x5 r6 r7 x8 x9 r10 x12 => bif clB h x0 [10] then ((x_J1_newNode g N h x0 x1 r2 r3 (none)).bind fun q61 => (r7).bind fun a63 => (wrV g q61.2 a63 [(11, 3), (12, 5)] (va_rf q61.1)).bind fun h65 => if x12 < (7 : Int32) then (x_J1_putVal_222 g N  h65 x0 x1 r2 r3 x4 x5 r6 (some a63) x8 x9 r10) else (bif clB h65 x0 [10] then ((x_J1_treeifyBin g N h65 x0 r6 x1).bind fun q81 => x_J1_putVal_222 g N  q81 x0 x1 r2 r3 x4 x5 r6 (some a63) x8 x9 r10) else none)) else none) (fun h x0 x1 r2 r3 x4 x5 r6 r7 x8 x9 r10 => x_J1_putVal_222 g N  h x0 x1 r2 r3 x4 x5 r6 r7 x8 x9 r10) (fun h x0 x1 r2 r3 x4 x5 r6 r7 x8 x9 r10 r11 x12 => x_J1_putVal_222 g N  h x0 x1 r2 r3 x4 x5 r6 r7 x8 x9 r10) N h x0 x1 r2 r3 x4 x5 r6 r7 x8 x9 (0 : Int32)) else (bif casB h r7 [12] then ((r7).bind fun a84 => bif clB h a84 [12] then ((x_J29_putTreeVal g N h a84 (some x0) r6 x1 r2 r3).bind fun q87 => x_J1_putVal_222 g N  q87.2 x0 x1 r2 r3 x4 x5 r6 (some a84) x8 x9 q87.1) else none) else none)
theorem p_x_J1_putVal_104 (g : AG) (hst : (gL g).stackTraces = false) (N : Nat) : ∀ (h : AH) (x0 : Nat) (x1 : Int32) (r2 : Option Nat) (r3 : Option Nat) (x4 : Int32) (x5 : Int32) (r6 : Option Nat) (r7 : Option Nat) (x8 : Int32) (x9 : Int32) (q : (Option Nat × AH)), x_J1_putVal_104 g N h x0 x1 r2 r3 x4 x5 r6 r7 x8 x9 = some q → AW g YJ1_putVal 112 (xR q) h [some (.ref x0), some (.int x1), some (va_rf r2), some (va_rf r3), some (.int x4), some (.int x5), some (va_rf r6), some (va_rf r7), some (.int x8), some (.int x9), none, none, none] 104 [] := by
  intro h x0 x1 r2 r3 x4 x5 r6 r7 x8 x9 q hq
  unfold x_J1_putVal_104 at hq
  refine aw_aload dJ1_putVal_104 rfl (aIsR_rf _) ?_
  replace hq := obind hq
  obtain ⟨i41, e42, hq⟩ := hq
  refine xw_inst (r := r7) e42 q1261 casjava_util_HashMap_TreeNode ncajava_util_HashMap_TreeNode dJ1_putVal_106 ?_
  refine aw_if_eq (tgt := 131) dJ1_putVal_109 (by decide) (fun c43 => ?_) (fun c43 => ?_)
  · rw [if_pos c43] at hq
    refine aw_iconst (v := 0) dJ1_putVal_131 (by decide) ?_
    refine aw_istore (loc' := [some (.ref x0), some (.int x1), some (va_rf r2), some (va_rf r3), some (.int x4), some (.int x5), some (va_rf r6), some (va_rf r7), some (.int x8), some (.int x9), none, none, some (.int (0 : Int32))]) dJ1_putVal_132 (Nat.le_of_ble_eq_true rfl) rfl ?_
    refine p_x_J1_putVal_134 g hst N _ _ _ ?_ ?_ ?_ N h x0 x1 r2 r3 x4 x5 r6 r7 x8 x9 (0 : Int32) _ hq
    · intro h x0 x1 r2 r3 x4 x5 r6 r7 x8 x9 r10 x12 q hq
      refine aw_aload dJ1_putVal_145 rfl (aIsR_rf _) ?_
      refine aw_aload_n (i := 0) dJ1_putVal_147 rfl rfl trivial ?_
      refine aw_iload_n (i := 1) dJ1_putVal_148 rfl rfl ?_
      refine aw_aload_n (i := 2) dJ1_putVal_149 rfl rfl (aIsR_rf _) ?_
      refine aw_aload_n (i := 3) dJ1_putVal_150 rfl rfl (aIsR_rf _) ?_
      refine aw_null dJ1_putVal_151 ?_
      replace hq := cond_t hq
      obtain ⟨z60, hq⟩ := hq
      obtain ⟨fs9, ha9⟩ := clB1 z60
      replace hq := obind hq
      obtain ⟨q61, e62, hq⟩ := hq
      refine aw_callV (Y2 := YJ1_newNode) (As := [.int x1, va_rf r2, va_rf r3, .null]) (rest := [va_rf r7]) (r := (RJ1, TJ1, 8)) kJ1_newNode ha9 rfl rfl q1606 q1607 q1608 dJ1_putVal_152 rfl rfl (ct_J1_newNode g hst N h x0 x1 r2 r3 (none) _ e62) (Nat.le_of_ble_eq_true rfl) (by simp only [List.map_cons, List.map_nil, List.sum_cons, List.sum_nil, cat_rf]; exact Nat.le_of_ble_eq_true rfl) (fun v9 h9 z9 y9 => ?_)
      obtain ⟨rfl, rfl⟩ := y9
      refine aw_st (st' := [va_rf q61.1, va_rf r7]) rfl ?_
      replace hq := obind hq
      obtain ⟨a63, e64, hq⟩ := hq
      subst e64
      replace hq := obind hq
      obtain ⟨h65, e66, hq⟩ := hq
      refine xw_put e66 fJ1_177 tJ27_3_J29_5 (fits_rf _ q61.1) dJ1_putVal_155 ?_
      refine aw_iload dJ1_putVal_158 rfl ?_
      refine aw_bipush (v := 7) dJ1_putVal_160 (by decide) ?_
      refine aw_icmp_lt (tgt := 222) dJ1_putVal_162 (by decide) (fun c67 => ?_) (fun c67 => ?_)
      · rw [if_pos c67] at hq
        refine aw_subl (loc' := [some (.ref x0), some (.int x1), some (va_rf r2), some (va_rf r3), some (.int x4), some (.int x5), some (va_rf r6), some (.ref a63), some (.int x8), some (.int x9), some (va_rf r10), none, none]) ⟨Or.inr rfl, Or.inr rfl, Or.inr rfl, Or.inr rfl, Or.inr rfl, Or.inr rfl, Or.inr rfl, Or.inr rfl, Or.inr rfl, Or.inr rfl, Or.inr rfl, Or.inl rfl, Or.inl rfl, trivial⟩ ?_
        exact p_x_J1_putVal_222 g hst N   h65 x0 x1 r2 r3 x4 x5 r6 (some a63) x8 x9 r10 _ hq
      · rw [if_neg c67] at hq
        refine aw_aload_n (i := 0) dJ1_putVal_165 rfl rfl trivial ?_
        refine aw_aload dJ1_putVal_166 rfl (aIsR_rf _) ?_
        refine aw_iload_n (i := 1) dJ1_putVal_168 rfl rfl ?_
        replace hq := cond_t hq
        obtain ⟨z80, hq⟩ := hq
        obtain ⟨fs9, ha9⟩ := clB1 z80
        replace hq := obind hq
        obtain ⟨q81, e82, hq⟩ := hq
        refine aw_callV (Y2 := YJ1_treeifyBin) (As := [va_rf r6, .int x1]) (rest := []) (r := (RJ1, TJ1, 8)) kJ1_treeifyBin ha9 rfl rfl q1651 q1652 q1653 dJ1_putVal_169 rfl rfl (ct_J1_treeifyBin g hst N h65 x0 r6 x1 _ e82) (Nat.le_of_ble_eq_true rfl) (Nat.le_of_ble_eq_true rfl) (fun v9 h9 z9 y9 => ?_)
        obtain ⟨rfl, y9⟩ := y9
        rw [y9]
        refine aw_st (st' := []) rfl ?_
        refine aw_goto (tgt := 222) dJ1_putVal_172 (by decide) ?_
        refine aw_subl (loc' := [some (.ref x0), some (.int x1), some (va_rf r2), some (va_rf r3), some (.int x4), some (.int x5), some (va_rf r6), some (.ref a63), some (.int x8), some (.int x9), some (va_rf r10), none, none]) ⟨Or.inr rfl, Or.inr rfl, Or.inr rfl, Or.inr rfl, Or.inr rfl, Or.inr rfl, Or.inr rfl, Or.inr rfl, Or.inr rfl, Or.inr rfl, Or.inr rfl, Or.inl rfl, Or.inl rfl, trivial⟩ ?_
        exact p_x_J1_putVal_222 g hst N   q81 x0 x1 r2 r3 x4 x5 r6 (some a63) x8 x9 r10 _ hq
    · intro h x0 x1 r2 r3 x4 x5 r6 r7 x8 x9 r10 q hq
      exact p_x_J1_putVal_222 g hst N   h x0 x1 r2 r3 x4 x5 r6 r7 x8 x9 r10 _ hq
    · intro h x0 x1 r2 r3 x4 x5 r6 r7 x8 x9 r10 r11 x12 q hq
      refine aw_goto (tgt := 222) dJ1_putVal_209 (by decide) ?_
      refine aw_subl (loc' := [some (.ref x0), some (.int x1), some (va_rf r2), some (va_rf r3), some (.int x4), some (.int x5), some (va_rf r6), some (va_rf r7), some (.int x8), some (.int x9), some (va_rf r10), none, none]) ⟨Or.inr rfl, Or.inr rfl, Or.inr rfl, Or.inr rfl, Or.inr rfl, Or.inr rfl, Or.inr rfl, Or.inr rfl, Or.inr rfl, Or.inr rfl, Or.inr rfl, Or.inl rfl, Or.inl rfl, trivial⟩ ?_
      exact p_x_J1_putVal_222 g hst N   h x0 x1 r2 r3 x4 x5 r6 r7 x8 x9 r10 _ hq
  · rw [if_neg c43] at hq
    refine aw_aload dJ1_putVal_112 rfl (aIsR_rf _) ?_
    replace hq := cond_t hq
    obtain ⟨z83, hq⟩ := hq
    refine xw_cast (r := r7) z83 q1261 casjava_util_HashMap_TreeNode dJ1_putVal_114 ?_
    refine aw_aload_n (i := 0) dJ1_putVal_117 rfl rfl trivial ?_
    refine aw_aload dJ1_putVal_118 rfl (aIsR_rf _) ?_
    refine aw_iload_n (i := 1) dJ1_putVal_120 rfl rfl ?_
    refine aw_aload_n (i := 2) dJ1_putVal_121 rfl rfl (aIsR_rf _) ?_
    refine aw_aload_n (i := 3) dJ1_putVal_122 rfl rfl (aIsR_rf _) ?_
    replace hq := obind hq
    obtain ⟨a84, e85, hq⟩ := hq
    subst e85
    replace hq := cond_t hq
    obtain ⟨z86, hq⟩ := hq
    obtain ⟨fs9, ha9⟩ := clB1 z86
    replace hq := obind hq
    obtain ⟨q87, e88, hq⟩ := hq
    refine aw_callV (Y2 := YJ29_putTreeVal) (As := [.ref x0, va_rf r6, .int x1, va_rf r2, va_rf r3]) (rest := []) (r := (RJ29, TJ29, 11)) kJ29_putTreeVal ha9 rfl rfl q1610 q1611 q1612 dJ1_putVal_123 rfl rfl (ct_J29_putTreeVal g hst N h a84 (some x0) r6 x1 r2 r3 _ e88) (Nat.le_of_ble_eq_true rfl) (Nat.le_of_ble_eq_true rfl) (fun v9 h9 z9 y9 => ?_)
    obtain ⟨rfl, rfl⟩ := y9
    refine aw_st (st' := [va_rf q87.1]) rfl ?_
    refine aw_astore (loc' := [some (.ref x0), some (.int x1), some (va_rf r2), some (va_rf r3), some (.int x4), some (.int x5), some (va_rf r6), some (.ref a84), some (.int x8), some (.int x9), some (va_rf q87.1), none, none]) dJ1_putVal_126 (Nat.le_of_ble_eq_true rfl) (aIsR_rf _) rfl ?_
    refine aw_goto (tgt := 222) dJ1_putVal_128 (by decide) ?_
    exact p_x_J1_putVal_222 g hst N   q87.2 x0 x1 r2 r3 x4 x5 r6 (some a84) x8 x9 q87.1 _ hq
def x_J1_putVal_97 (g : AG) (N : Nat) (h : AH) (x0 : Nat) (x1 : Int32) (r2 : Option Nat) (r3 : Option Nat) (x4 : Int32) (x5 : Int32) (r6 : Option Nat) (r7 : Option Nat) (x8 : Int32) (x9 : Int32) (r11 : Option Nat) : Option (Option Nat × AH) :=
  x_J1_putVal_222 g N  h x0 x1 r2 r3 x4 x5 r6 r7 x8 x9 r7
theorem p_x_J1_putVal_97 (g : AG) (hst : (gL g).stackTraces = false) (N : Nat) : ∀ (h : AH) (x0 : Nat) (x1 : Int32) (r2 : Option Nat) (r3 : Option Nat) (x4 : Int32) (x5 : Int32) (r6 : Option Nat) (r7 : Option Nat) (x8 : Int32) (x9 : Int32) (r11 : Option Nat) (q : (Option Nat × AH)), x_J1_putVal_97 g N h x0 x1 r2 r3 x4 x5 r6 r7 x8 x9 r11 = some q → AW g YJ1_putVal 112 (xR q) h [some (.ref x0), some (.int x1), some (va_rf r2), some (va_rf r3), some (.int x4), some (.int x5), some (va_rf r6), some (va_rf r7), some (.int x8), some (.int x9), none, some (va_rf r11), none] 97 [] := by
  intro h x0 x1 r2 r3 x4 x5 r6 r7 x8 x9 r11 q hq
  unfold x_J1_putVal_97 at hq
  refine aw_aload dJ1_putVal_97 rfl (aIsR_rf _) ?_
  refine aw_astore (loc' := [some (.ref x0), some (.int x1), some (va_rf r2), some (va_rf r3), some (.int x4), some (.int x5), some (va_rf r6), some (va_rf r7), some (.int x8), some (.int x9), some (va_rf r7), some (va_rf r11), none]) dJ1_putVal_99 (Nat.le_of_ble_eq_true rfl) (aIsR_rf _) rfl ?_
  refine aw_goto (tgt := 222) dJ1_putVal_101 (by decide) ?_
  refine aw_subl (loc' := [some (.ref x0), some (.int x1), some (va_rf r2), some (va_rf r3), some (.int x4), some (.int x5), some (va_rf r6), some (va_rf r7), some (.int x8), some (.int x9), some (va_rf r7), none, none]) ⟨Or.inr rfl, Or.inr rfl, Or.inr rfl, Or.inr rfl, Or.inr rfl, Or.inr rfl, Or.inr rfl, Or.inr rfl, Or.inr rfl, Or.inr rfl, Or.inr rfl, Or.inl rfl, Or.inl rfl, trivial⟩ ?_
  exact p_x_J1_putVal_222 g hst N   h x0 x1 r2 r3 x4 x5 r6 r7 x8 x9 r7 _ hq
def x_J1_putVal_29 (g : AG) (N : Nat) (h : AH) (x0 : Nat) (x1 : Int32) (r2 : Option Nat) (r3 : Option Nat) (x4 : Int32) (x5 : Int32) (r6 : Option Nat) (x8 : Int32) : Option (Option Nat × AH) :=
  (r6).bind fun a11 => (rdQ h a11 ((x8 - (1 : Int32)) &&& x1)).bind fun o13 => ocase o13 (bif clB h x0 [10] then ((x_J1_newNode g N h x0 x1 r2 r3 (none)).bind fun q17 => (wrQ g q17.2 a11 ((x8 - (1 : Int32)) &&& x1) q17.1).bind fun h19 => x_J1_putVal_259 g N  h19 x0 x1 r2 r3 x4 x5 (some a11) (none) x8 ((x8 - (1 : Int32)) &&& x1)) else none) (fun a15 => (rdI h a15 [(11, 0), (12, 2)]).bind fun i38 => if i38 = x1 then ((rdR h a15 [(11, 1), (12, 3)]).bind fun o89 => if o89 = r2 then (x_J1_putVal_97 g N  h x0 x1 r2 r3 x4 x5 (some a11) (some a15) x8 ((x8 - (1 : Int32)) &&& x1) o89) else (ocase r2 (x_J1_putVal_104 g N  h x0 x1 (none) r3 x4 x5 (some a11) (some a15) x8 ((x8 - (1 : Int32)) &&& x1)) (fun a92 => bif clB h a92 [17] then ((x_J13_equals g N h a92 o89).bind fun q94 => if q94.1 = 0 then (x_J1_putVal_104 g N  q94.2 x0 x1 (some a92) r3 x4 x5 (some a11) (some a15) x8 ((x8 - (1 : Int32)) &&& x1)) else (x_J1_putVal_97 g N  q94.2 x0 x1 (some a92) r3 x4 x5 (some a11) (some a15) x8 ((x8 - (1 : Int32)) &&& x1) o89)) else none))) else (x_J1_putVal_104 g N  h x0 x1 r2 r3 x4 x5 (some a11) (some a15) x8 ((x8 - (1 : Int32)) &&& x1)))
theorem p_x_J1_putVal_29 (g : AG) (hst : (gL g).stackTraces = false) (N : Nat) : ∀ (h : AH) (x0 : Nat) (x1 : Int32) (r2 : Option Nat) (r3 : Option Nat) (x4 : Int32) (x5 : Int32) (r6 : Option Nat) (x8 : Int32) (q : (Option Nat × AH)), x_J1_putVal_29 g N h x0 x1 r2 r3 x4 x5 r6 x8 = some q → AW g YJ1_putVal 112 (xR q) h [some (.ref x0), some (.int x1), some (va_rf r2), some (va_rf r3), some (.int x4), some (.int x5), some (va_rf r6), none, some (.int x8), none, none, none, none] 29 [] := by
  intro h x0 x1 r2 r3 x4 x5 r6 x8 q hq
  unfold x_J1_putVal_29 at hq
  refine aw_aload dJ1_putVal_29 rfl (aIsR_rf _) ?_
  refine aw_iload dJ1_putVal_31 rfl ?_
  refine aw_iconst (v := 1) dJ1_putVal_33 (by decide) ?_
  refine aw_isub dJ1_putVal_34 ?_
  refine aw_iload_n (i := 1) dJ1_putVal_35 rfl rfl ?_
  refine aw_iand dJ1_putVal_36 ?_
  refine aw_dup dJ1_putVal_37 rfl ?_
  refine aw_istore (loc' := [some (.ref x0), some (.int x1), some (va_rf r2), some (va_rf r3), some (.int x4), some (.int x5), some (va_rf r6), none, some (.int x8), some (.int ((x8 - (1 : Int32)) &&& x1)), none, none, none]) dJ1_putVal_38 (Nat.le_of_ble_eq_true rfl) rfl ?_
  replace hq := obind hq
  obtain ⟨a11, e12, hq⟩ := hq
  subst e12
  replace hq := obind hq
  obtain ⟨o13, e14, hq⟩ := hq
  refine xw_aald e14 dJ1_putVal_40 ?_
  refine aw_dup dJ1_putVal_41 (cat_rf _) ?_
  refine aw_astore (loc' := [some (.ref x0), some (.int x1), some (va_rf r2), some (va_rf r3), some (.int x4), some (.int x5), some (.ref a11), some (va_rf o13), some (.int x8), some (.int ((x8 - (1 : Int32)) &&& x1)), none, none, none]) dJ1_putVal_42 (Nat.le_of_ble_eq_true rfl) (aIsR_rf _) rfl ?_
  rcases o13 with _ | a15
  · replace hq := ocase_n hq
    refine xw_ifnonN (tgt := 63) dJ1_putVal_44 (by decide) ?_
    refine aw_aload dJ1_putVal_47 rfl trivial ?_
    refine aw_iload dJ1_putVal_49 rfl ?_
    refine aw_aload_n (i := 0) dJ1_putVal_51 rfl rfl trivial ?_
    refine aw_iload_n (i := 1) dJ1_putVal_52 rfl rfl ?_
    refine aw_aload_n (i := 2) dJ1_putVal_53 rfl rfl (aIsR_rf _) ?_
    refine aw_aload_n (i := 3) dJ1_putVal_54 rfl rfl (aIsR_rf _) ?_
    refine aw_null dJ1_putVal_55 ?_
    replace hq := cond_t hq
    obtain ⟨z16, hq⟩ := hq
    obtain ⟨fs9, ha9⟩ := clB1 z16
    replace hq := obind hq
    obtain ⟨q17, e18, hq⟩ := hq
    refine aw_callV (Y2 := YJ1_newNode) (As := [.int x1, va_rf r2, va_rf r3, .null]) (rest := [.int ((x8 - (1 : Int32)) &&& x1), .ref a11]) (r := (RJ1, TJ1, 8)) kJ1_newNode ha9 rfl rfl q1606 q1607 q1608 dJ1_putVal_56 rfl rfl (ct_J1_newNode g hst N h x0 x1 r2 r3 (none) _ e18) (Nat.le_of_ble_eq_true rfl) (Nat.le_of_ble_eq_true rfl) (fun v9 h9 z9 y9 => ?_)
    obtain ⟨rfl, rfl⟩ := y9
    refine aw_st (st' := [va_rf q17.1, .int ((x8 - (1 : Int32)) &&& x1), .ref a11]) rfl ?_
    replace hq := obind hq
    obtain ⟨h19, e20, hq⟩ := hq
    refine xw_aast (v := q17.1) e20 dJ1_putVal_59 ?_
    refine aw_goto (tgt := 259) dJ1_putVal_60 (by decide) ?_
    exact p_x_J1_putVal_259 g hst N   h19 x0 x1 r2 r3 x4 x5 (some a11) (none) x8 ((x8 - (1 : Int32)) &&& x1) _ hq
  · replace hq := ocase_s hq
    refine xw_ifnonS (tgt := 63) dJ1_putVal_44 (by decide) ?_
    refine aw_aload dJ1_putVal_63 rfl trivial ?_
    replace hq := obind hq
    obtain ⟨i38, e39, hq⟩ := hq
    refine xw_getI e39 fJ1_168 dJ1_putVal_65 ?_
    refine aw_iload_n (i := 1) dJ1_putVal_68 rfl rfl ?_
    refine aw_icmp_ne (tgt := 104) dJ1_putVal_69 (by decide) (fun c40 => ?_) (fun c40 => ?_)
    · rw [if_neg c40] at hq
      exact p_x_J1_putVal_104 g hst N   h x0 x1 r2 r3 x4 x5 (some a11) (some a15) x8 ((x8 - (1 : Int32)) &&& x1) _ hq
    · rw [if_pos c40] at hq
      refine aw_aload dJ1_putVal_72 rfl trivial ?_
      replace hq := obind hq
      obtain ⟨o89, e90, hq⟩ := hq
      refine xw_getR e90 fJ1_170 dJ1_putVal_74 ?_
      refine aw_dup dJ1_putVal_77 (cat_rf _) ?_
      refine aw_astore (loc' := [some (.ref x0), some (.int x1), some (va_rf r2), some (va_rf r3), some (.int x4), some (.int x5), some (.ref a11), some (.ref a15), some (.int x8), some (.int ((x8 - (1 : Int32)) &&& x1)), none, some (va_rf o89), none]) dJ1_putVal_78 (Nat.le_of_ble_eq_true rfl) (aIsR_rf _) rfl ?_
      refine aw_aload_n (i := 2) dJ1_putVal_80 rfl rfl (aIsR_rf _) ?_
      refine xw_acmp_eq (v := o89) (w := r2) (tgt := 97) dJ1_putVal_81 (by decide) (fun c91 => ?_) (fun c91 => ?_)
      · rw [if_pos c91] at hq
        exact p_x_J1_putVal_97 g hst N   h x0 x1 r2 r3 x4 x5 (some a11) (some a15) x8 ((x8 - (1 : Int32)) &&& x1) o89 _ hq
      · rw [if_neg c91] at hq
        refine aw_aload_n (i := 2) dJ1_putVal_84 rfl rfl (aIsR_rf _) ?_
        rcases r2 with _ | a92
        · replace hq := ocase_n hq
          refine xw_ifnullN (tgt := 104) dJ1_putVal_85 (by decide) ?_
          refine aw_subl (loc' := [some (.ref x0), some (.int x1), some (.null), some (va_rf r3), some (.int x4), some (.int x5), some (.ref a11), some (.ref a15), some (.int x8), some (.int ((x8 - (1 : Int32)) &&& x1)), none, none, none]) ⟨Or.inr rfl, Or.inr rfl, Or.inr rfl, Or.inr rfl, Or.inr rfl, Or.inr rfl, Or.inr rfl, Or.inr rfl, Or.inr rfl, Or.inr rfl, Or.inl rfl, Or.inl rfl, Or.inl rfl, trivial⟩ ?_
          exact p_x_J1_putVal_104 g hst N   h x0 x1 (none) r3 x4 x5 (some a11) (some a15) x8 ((x8 - (1 : Int32)) &&& x1) _ hq
        · replace hq := ocase_s hq
          refine xw_ifnullS (tgt := 104) dJ1_putVal_85 (by decide) ?_
          refine aw_aload_n (i := 2) dJ1_putVal_88 rfl rfl trivial ?_
          refine aw_aload dJ1_putVal_89 rfl (aIsR_rf _) ?_
          replace hq := cond_t hq
          obtain ⟨z93, hq⟩ := hq
          obtain ⟨fs9, ha9⟩ := clB1 z93
          replace hq := obind hq
          obtain ⟨q94, e95, hq⟩ := hq
          refine aw_callO (Y2 := YJ13_equals) (As := [va_rf o89]) (rest := []) (r := (RJ13, TJ13, 4)) (x := ⟨"java/lang/Object", "equals", "(Ljava/lang/Object;)Z"⟩) (o := "java/lang/Object") kJ13_equals ha9 rfl ⟨by decide +kernel, by decide +kernel, by decide +kernel⟩ q1218 q1220 q1217 q1251 q1250 dJ1_putVal_91 rfl rfl (ct_J13_equals g hst N h a92 o89 _ e95) (Nat.le_of_ble_eq_true rfl) (Nat.le_of_ble_eq_true rfl) (fun v9 h9 z9 y9 => ?_)
          obtain ⟨rfl, rfl⟩ := y9
          refine aw_st (st' := [.int q94.1]) rfl ?_
          refine aw_if_eq (tgt := 104) dJ1_putVal_94 (by decide) (fun c96 => ?_) (fun c96 => ?_)
          · rw [if_pos c96] at hq
            refine aw_subl (loc' := [some (.ref x0), some (.int x1), some (.ref a92), some (va_rf r3), some (.int x4), some (.int x5), some (.ref a11), some (.ref a15), some (.int x8), some (.int ((x8 - (1 : Int32)) &&& x1)), none, none, none]) ⟨Or.inr rfl, Or.inr rfl, Or.inr rfl, Or.inr rfl, Or.inr rfl, Or.inr rfl, Or.inr rfl, Or.inr rfl, Or.inr rfl, Or.inr rfl, Or.inl rfl, Or.inl rfl, Or.inl rfl, trivial⟩ ?_
            exact p_x_J1_putVal_104 g hst N   q94.2 x0 x1 (some a92) r3 x4 x5 (some a11) (some a15) x8 ((x8 - (1 : Int32)) &&& x1) _ hq
          · rw [if_neg c96] at hq
            exact p_x_J1_putVal_97 g hst N   q94.2 x0 x1 (some a92) r3 x4 x5 (some a11) (some a15) x8 ((x8 - (1 : Int32)) &&& x1) o89 _ hq
def x_J1_putVal_19 (g : AG) (N : Nat) (h : AH) (x0 : Nat) (x1 : Int32) (r2 : Option Nat) (r3 : Option Nat) (x4 : Int32) (x5 : Int32) (r6 : Option Nat) : Option (Option Nat × AH) :=
  bif clB h x0 [10] then ((x_J1_resize g N h x0).bind fun q5 => (q5.1).bind fun a7 => (rdN q5.2 a7).bind fun i9 => x_J1_putVal_29 g N  q5.2 x0 x1 r2 r3 x4 x5 (some a7) i9) else none
theorem p_x_J1_putVal_19 (g : AG) (hst : (gL g).stackTraces = false) (N : Nat) : ∀ (h : AH) (x0 : Nat) (x1 : Int32) (r2 : Option Nat) (r3 : Option Nat) (x4 : Int32) (x5 : Int32) (r6 : Option Nat) (q : (Option Nat × AH)), x_J1_putVal_19 g N h x0 x1 r2 r3 x4 x5 r6 = some q → AW g YJ1_putVal 112 (xR q) h [some (.ref x0), some (.int x1), some (va_rf r2), some (va_rf r3), some (.int x4), some (.int x5), some (va_rf r6), none, none, none, none, none, none] 19 [] := by
  intro h x0 x1 r2 r3 x4 x5 r6 q hq
  unfold x_J1_putVal_19 at hq
  refine aw_aload_n (i := 0) dJ1_putVal_19 rfl rfl trivial ?_
  replace hq := cond_t hq
  obtain ⟨z4, hq⟩ := hq
  obtain ⟨fs9, ha9⟩ := clB1 z4
  replace hq := obind hq
  obtain ⟨q5, e6, hq⟩ := hq
  refine aw_callV (Y2 := YJ1_resize) (As := []) (rest := []) (r := (RJ1, TJ1, 8)) kJ1_resize ha9 rfl rfl q1536 q1537 q1538 dJ1_putVal_20 rfl rfl (ct_J1_resize g hst N h x0 _ e6) (Nat.le_of_ble_eq_true rfl) (Nat.le_of_ble_eq_true rfl) (fun v9 h9 z9 y9 => ?_)
  obtain ⟨rfl, rfl⟩ := y9
  refine aw_st (st' := [va_rf q5.1]) rfl ?_
  refine aw_dup dJ1_putVal_23 (cat_rf _) ?_
  refine aw_astore (loc' := [some (.ref x0), some (.int x1), some (va_rf r2), some (va_rf r3), some (.int x4), some (.int x5), some (va_rf q5.1), none, none, none, none, none, none]) dJ1_putVal_24 (Nat.le_of_ble_eq_true rfl) (aIsR_rf _) rfl ?_
  replace hq := obind hq
  obtain ⟨a7, e8, hq⟩ := hq
  rw [e8]
  replace hq := obind hq
  obtain ⟨i9, e10, hq⟩ := hq
  refine xw_alen e10 dJ1_putVal_26 ?_
  refine aw_istore (loc' := [some (.ref x0), some (.int x1), some (va_rf r2), some (va_rf r3), some (.int x4), some (.int x5), some (.ref a7), none, some (.int i9), none, none, none, none]) dJ1_putVal_27 (Nat.le_of_ble_eq_true rfl) rfl ?_
  exact p_x_J1_putVal_29 g hst N   q5.2 x0 x1 r2 r3 x4 x5 (some a7) i9 _ hq
def x_J1_putVal (g : AG) (N : Nat) (h : AH) (x0 : Nat) (x1 : Int32) (r2 : Option Nat) (r3 : Option Nat) (x4 : Int32) (x5 : Int32) : Option (Option Nat × AH) :=
  (rdR h x0 [(10, 2)]).bind fun o1 => ocase o1 (x_J1_putVal_19 g N  h x0 x1 r2 r3 x4 x5 (none)) (fun a3 => (rdN h a3).bind fun i97 => if i97 = 0 then (x_J1_putVal_19 g N  h x0 x1 r2 r3 x4 x5 (some a3)) else (x_J1_putVal_29 g N  h x0 x1 r2 r3 x4 x5 (some a3) i97))
theorem ct_J1_putVal (g : AG) (hst : (gL g).stackTraces = false) (N : Nat) : ∀ (h : AH) (x0 : Nat) (x1 : Int32) (r2 : Option Nat) (r3 : Option Nat) (x4 : Int32) (x5 : Int32) (q : (Option Nat × AH)), x_J1_putVal g N h x0 x1 r2 r3 x4 x5 = some q → CT g YJ1_putVal 112 [.ref x0, .int x1, va_rf r2, va_rf r3, .int x4, .int x5] h (xR q) := by
  intro h x0 x1 r2 r3 x4 x5 q hq
  refine CT.of rfl (by decide +kernel) (loc := [some (.ref x0), some (.int x1), some (va_rf r2), some (va_rf r3), some (.int x4), some (.int x5), none, none, none, none, none, none, none]) (by first | exact Nat.le_of_ble_eq_true rfl | (simp only [lgl_rf, lgl_i, lgl_j, lgl_ref, lgl_nil]; exact Nat.le_of_ble_eq_true rfl)) (by first | rfl | (simp only [aent_rf, aent_i, aent_j, aent_ref, aent_nil]; rfl)) ?_
  unfold x_J1_putVal at hq
  refine aw_aload_n (i := 0) dJ1_putVal_0 rfl rfl trivial ?_
  replace hq := obind hq
  obtain ⟨o1, e2, hq⟩ := hq
  refine xw_getR e2 fJ1_105 dJ1_putVal_1 ?_
  refine aw_dup dJ1_putVal_4 (cat_rf _) ?_
  refine aw_astore (loc' := [some (.ref x0), some (.int x1), some (va_rf r2), some (va_rf r3), some (.int x4), some (.int x5), some (va_rf o1), none, none, none, none, none, none]) dJ1_putVal_5 (Nat.le_of_ble_eq_true rfl) (aIsR_rf _) rfl ?_
  rcases o1 with _ | a3
  · replace hq := ocase_n hq
    refine xw_ifnullN (tgt := 19) dJ1_putVal_7 (by decide) ?_
    exact p_x_J1_putVal_19 g hst N   h x0 x1 r2 r3 x4 x5 (none) _ hq
  · replace hq := ocase_s hq
    refine xw_ifnullS (tgt := 19) dJ1_putVal_7 (by decide) ?_
    refine aw_aload dJ1_putVal_10 rfl trivial ?_
    replace hq := obind hq
    obtain ⟨i97, e98, hq⟩ := hq
    refine xw_alen e98 dJ1_putVal_12 ?_
    refine aw_dup dJ1_putVal_13 rfl ?_
    refine aw_istore (loc' := [some (.ref x0), some (.int x1), some (va_rf r2), some (va_rf r3), some (.int x4), some (.int x5), some (.ref a3), none, some (.int i97), none, none, none, none]) dJ1_putVal_14 (Nat.le_of_ble_eq_true rfl) rfl ?_
    refine aw_if_ne (tgt := 29) dJ1_putVal_16 (by decide) (fun c99 => ?_) (fun c99 => ?_)
    · rw [if_neg c99] at hq
      exact p_x_J1_putVal_29 g hst N   h x0 x1 r2 r3 x4 x5 (some a3) i97 _ hq
    · rw [if_pos c99] at hq
      refine aw_subl (loc' := [some (.ref x0), some (.int x1), some (va_rf r2), some (va_rf r3), some (.int x4), some (.int x5), some (.ref a3), none, none, none, none, none, none]) ⟨Or.inr rfl, Or.inr rfl, Or.inr rfl, Or.inr rfl, Or.inr rfl, Or.inr rfl, Or.inr rfl, Or.inl rfl, Or.inl rfl, Or.inl rfl, Or.inl rfl, Or.inl rfl, Or.inl rfl, trivial⟩ ?_
      exact p_x_J1_putVal_19 g hst N   h x0 x1 r2 r3 x4 x5 (some a3) _ hq
abbrev YJ1_put : YC := (yJ1_put, cJ1_put, 3, (some (.object "java/lang/Object")), [])
theorem kJ1_put : aMk YJ1_put 2 := ⟨rfl, q1531, q120, ⟨by decide +kernel, by decide +kernel, by decide +kernel⟩, Nat.le_of_ble_eq_true rfl⟩
def x_J1_put (g : AG) (N : Nat) (h : AH) (x0 : Nat) (r1 : Option Nat) (r2 : Option Nat) : Option (Option Nat × AH) :=
  (x_J1_hash g N h r1).bind fun q1 => bif clB q1.2 x0 [10] then ((x_J1_putVal g N q1.2 x0 q1.1 r1 r2 (0 : Int32) (1 : Int32)).bind fun q4 => some (q4.1, q4.2)) else none
theorem ct_J1_put (g : AG) (hst : (gL g).stackTraces = false) (N : Nat) : ∀ (h : AH) (x0 : Nat) (r1 : Option Nat) (r2 : Option Nat) (q : (Option Nat × AH)), x_J1_put g N h x0 r1 r2 = some q → CT g YJ1_put 113 [.ref x0, va_rf r1, va_rf r2] h (xR q) := by
  intro h x0 r1 r2 q hq
  refine CT.of rfl (by decide +kernel) (loc := [some (.ref x0), some (va_rf r1), some (va_rf r2)]) (by first | exact Nat.le_of_ble_eq_true rfl | (simp only [lgl_rf, lgl_i, lgl_j, lgl_ref, lgl_nil]; exact Nat.le_of_ble_eq_true rfl)) (by first | rfl | (simp only [aent_rf, aent_i, aent_j, aent_ref, aent_nil]; rfl)) ?_
  unfold x_J1_put at hq
  refine aw_aload_n (i := 0) dJ1_put_0 rfl rfl trivial ?_
  refine aw_aload_n (i := 1) dJ1_put_1 rfl rfl (aIsR_rf _) ?_
  replace hq := obind hq
  obtain ⟨q1, e2, hq⟩ := hq
  refine aw_callS (Y2 := YJ1_hash) (As := [va_rf r1]) (rest := [.ref x0]) kJ1_hash q1120 q1121 dJ1_put_2 rfl rfl (ct_J1_hash g hst N h r1 _ e2) (Nat.le_of_ble_eq_true rfl) (Nat.le_of_ble_eq_true rfl) (fun v9 h9 z9 y9 => ?_)
  obtain ⟨rfl, rfl⟩ := y9
  refine aw_st (st' := [.int q1.1, .ref x0]) rfl ?_
  refine aw_aload_n (i := 1) dJ1_put_5 rfl rfl (aIsR_rf _) ?_
  refine aw_aload_n (i := 2) dJ1_put_6 rfl rfl (aIsR_rf _) ?_
  refine aw_iconst (v := 0) dJ1_put_7 (by decide) ?_
  refine aw_iconst (v := 1) dJ1_put_8 (by decide) ?_
  replace hq := cond_t hq
  obtain ⟨z3, hq⟩ := hq
  obtain ⟨fs9, ha9⟩ := clB1 z3
  replace hq := obind hq
  obtain ⟨q4, e5, hq⟩ := hq
  refine aw_callV (Y2 := YJ1_putVal) (As := [.int q1.1, va_rf r1, va_rf r2, .int (0 : Int32), .int (1 : Int32)]) (rest := []) (r := (RJ1, TJ1, 8)) kJ1_putVal ha9 rfl rfl q1532 q1533 q1534 dJ1_put_9 rfl rfl (ct_J1_putVal g hst N q1.2 x0 q1.1 r1 r2 (0 : Int32) (1 : Int32) _ e5) (Nat.le_of_ble_eq_true rfl) (Nat.le_of_ble_eq_true rfl) (fun v9 h9 z9 y9 => ?_)
  obtain ⟨rfl, rfl⟩ := y9
  refine aw_st (st' := [va_rf q4.1]) rfl ?_
  cases hq
  exact aw_areturn dJ1_put_12 rfl (Or.inl ⟨_, rfl⟩) (aIsR_rf _) ⟨rfl, rfl⟩
abbrev YJ20_init : YC := (yJ20_init, cJ20_init, 1, none, [])
theorem kJ20_init : aMk YJ20_init 0 := ⟨rfl, q1802, q142, ⟨by decide +kernel, by decide +kernel, by decide +kernel⟩, Nat.le_of_ble_eq_true rfl⟩
def x_J20_init (g : AG) (N : Nat) (h : AH) (x0 : Nat) : Option AH :=
  some h
theorem ct_J20_init (g : AG) (hst : (gL g).stackTraces = false) (N : Nat) : ∀ (h : AH) (x0 : Nat) (q : AH), x_J20_init g N h x0 = some q → CT g YJ20_init 3 [.ref x0] h (xV q) := by
  intro h x0 q hq
  refine CT.of rfl (by decide +kernel) (loc := [some (.ref x0)]) (by first | exact Nat.le_of_ble_eq_true rfl | (simp only [lgl_rf, lgl_i, lgl_j, lgl_ref, lgl_nil]; exact Nat.le_of_ble_eq_true rfl)) (by first | rfl | (simp only [aent_rf, aent_i, aent_j, aent_ref, aent_nil]; rfl)) ?_
  unfold x_J20_init at hq
  refine aw_aload_n (i := 0) dJ20_init_0 rfl rfl trivial ?_
  refine aw_objInit q1803 qObjI qObjC (by omega) (Nat.le_of_ble_eq_true rfl) dJ20_init_1 ?_
  cases hq
  exact aw_vret dJ20_init_4 rfl ⟨rfl, rfl⟩
abbrev YJ21_compare : YC := (yJ21_compare, cJ21_compare, 2, (some .int), [])
theorem kJ21_compare : aMk YJ21_compare 2 := ⟨rfl, q1318, q143, ⟨by decide +kernel, by decide +kernel, by decide +kernel⟩, Nat.le_of_ble_eq_true rfl⟩
def x_J21_compare (g : AG) (N : Nat) (h : AH) (x0 : Int32) (x1 : Int32) : Option (Int32 × AH) :=
  if x1 ≤ x0 then (if x0 = x1 then (some ((0 : Int32), h)) else (some ((1 : Int32), h))) else (some ((-1 : Int32), h))
theorem ct_J21_compare (g : AG) (hst : (gL g).stackTraces = false) (N : Nat) : ∀ (h : AH) (x0 : Int32) (x1 : Int32) (q : (Int32 × AH)), x_J21_compare g N h x0 x1 = some q → CT g YJ21_compare 1 [.int x0, .int x1] h (xI q) := by
  intro h x0 x1 q hq
  refine CT.of rfl (by decide +kernel) (loc := [some (.int x0), some (.int x1)]) (by first | exact Nat.le_of_ble_eq_true rfl | (simp only [lgl_rf, lgl_i, lgl_j, lgl_ref, lgl_nil]; exact Nat.le_of_ble_eq_true rfl)) (by first | rfl | (simp only [aent_rf, aent_i, aent_j, aent_ref, aent_nil]; rfl)) ?_
  unfold x_J21_compare at hq
  refine aw_iload_n (i := 0) dJ21_compare_0 rfl rfl ?_
  refine aw_iload_n (i := 1) dJ21_compare_1 rfl rfl ?_
  refine aw_icmp_ge (tgt := 9) dJ21_compare_2 (by decide) (fun c1 => ?_) (fun c1 => ?_)
  · rw [if_pos c1] at hq
    refine aw_iload_n (i := 0) dJ21_compare_9 rfl rfl ?_
    refine aw_iload_n (i := 1) dJ21_compare_10 rfl rfl ?_
    refine aw_icmp_ne (tgt := 18) dJ21_compare_11 (by decide) (fun c2 => ?_) (fun c2 => ?_)
    · rw [if_neg c2] at hq
      refine aw_iconst (v := 1) dJ21_compare_18 (by decide) ?_
      cases hq
      exact aw_ireturn dJ21_compare_19 rfl rfl ⟨rfl, rfl⟩
    · rw [if_pos c2] at hq
      refine aw_iconst (v := 0) dJ21_compare_14 (by decide) ?_
      refine aw_goto (tgt := 19) dJ21_compare_15 (by decide) ?_
      cases hq
      exact aw_ireturn dJ21_compare_19 rfl rfl ⟨rfl, rfl⟩
  · rw [if_neg c1] at hq
    refine aw_iconst (v := (-1)) dJ21_compare_5 (by decide) ?_
    refine aw_goto (tgt := 19) dJ21_compare_6 (by decide) ?_
    cases hq
    exact aw_ireturn dJ21_compare_19 rfl rfl ⟨rfl, rfl⟩
