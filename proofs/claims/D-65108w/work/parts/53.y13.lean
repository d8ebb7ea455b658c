/-! THE COMPONENT AND THE JDK as functions of the heap, and their contracts: printed by wip gen/dec2.py -/
set_option maxRecDepth 100000
theorem fJ1_88 : ∀ q ∈ ([(10, 6)] : List (Nat × Nat)), aFl RJ1 88 q.1 q.2 := by
  intro q hq
  simp only [List.mem_cons, List.not_mem_nil, or_false] at hq
  subst hq
  exact aFl.of (RJ1, TJ1, 8) rfl (Nat.le_of_ble_eq_true rfl) q230
theorem tJ1_6 : ∀ q ∈ ([(10, 6)] : List (Nat × Nat)), aFt q.1 q.2 false .int := by
  intro q hq
  simp only [List.mem_cons, List.not_mem_nil, or_false] at hq
  subst hq
  exact ⟨(RJ1, TJ1, 8), tyJ1, Nat.le_of_ble_eq_true rfl, rfl, Nat.le_of_ble_eq_true rfl, okJ1, rfl, rfl⟩
theorem tJ1_2 : ∀ q ∈ ([(10, 2)] : List (Nat × Nat)), aFt q.1 q.2 false (.array (.object "java/util/HashMap$Node")) := by
  intro q hq
  simp only [List.mem_cons, List.not_mem_nil, or_false] at hq
  subst hq
  exact ⟨(RJ1, TJ1, 8), tyJ1, Nat.le_of_ble_eq_true rfl, rfl, Nat.le_of_ble_eq_true rfl, okJ1, rfl, rfl⟩
abbrev YJ1_resize : YC := (yJ1_resize, cJ1_resize, 14, (some (.array (.object "java/util/HashMap$Node"))), [])
theorem kJ1_resize : aMk YJ1_resize 0 := ⟨rfl, q1539, q120, ⟨by decide +kernel, by decide +kernel, by decide +kernel⟩, Nat.le_of_ble_eq_true rfl⟩
def x_J1_resize_347 (g : AG) (N : Nat) (K151 : AH → Nat → Option Nat → Int32 → Int32 → Int32 → Int32 → Option Nat → Int32 → Option (Option Nat × AH)) (h : AH) (x0 : Nat) (r1 : Option Nat) (x2 : Int32) (x3 : Int32) (x4 : Int32) (x5 : Int32) (r6 : Option Nat) (x7 : Int32) (r8 : Option Nat) : Option (Option Nat × AH) :=
  K151 h x0 r1 x2 x3 x4 x5 r6 (x7 + 1)
theorem p_x_J1_resize_347 (g : AG) (hst : (gL g).stackTraces = false) (N : Nat) (K151 : AH → Nat → Option Nat → Int32 → Int32 → Int32 → Int32 → Option Nat → Int32 → Option (Option Nat × AH)) (hK151 : ∀ (h : AH) (x0 : Nat) (r1 : Option Nat) (x2 : Int32) (x3 : Int32) (x4 : Int32) (x5 : Int32) (r6 : Option Nat) (x7 : Int32) (q : (Option Nat × AH)), K151 h x0 r1 x2 x3 x4 x5 r6 x7 = some q → AW g YJ1_resize 12 (xR q) h [some (.ref x0), some (va_rf r1), some (.int x2), some (.int x3), some (.int x4), some (.int x5), some (va_rf r6), some (.int x7), none, none, none, none, none, none] 151 []) : ∀ (h : AH) (x0 : Nat) (r1 : Option Nat) (x2 : Int32) (x3 : Int32) (x4 : Int32) (x5 : Int32) (r6 : Option Nat) (x7 : Int32) (r8 : Option Nat) (q : (Option Nat × AH)), x_J1_resize_347 g N K151 h x0 r1 x2 x3 x4 x5 r6 x7 r8 = some q → AW g YJ1_resize 12 (xR q) h [some (.ref x0), some (va_rf r1), some (.int x2), some (.int x3), some (.int x4), some (.int x5), some (va_rf r6), some (.int x7), some (va_rf r8), none, none, none, none, none] 347 [] := by
  intro h x0 r1 x2 x3 x4 x5 r6 x7 r8 q hq
  unfold x_J1_resize_347 at hq
  refine aw_iinc (v := x7 + 1) (loc' := [some (.ref x0), some (va_rf r1), some (.int x2), some (.int x3), some (.int x4), some (.int x5), some (va_rf r6), some (.int (x7 + 1)), some (va_rf r8), none, none, none, none, none]) dJ1_resize_347 rfl rfl (Nat.le_of_ble_eq_true rfl) (aset1_rf rfl) ?_
  refine aw_goto (tgt := 151) dJ1_resize_350 (by decide) ?_
  refine aw_subl (loc' := [some (.ref x0), some (va_rf r1), some (.int x2), some (.int x3), some (.int x4), some (.int x5), some (va_rf r6), some (.int (x7 + 1)), none, none, none, none, none, none]) ⟨Or.inr rfl, Or.inr rfl, Or.inr rfl, Or.inr rfl, Or.inr rfl, Or.inr rfl, Or.inr rfl, Or.inr rfl, Or.inl rfl, Or.inl rfl, Or.inl rfl, Or.inl rfl, Or.inl rfl, Or.inl rfl, trivial⟩ ?_
  exact hK151 h x0 r1 x2 x3 x4 x5 r6 (x7 + 1) _ hq
def x_J1_resize_301 (g : AG) (N : Nat) (K151 : AH → Nat → Option Nat → Int32 → Int32 → Int32 → Int32 → Option Nat → Int32 → Option (Option Nat × AH)) (K235 : AH → Nat → Option Nat → Int32 → Int32 → Int32 → Int32 → Option Nat → Int32 → Option Nat → Option Nat → Option Nat → Option Nat → Option Nat → Option (Option Nat × AH)) (K309 : AH → Nat → Option Nat → Int32 → Int32 → Int32 → Int32 → Option Nat → Int32 → Option Nat → Option Nat → Option Nat → Option Nat → Option Nat → Option Nat → Option (Option Nat × AH)) (h : AH) (x0 : Nat) (r1 : Option Nat) (x2 : Int32) (x3 : Int32) (x4 : Int32) (x5 : Int32) (r6 : Option Nat) (x7 : Int32) (r8 : Option Nat) (r9 : Option Nat) (r10 : Option Nat) (r11 : Option Nat) (r12 : Option Nat) (r13 : Option Nat) : Option (Option Nat × AH) :=
  ocase r13 (K309 h x0 r1 x2 x3 x4 x5 r6 x7 (none) r9 r10 r11 r12 (none)) (fun a44 => K235 h x0 r1 x2 x3 x4 x5 r6 x7 (some a44) r9 r10 r11 r12)
theorem p_x_J1_resize_301 (g : AG) (hst : (gL g).stackTraces = false) (N : Nat) (K151 : AH → Nat → Option Nat → Int32 → Int32 → Int32 → Int32 → Option Nat → Int32 → Option (Option Nat × AH)) (K235 : AH → Nat → Option Nat → Int32 → Int32 → Int32 → Int32 → Option Nat → Int32 → Option Nat → Option Nat → Option Nat → Option Nat → Option Nat → Option (Option Nat × AH)) (K309 : AH → Nat → Option Nat → Int32 → Int32 → Int32 → Int32 → Option Nat → Int32 → Option Nat → Option Nat → Option Nat → Option Nat → Option Nat → Option Nat → Option (Option Nat × AH)) (hK151 : ∀ (h : AH) (x0 : Nat) (r1 : Option Nat) (x2 : Int32) (x3 : Int32) (x4 : Int32) (x5 : Int32) (r6 : Option Nat) (x7 : Int32) (q : (Option Nat × AH)), K151 h x0 r1 x2 x3 x4 x5 r6 x7 = some q → AW g YJ1_resize 12 (xR q) h [some (.ref x0), some (va_rf r1), some (.int x2), some (.int x3), some (.int x4), some (.int x5), some (va_rf r6), some (.int x7), none, none, none, none, none, none] 151 []) (hK235 : ∀ (h : AH) (x0 : Nat) (r1 : Option Nat) (x2 : Int32) (x3 : Int32) (x4 : Int32) (x5 : Int32) (r6 : Option Nat) (x7 : Int32) (r8 : Option Nat) (r9 : Option Nat) (r10 : Option Nat) (r11 : Option Nat) (r12 : Option Nat) (q : (Option Nat × AH)), K235 h x0 r1 x2 x3 x4 x5 r6 x7 r8 r9 r10 r11 r12 = some q → AW g YJ1_resize 12 (xR q) h [some (.ref x0), some (va_rf r1), some (.int x2), some (.int x3), some (.int x4), some (.int x5), some (va_rf r6), some (.int x7), some (va_rf r8), some (va_rf r9), some (va_rf r10), some (va_rf r11), some (va_rf r12), none] 235 []) (hK309 : ∀ (h : AH) (x0 : Nat) (r1 : Option Nat) (x2 : Int32) (x3 : Int32) (x4 : Int32) (x5 : Int32) (r6 : Option Nat) (x7 : Int32) (r8 : Option Nat) (r9 : Option Nat) (r10 : Option Nat) (r11 : Option Nat) (r12 : Option Nat) (r13 : Option Nat) (q : (Option Nat × AH)), K309 h x0 r1 x2 x3 x4 x5 r6 x7 r8 r9 r10 r11 r12 r13 = some q → AW g YJ1_resize 12 (xR q) h [some (.ref x0), some (va_rf r1), some (.int x2), some (.int x3), some (.int x4), some (.int x5), some (va_rf r6), some (.int x7), some (va_rf r8), some (va_rf r9), some (va_rf r10), some (va_rf r11), some (va_rf r12), some (va_rf r13)] 309 []) : ∀ (h : AH) (x0 : Nat) (r1 : Option Nat) (x2 : Int32) (x3 : Int32) (x4 : Int32) (x5 : Int32) (r6 : Option Nat) (x7 : Int32) (r8 : Option Nat) (r9 : Option Nat) (r10 : Option Nat) (r11 : Option Nat) (r12 : Option Nat) (r13 : Option Nat) (q : (Option Nat × AH)), x_J1_resize_301 g N K151 K235 K309 h x0 r1 x2 x3 x4 x5 r6 x7 r8 r9 r10 r11 r12 r13 = some q → AW g YJ1_resize 12 (xR q) h [some (.ref x0), some (va_rf r1), some (.int x2), some (.int x3), some (.int x4), some (.int x5), some (va_rf r6), some (.int x7), some (va_rf r8), some (va_rf r9), some (va_rf r10), some (va_rf r11), some (va_rf r12), some (va_rf r13)] 301 [] := by
  intro h x0 r1 x2 x3 x4 x5 r6 x7 r8 r9 r10 r11 r12 r13 q hq
  unfold x_J1_resize_301 at hq
  refine aw_aload dJ1_resize_301 rfl (aIsR_rf _) ?_
  refine aw_dup dJ1_resize_303 (cat_rf _) ?_
  refine aw_astore (loc' := [some (.ref x0), some (va_rf r1), some (.int x2), some (.int x3), some (.int x4), some (.int x5), some (va_rf r6), some (.int x7), some (va_rf r13), some (va_rf r9), some (va_rf r10), some (va_rf r11), some (va_rf r12), some (va_rf r13)]) dJ1_resize_304 (Nat.le_of_ble_eq_true rfl) (aIsR_rf _) rfl ?_
  rcases r13 with _ | a44
  · replace hq := ocase_n hq
    refine xw_ifnonN (tgt := 235) dJ1_resize_306 (by decide) ?_
    exact hK309 h x0 r1 x2 x3 x4 x5 r6 x7 (none) r9 r10 r11 r12 (none) _ hq
  · replace hq := ocase_s hq
    refine xw_ifnonS (tgt := 235) dJ1_resize_306 (by decide) ?_
    refine aw_subl (loc' := [some (.ref x0), some (va_rf r1), some (.int x2), some (.int x3), some (.int x4), some (.int x5), some (va_rf r6), some (.int x7), some (.ref a44), some (va_rf r9), some (va_rf r10), some (va_rf r11), some (va_rf r12), none]) ⟨Or.inr rfl, Or.inr rfl, Or.inr rfl, Or.inr rfl, Or.inr rfl, Or.inr rfl, Or.inr rfl, Or.inr rfl, Or.inr rfl, Or.inr rfl, Or.inr rfl, Or.inr rfl, Or.inr rfl, Or.inl rfl, trivial⟩ ?_
    exact hK235 h x0 r1 x2 x3 x4 x5 r6 x7 (some a44) r9 r10 r11 r12 _ hq
def x_J1_resize_297 (g : AG) (N : Nat) (K151 : AH → Nat → Option Nat → Int32 → Int32 → Int32 → Int32 → Option Nat → Int32 → Option (Option Nat × AH)) (K235 : AH → Nat → Option Nat → Int32 → Int32 → Int32 → Int32 → Option Nat → Int32 → Option Nat → Option Nat → Option Nat → Option Nat → Option Nat → Option (Option Nat × AH)) (K309 : AH → Nat → Option Nat → Int32 → Int32 → Int32 → Int32 → Option Nat → Int32 → Option Nat → Option Nat → Option Nat → Option Nat → Option Nat → Option Nat → Option (Option Nat × AH)) (h : AH) (x0 : Nat) (r1 : Option Nat) (x2 : Int32) (x3 : Int32) (x4 : Int32) (x5 : Int32) (r6 : Option Nat) (x7 : Int32) (r8 : Option Nat) (r9 : Option Nat) (r10 : Option Nat) (r11 : Option Nat) (r12 : Option Nat) (r13 : Option Nat) : Option (Option Nat × AH) :=
  x_J1_resize_301 g N K151 K235 K309 h x0 r1 x2 x3 x4 x5 r6 x7 r8 r9 r10 r11 r8 r13
theorem p_x_J1_resize_297 (g : AG) (hst : (gL g).stackTraces = false) (N : Nat) (K151 : AH → Nat → Option Nat → Int32 → Int32 → Int32 → Int32 → Option Nat → Int32 → Option (Option Nat × AH)) (K235 : AH → Nat → Option Nat → Int32 → Int32 → Int32 → Int32 → Option Nat → Int32 → Option Nat → Option Nat → Option Nat → Option Nat → Option Nat → Option (Option Nat × AH)) (K309 : AH → Nat → Option Nat → Int32 → Int32 → Int32 → Int32 → Option Nat → Int32 → Option Nat → Option Nat → Option Nat → Option Nat → Option Nat → Option Nat → Option (Option Nat × AH)) (hK151 : ∀ (h : AH) (x0 : Nat) (r1 : Option Nat) (x2 : Int32) (x3 : Int32) (x4 : Int32) (x5 : Int32) (r6 : Option Nat) (x7 : Int32) (q : (Option Nat × AH)), K151 h x0 r1 x2 x3 x4 x5 r6 x7 = some q → AW g YJ1_resize 12 (xR q) h [some (.ref x0), some (va_rf r1), some (.int x2), some (.int x3), some (.int x4), some (.int x5), some (va_rf r6), some (.int x7), none, none, none, none, none, none] 151 []) (hK235 : ∀ (h : AH) (x0 : Nat) (r1 : Option Nat) (x2 : Int32) (x3 : Int32) (x4 : Int32) (x5 : Int32) (r6 : Option Nat) (x7 : Int32) (r8 : Option Nat) (r9 : Option Nat) (r10 : Option Nat) (r11 : Option Nat) (r12 : Option Nat) (q : (Option Nat × AH)), K235 h x0 r1 x2 x3 x4 x5 r6 x7 r8 r9 r10 r11 r12 = some q → AW g YJ1_resize 12 (xR q) h [some (.ref x0), some (va_rf r1), some (.int x2), some (.int x3), some (.int x4), some (.int x5), some (va_rf r6), some (.int x7), some (va_rf r8), some (va_rf r9), some (va_rf r10), some (va_rf r11), some (va_rf r12), none] 235 []) (hK309 : ∀ (h : AH) (x0 : Nat) (r1 : Option Nat) (x2 : Int32) (x3 : Int32) (x4 : Int32) (x5 : Int32) (r6 : Option Nat) (x7 : Int32) (r8 : Option Nat) (r9 : Option Nat) (r10 : Option Nat) (r11 : Option Nat) (r12 : Option Nat) (r13 : Option Nat) (q : (Option Nat × AH)), K309 h x0 r1 x2 x3 x4 x5 r6 x7 r8 r9 r10 r11 r12 r13 = some q → AW g YJ1_resize 12 (xR q) h [some (.ref x0), some (va_rf r1), some (.int x2), some (.int x3), some (.int x4), some (.int x5), some (va_rf r6), some (.int x7), some (va_rf r8), some (va_rf r9), some (va_rf r10), some (va_rf r11), some (va_rf r12), some (va_rf r13)] 309 []) : ∀ (h : AH) (x0 : Nat) (r1 : Option Nat) (x2 : Int32) (x3 : Int32) (x4 : Int32) (x5 : Int32) (r6 : Option Nat) (x7 : Int32) (r8 : Option Nat) (r9 : Option Nat) (r10 : Option Nat) (r11 : Option Nat) (r12 : Option Nat) (r13 : Option Nat) (q : (Option Nat × AH)), x_J1_resize_297 g N K151 K235 K309 h x0 r1 x2 x3 x4 x5 r6 x7 r8 r9 r10 r11 r12 r13 = some q → AW g YJ1_resize 12 (xR q) h [some (.ref x0), some (va_rf r1), some (.int x2), some (.int x3), some (.int x4), some (.int x5), some (va_rf r6), some (.int x7), some (va_rf r8), some (va_rf r9), some (va_rf r10), some (va_rf r11), some (va_rf r12), some (va_rf r13)] 297 [] := by
  intro h x0 r1 x2 x3 x4 x5 r6 x7 r8 r9 r10 r11 r12 r13 q hq
  unfold x_J1_resize_297 at hq
  refine aw_aload dJ1_resize_297 rfl (aIsR_rf _) ?_
  refine aw_astore (loc' := [some (.ref x0), some (va_rf r1), some (.int x2), some (.int x3), some (.int x4), some (.int x5), some (va_rf r6), some (.int x7), some (va_rf r8), some (va_rf r9), some (va_rf r10), some (va_rf r11), some (va_rf r8), some (va_rf r13)]) dJ1_resize_299 (Nat.le_of_ble_eq_true rfl) (aIsR_rf _) (aset1_rf rfl) ?_
  exact p_x_J1_resize_301 g hst N _ _ _ hK151 hK235 hK309 h x0 r1 x2 x3 x4 x5 r6 x7 r8 r9 r10 r11 r8 r13 _ hq
def x_J1_resize_271 (g : AG) (N : Nat) (K151 : AH → Nat → Option Nat → Int32 → Int32 → Int32 → Int32 → Option Nat → Int32 → Option (Option Nat × AH)) (K235 : AH → Nat → Option Nat → Int32 → Int32 → Int32 → Int32 → Option Nat → Int32 → Option Nat → Option Nat → Option Nat → Option Nat → Option Nat → Option (Option Nat × AH)) (K309 : AH → Nat → Option Nat → Int32 → Int32 → Int32 → Int32 → Option Nat → Int32 → Option Nat → Option Nat → Option Nat → Option Nat → Option Nat → Option Nat → Option (Option Nat × AH)) (h : AH) (x0 : Nat) (r1 : Option Nat) (x2 : Int32) (x3 : Int32) (x4 : Int32) (x5 : Int32) (r6 : Option Nat) (x7 : Int32) (r8 : Option Nat) (r9 : Option Nat) (r10 : Option Nat) (r11 : Option Nat) (r12 : Option Nat) (r13 : Option Nat) : Option (Option Nat × AH) :=
  x_J1_resize_301 g N K151 K235 K309 h x0 r1 x2 x3 x4 x5 r6 x7 r8 r9 r8 r11 r12 r13
theorem p_x_J1_resize_271 (g : AG) (hst : (gL g).stackTraces = false) (N : Nat) (K151 : AH → Nat → Option Nat → Int32 → Int32 → Int32 → Int32 → Option Nat → Int32 → Option (Option Nat × AH)) (K235 : AH → Nat → Option Nat → Int32 → Int32 → Int32 → Int32 → Option Nat → Int32 → Option Nat → Option Nat → Option Nat → Option Nat → Option Nat → Option (Option Nat × AH)) (K309 : AH → Nat → Option Nat → Int32 → Int32 → Int32 → Int32 → Option Nat → Int32 → Option Nat → Option Nat → Option Nat → Option Nat → Option Nat → Option Nat → Option (Option Nat × AH)) (hK151 : ∀ (h : AH) (x0 : Nat) (r1 : Option Nat) (x2 : Int32) (x3 : Int32) (x4 : Int32) (x5 : Int32) (r6 : Option Nat) (x7 : Int32) (q : (Option Nat × AH)), K151 h x0 r1 x2 x3 x4 x5 r6 x7 = some q → AW g YJ1_resize 12 (xR q) h [some (.ref x0), some (va_rf r1), some (.int x2), some (.int x3), some (.int x4), some (.int x5), some (va_rf r6), some (.int x7), none, none, none, none, none, none] 151 []) (hK235 : ∀ (h : AH) (x0 : Nat) (r1 : Option Nat) (x2 : Int32) (x3 : Int32) (x4 : Int32) (x5 : Int32) (r6 : Option Nat) (x7 : Int32) (r8 : Option Nat) (r9 : Option Nat) (r10 : Option Nat) (r11 : Option Nat) (r12 : Option Nat) (q : (Option Nat × AH)), K235 h x0 r1 x2 x3 x4 x5 r6 x7 r8 r9 r10 r11 r12 = some q → AW g YJ1_resize 12 (xR q) h [some (.ref x0), some (va_rf r1), some (.int x2), some (.int x3), some (.int x4), some (.int x5), some (va_rf r6), some (.int x7), some (va_rf r8), some (va_rf r9), some (va_rf r10), some (va_rf r11), some (va_rf r12), none] 235 []) (hK309 : ∀ (h : AH) (x0 : Nat) (r1 : Option Nat) (x2 : Int32) (x3 : Int32) (x4 : Int32) (x5 : Int32) (r6 : Option Nat) (x7 : Int32) (r8 : Option Nat) (r9 : Option Nat) (r10 : Option Nat) (r11 : Option Nat) (r12 : Option Nat) (r13 : Option Nat) (q : (Option Nat × AH)), K309 h x0 r1 x2 x3 x4 x5 r6 x7 r8 r9 r10 r11 r12 r13 = some q → AW g YJ1_resize 12 (xR q) h [some (.ref x0), some (va_rf r1), some (.int x2), some (.int x3), some (.int x4), some (.int x5), some (va_rf r6), some (.int x7), some (va_rf r8), some (va_rf r9), some (va_rf r10), some (va_rf r11), some (va_rf r12), some (va_rf r13)] 309 []) : ∀ (h : AH) (x0 : Nat) (r1 : Option Nat) (x2 : Int32) (x3 : Int32) (x4 : Int32) (x5 : Int32) (r6 : Option Nat) (x7 : Int32) (r8 : Option Nat) (r9 : Option Nat) (r10 : Option Nat) (r11 : Option Nat) (r12 : Option Nat) (r13 : Option Nat) (q : (Option Nat × AH)), x_J1_resize_271 g N K151 K235 K309 h x0 r1 x2 x3 x4 x5 r6 x7 r8 r9 r10 r11 r12 r13 = some q → AW g YJ1_resize 12 (xR q) h [some (.ref x0), some (va_rf r1), some (.int x2), some (.int x3), some (.int x4), some (.int x5), some (va_rf r6), some (.int x7), some (va_rf r8), some (va_rf r9), some (va_rf r10), some (va_rf r11), some (va_rf r12), some (va_rf r13)] 271 [] := by
  intro h x0 r1 x2 x3 x4 x5 r6 x7 r8 r9 r10 r11 r12 r13 q hq
  unfold x_J1_resize_271 at hq
  refine aw_aload dJ1_resize_271 rfl (aIsR_rf _) ?_
  refine aw_astore (loc' := [some (.ref x0), some (va_rf r1), some (.int x2), some (.int x3), some (.int x4), some (.int x5), some (va_rf r6), some (.int x7), some (va_rf r8), some (va_rf r9), some (va_rf r8), some (va_rf r11), some (va_rf r12), some (va_rf r13)]) dJ1_resize_273 (Nat.le_of_ble_eq_true rfl) (aIsR_rf _) (aset1_rf rfl) ?_
  refine aw_goto (tgt := 301) dJ1_resize_275 (by decide) ?_
  exact p_x_J1_resize_301 g hst N _ _ _ hK151 hK235 hK309 h x0 r1 x2 x3 x4 x5 r6 x7 r8 r9 r8 r11 r12 r13 _ hq
def x_J1_resize_235 (g : AG) (N : Nat) (K151 : AH → Nat → Option Nat → Int32 → Int32 → Int32 → Int32 → Option Nat → Int32 → Option (Option Nat × AH)) (K309 : AH → Nat → Option Nat → Int32 → Int32 → Int32 → Int32 → Option Nat → Int32 → Option Nat → Option Nat → Option Nat → Option Nat → Option Nat → Option Nat → Option (Option Nat × AH)) : Nat → AH → Nat → Option Nat → Int32 → Int32 → Int32 → Int32 → Option Nat → Int32 → Option Nat → Option Nat → Option Nat → Option Nat → Option Nat → Option (Option Nat × AH)
  | 0, _, _, _, _, _, _, _, _, _, _, _, _, _, _ => none
  | n9 + 1, h, x0, r1, x2, x3, x4, x5, r6, x7, r8, r9, r10, r11, r12 =>
  (r8).bind fun a36 => (rdR h a36 [(11, 3), (12, 5)]).bind fun o38 => (rdI h a36 [(11, 0), (12, 2)]).bind fun i40 => if (i40 &&& x2) = 0 then (ocase r10 (x_J1_resize_271 g N K151 (fun h x0 r1 x2 x3 x4 x5 r6 x7 r8 r9 r10 r11 r12 => x_J1_resize_235 g N K151 K309 n9 h x0 r1 x2 x3 x4 x5 r6 x7 r8 r9 r10 r11 r12) K309 h x0 r1 x2 x3 x4 x5 r6 x7 (some a36) (some a36) (none) r11 r12 o38) (fun a47 => (wrV g h a47 [(11, 3), (12, 5)] (.ref a36)).bind fun h48 => x_J1_resize_271 g N K151 (fun h x0 r1 x2 x3 x4 x5 r6 x7 r8 r9 r10 r11 r12 => x_J1_resize_235 g N K151 K309 n9 h x0 r1 x2 x3 x4 x5 r6 x7 r8 r9 r10 r11 r12) K309 h48 x0 r1 x2 x3 x4 x5 r6 x7 (some a36) r9 (some a47) r11 r12 o38)) else (ocase r12 (x_J1_resize_297 g N K151 (fun h x0 r1 x2 x3 x4 x5 r6 x7 r8 r9 r10 r11 r12 => x_J1_resize_235 g N K151 K309 n9 h x0 r1 x2 x3 x4 x5 r6 x7 r8 r9 r10 r11 r12) K309 h x0 r1 x2 x3 x4 x5 r6 x7 (some a36) r9 r10 (some a36) (none) o38) (fun a43 => (wrV g h a43 [(11, 3), (12, 5)] (.ref a36)).bind fun h45 => x_J1_resize_297 g N K151 (fun h x0 r1 x2 x3 x4 x5 r6 x7 r8 r9 r10 r11 r12 => x_J1_resize_235 g N K151 K309 n9 h x0 r1 x2 x3 x4 x5 r6 x7 r8 r9 r10 r11 r12) K309 h45 x0 r1 x2 x3 x4 x5 r6 x7 (some a36) r9 r10 r11 (some a43) o38))
theorem p_x_J1_resize_235 (g : AG) (hst : (gL g).stackTraces = false) (N : Nat) (K151 : AH → Nat → Option Nat → Int32 → Int32 → Int32 → Int32 → Option Nat → Int32 → Option (Option Nat × AH)) (K309 : AH → Nat → Option Nat → Int32 → Int32 → Int32 → Int32 → Option Nat → Int32 → Option Nat → Option Nat → Option Nat → Option Nat → Option Nat → Option Nat → Option (Option Nat × AH)) (hK151 : ∀ (h : AH) (x0 : Nat) (r1 : Option Nat) (x2 : Int32) (x3 : Int32) (x4 : Int32) (x5 : Int32) (r6 : Option Nat) (x7 : Int32) (q : (Option Nat × AH)), K151 h x0 r1 x2 x3 x4 x5 r6 x7 = some q → AW g YJ1_resize 12 (xR q) h [some (.ref x0), some (va_rf r1), some (.int x2), some (.int x3), some (.int x4), some (.int x5), some (va_rf r6), some (.int x7), none, none, none, none, none, none] 151 []) (hK309 : ∀ (h : AH) (x0 : Nat) (r1 : Option Nat) (x2 : Int32) (x3 : Int32) (x4 : Int32) (x5 : Int32) (r6 : Option Nat) (x7 : Int32) (r8 : Option Nat) (r9 : Option Nat) (r10 : Option Nat) (r11 : Option Nat) (r12 : Option Nat) (r13 : Option Nat) (q : (Option Nat × AH)), K309 h x0 r1 x2 x3 x4 x5 r6 x7 r8 r9 r10 r11 r12 r13 = some q → AW g YJ1_resize 12 (xR q) h [some (.ref x0), some (va_rf r1), some (.int x2), some (.int x3), some (.int x4), some (.int x5), some (va_rf r6), some (.int x7), some (va_rf r8), some (va_rf r9), some (va_rf r10), some (va_rf r11), some (va_rf r12), some (va_rf r13)] 309 []) : ∀ (n9 : Nat) (h : AH) (x0 : Nat) (r1 : Option Nat) (x2 : Int32) (x3 : Int32) (x4 : Int32) (x5 : Int32) (r6 : Option Nat) (x7 : Int32) (r8 : Option Nat) (r9 : Option Nat) (r10 : Option Nat) (r11 : Option Nat) (r12 : Option Nat) (q : (Option Nat × AH)), x_J1_resize_235 g N K151 K309 n9 h x0 r1 x2 x3 x4 x5 r6 x7 r8 r9 r10 r11 r12 = some q → AW g YJ1_resize 12 (xR q) h [some (.ref x0), some (va_rf r1), some (.int x2), some (.int x3), some (.int x4), some (.int x5), some (va_rf r6), some (.int x7), some (va_rf r8), some (va_rf r9), some (va_rf r10), some (va_rf r11), some (va_rf r12), none] 235 [] := by
  intro n9
  induction n9 with
  | zero =>
    intro h x0 r1 x2 x3 x4 x5 r6 x7 r8 r9 r10 r11 r12 q hq
    cases hq
  | succ n9 ih =>
    intro h x0 r1 x2 x3 x4 x5 r6 x7 r8 r9 r10 r11 r12 q hq
    rw [x_J1_resize_235] at hq
    refine aw_aload dJ1_resize_235 rfl (aIsR_rf _) ?_
    replace hq := obind hq
    obtain ⟨a36, e37, hq⟩ := hq
    subst e37
    replace hq := obind hq
    obtain ⟨o38, e39, hq⟩ := hq
    refine xw_getR e39 fJ1_177 dJ1_resize_237 ?_
    refine aw_astore (loc' := [some (.ref x0), some (va_rf r1), some (.int x2), some (.int x3), some (.int x4), some (.int x5), some (va_rf r6), some (.int x7), some (.ref a36), some (va_rf r9), some (va_rf r10), some (va_rf r11), some (va_rf r12), some (va_rf o38)]) dJ1_resize_240 (Nat.le_of_ble_eq_true rfl) (aIsR_rf _) (aset1_rf rfl) ?_
    refine aw_aload dJ1_resize_242 rfl trivial ?_
    replace hq := obind hq
    obtain ⟨i40, e41, hq⟩ := hq
    refine xw_getI e41 fJ1_168 dJ1_resize_244 ?_
    refine aw_iload_n (i := 2) dJ1_resize_247 rfl rfl ?_
    refine aw_iand dJ1_resize_248 ?_
    refine aw_if_ne (tgt := 278) dJ1_resize_249 (by decide) (fun c42 => ?_) (fun c42 => ?_)
    · rw [if_neg c42] at hq
      refine aw_aload dJ1_resize_278 rfl (aIsR_rf _) ?_
      rcases r12 with _ | a43
      · replace hq := ocase_n hq
        refine xw_ifnonN (tgt := 290) dJ1_resize_280 (by decide) ?_
        refine aw_aload dJ1_resize_283 rfl trivial ?_
        refine aw_astore (loc' := [some (.ref x0), some (va_rf r1), some (.int x2), some (.int x3), some (.int x4), some (.int x5), some (va_rf r6), some (.int x7), some (.ref a36), some (va_rf r9), some (va_rf r10), some (.ref a36), some (.null), some (va_rf o38)]) dJ1_resize_285 (Nat.le_of_ble_eq_true rfl) trivial (aset1_rf rfl) ?_
        refine aw_goto (tgt := 297) dJ1_resize_287 (by decide) ?_
        exact p_x_J1_resize_297 g hst N _ _ _ hK151 ih hK309 h x0 r1 x2 x3 x4 x5 r6 x7 (some a36) r9 r10 (some a36) (none) o38 _ hq
      · replace hq := ocase_s hq
        refine xw_ifnonS (tgt := 290) dJ1_resize_280 (by decide) ?_
        refine aw_aload dJ1_resize_290 rfl trivial ?_
        refine aw_aload dJ1_resize_292 rfl trivial ?_
        replace hq := obind hq
        obtain ⟨h45, e46, hq⟩ := hq
        refine xw_put e46 fJ1_177 tJ27_3_J29_5 (fits_rf _ (some a36)) dJ1_resize_294 ?_
        exact p_x_J1_resize_297 g hst N _ _ _ hK151 ih hK309 h45 x0 r1 x2 x3 x4 x5 r6 x7 (some a36) r9 r10 r11 (some a43) o38 _ hq
    · rw [if_pos c42] at hq
      refine aw_aload dJ1_resize_252 rfl (aIsR_rf _) ?_
      rcases r10 with _ | a47
      · replace hq := ocase_n hq
        refine xw_ifnonN (tgt := 264) dJ1_resize_254 (by decide) ?_
        refine aw_aload dJ1_resize_257 rfl trivial ?_
        refine aw_astore (loc' := [some (.ref x0), some (va_rf r1), some (.int x2), some (.int x3), some (.int x4), some (.int x5), some (va_rf r6), some (.int x7), some (.ref a36), some (.ref a36), some (.null), some (va_rf r11), some (va_rf r12), some (va_rf o38)]) dJ1_resize_259 (Nat.le_of_ble_eq_true rfl) trivial rfl ?_
        refine aw_goto (tgt := 271) dJ1_resize_261 (by decide) ?_
        exact p_x_J1_resize_271 g hst N _ _ _ hK151 ih hK309 h x0 r1 x2 x3 x4 x5 r6 x7 (some a36) (some a36) (none) r11 r12 o38 _ hq
      · replace hq := ocase_s hq
        refine xw_ifnonS (tgt := 264) dJ1_resize_254 (by decide) ?_
        refine aw_aload dJ1_resize_264 rfl trivial ?_
        refine aw_aload dJ1_resize_266 rfl trivial ?_
        replace hq := obind hq
        obtain ⟨h48, e49, hq⟩ := hq
        refine xw_put e49 fJ1_177 tJ27_3_J29_5 (fits_rf _ (some a36)) dJ1_resize_268 ?_
        exact p_x_J1_resize_271 g hst N _ _ _ hK151 ih hK309 h48 x0 r1 x2 x3 x4 x5 r6 x7 (some a36) r9 (some a47) r11 r12 o38 _ hq
def x_J1_resize_327 (g : AG) (N : Nat) (K151 : AH → Nat → Option Nat → Int32 → Int32 → Int32 → Int32 → Option Nat → Int32 → Option (Option Nat × AH)) (h : AH) (x0 : Nat) (r1 : Option Nat) (x2 : Int32) (x3 : Int32) (x4 : Int32) (x5 : Int32) (r6 : Option Nat) (x7 : Int32) (r8 : Option Nat) (r9 : Option Nat) (r10 : Option Nat) (r11 : Option Nat) (r12 : Option Nat) (r13 : Option Nat) : Option (Option Nat × AH) :=
  ocase r12 (x_J1_resize_347 g N K151 h x0 r1 x2 x3 x4 x5 r6 x7 r8) (fun a51 => (wrV g h a51 [(11, 3), (12, 5)] (.null)).bind fun h52 => (r6).bind fun a54 => (wrQ g h52 a54 (x7 + x2) r11).bind fun h56 => x_J1_resize_347 g N K151 h56 x0 r1 x2 x3 x4 x5 (some a54) x7 r8)
theorem p_x_J1_resize_327 (g : AG) (hst : (gL g).stackTraces = false) (N : Nat) (K151 : AH → Nat → Option Nat → Int32 → Int32 → Int32 → Int32 → Option Nat → Int32 → Option (Option Nat × AH)) (hK151 : ∀ (h : AH) (x0 : Nat) (r1 : Option Nat) (x2 : Int32) (x3 : Int32) (x4 : Int32) (x5 : Int32) (r6 : Option Nat) (x7 : Int32) (q : (Option Nat × AH)), K151 h x0 r1 x2 x3 x4 x5 r6 x7 = some q → AW g YJ1_resize 12 (xR q) h [some (.ref x0), some (va_rf r1), some (.int x2), some (.int x3), some (.int x4), some (.int x5), some (va_rf r6), some (.int x7), none, none, none, none, none, none] 151 []) : ∀ (h : AH) (x0 : Nat) (r1 : Option Nat) (x2 : Int32) (x3 : Int32) (x4 : Int32) (x5 : Int32) (r6 : Option Nat) (x7 : Int32) (r8 : Option Nat) (r9 : Option Nat) (r10 : Option Nat) (r11 : Option Nat) (r12 : Option Nat) (r13 : Option Nat) (q : (Option Nat × AH)), x_J1_resize_327 g N K151 h x0 r1 x2 x3 x4 x5 r6 x7 r8 r9 r10 r11 r12 r13 = some q → AW g YJ1_resize 12 (xR q) h [some (.ref x0), some (va_rf r1), some (.int x2), some (.int x3), some (.int x4), some (.int x5), some (va_rf r6), some (.int x7), some (va_rf r8), some (va_rf r9), some (va_rf r10), some (va_rf r11), some (va_rf r12), some (va_rf r13)] 327 [] := by
  intro h x0 r1 x2 x3 x4 x5 r6 x7 r8 r9 r10 r11 r12 r13 q hq
  unfold x_J1_resize_327 at hq
  refine aw_aload dJ1_resize_327 rfl (aIsR_rf _) ?_
  rcases r12 with _ | a51
  · replace hq := ocase_n hq
    refine xw_ifnullN (tgt := 347) dJ1_resize_329 (by decide) ?_
    refine aw_subl (loc' := [some (.ref x0), some (va_rf r1), some (.int x2), some (.int x3), some (.int x4), some (.int x5), some (va_rf r6), some (.int x7), some (va_rf r8), none, none, none, none, none]) ⟨Or.inr rfl, Or.inr rfl, Or.inr rfl, Or.inr rfl, Or.inr rfl, Or.inr rfl, Or.inr rfl, Or.inr rfl, Or.inr rfl, Or.inl rfl, Or.inl rfl, Or.inl rfl, Or.inl rfl, Or.inl rfl, trivial⟩ ?_
    exact p_x_J1_resize_347 g hst N _ hK151 h x0 r1 x2 x3 x4 x5 r6 x7 r8 _ hq
  · replace hq := ocase_s hq
    refine xw_ifnullS (tgt := 347) dJ1_resize_329 (by decide) ?_
    refine aw_aload dJ1_resize_332 rfl trivial ?_
    refine aw_null dJ1_resize_334 ?_
    replace hq := obind hq
    obtain ⟨h52, e53, hq⟩ := hq
    refine xw_put e53 fJ1_177 tJ27_3_J29_5 (fits_rf _ (none)) dJ1_resize_335 ?_
    refine aw_aload dJ1_resize_338 rfl (aIsR_rf _) ?_
    refine aw_iload dJ1_resize_340 rfl ?_
    refine aw_iload_n (i := 2) dJ1_resize_342 rfl rfl ?_
    refine aw_iadd dJ1_resize_343 ?_
    refine aw_aload dJ1_resize_344 rfl (aIsR_rf _) ?_
    replace hq := obind hq
    obtain ⟨a54, e55, hq⟩ := hq
    subst e55
    replace hq := obind hq
    obtain ⟨h56, e57, hq⟩ := hq
    refine xw_aast (v := r11) e57 dJ1_resize_346 ?_
    refine aw_subl (loc' := [some (.ref x0), some (va_rf r1), some (.int x2), some (.int x3), some (.int x4), some (.int x5), some (.ref a54), some (.int x7), some (va_rf r8), none, none, none, none, none]) ⟨Or.inr rfl, Or.inr rfl, Or.inr rfl, Or.inr rfl, Or.inr rfl, Or.inr rfl, Or.inr rfl, Or.inr rfl, Or.inr rfl, Or.inl rfl, Or.inl rfl, Or.inl rfl, Or.inl rfl, Or.inl rfl, trivial⟩ ?_
    exact p_x_J1_resize_347 g hst N _ hK151 h56 x0 r1 x2 x3 x4 x5 (some a54) x7 r8 _ hq
def x_J1_resize_151 (g : AG) (N : Nat) : Nat → AH → Nat → Option Nat → Int32 → Int32 → Int32 → Int32 → Option Nat → Int32 → Option (Option Nat × AH)
  | 0, _, _, _, _, _, _, _, _, _ => none
  | n9 + 1, h, x0, r1, x2, x3, x4, x5, r6, x7 =>
  if x2 ≤ x7 then (some (r6, h)) else ((r1).bind fun a17 => (rdQ h a17 x7).bind fun o19 => ocase o19 (x_J1_resize_347 g N (fun h x0 r1 x2 x3 x4 x5 r6 x7 => x_J1_resize_151 g N n9 h x0 r1 x2 x3 x4 x5 r6 x7) h x0 (some a17) x2 x3 x4 x5 r6 x7 (none)) (fun a21 => (wrQ g h a17 x7 (none)).bind fun h22 => (rdR h22 a21 [(11, 3), (12, 5)]).bind fun o24 => ocase o24 ((rdI h22 a21 [(11, 0), (12, 2)]).bind fun i27 => (r6).bind fun a29 => (wrQ g h22 a29 (i27 &&& (x4 - (1 : Int32))) (some a21)).bind fun h31 => x_J1_resize_347 g N (fun h x0 r1 x2 x3 x4 x5 r6 x7 => x_J1_resize_151 g N n9 h x0 r1 x2 x3 x4 x5 r6 x7) h31 x0 (some a17) x2 x3 x4 x5 (some a29) x7 (some a21)) (fun a26 => (insI h22 (some a21) [12] [11]).bind fun i33 => if i33 = 0 then (x_J1_resize_235 g N (fun h x0 r1 x2 x3 x4 x5 r6 x7 => x_J1_resize_151 g N n9 h x0 r1 x2 x3 x4 x5 r6 x7) (fun h x0 r1 x2 x3 x4 x5 r6 x7 r8 r9 r10 r11 r12 r13 => ocase r10 (x_J1_resize_327 g N (fun h x0 r1 x2 x3 x4 x5 r6 x7 => x_J1_resize_151 g N n9 h x0 r1 x2 x3 x4 x5 r6 x7) h x0 r1 x2 x3 x4 x5 r6 x7 r8 r9 (none) r11 r12 r13) (fun a50 => (wrV g h a50 [(11, 3), (12, 5)] (.null)).bind fun h58 => (r6).bind fun a60 => (wrQ g h58 a60 x7 r9).bind fun h62 => x_J1_resize_327 g N (fun h x0 r1 x2 x3 x4 x5 r6 x7 => x_J1_resize_151 g N n9 h x0 r1 x2 x3 x4 x5 r6 x7) h62 x0 r1 x2 x3 x4 x5 (some a60) x7 r8 r9 (some a50) r11 r12 r13)) N h22 x0 (some a17) x2 x3 x4 x5 r6 x7 (some a21) (none) (none) (none) (none)) else (bif casB h22 (some a21) [12] then (bif clB h22 a21 [12] then ((x_J29_split g N h22 a21 (some x0) r6 x7 x2).bind fun q66 => x_J1_resize_347 g N (fun h x0 r1 x2 x3 x4 x5 r6 x7 => x_J1_resize_151 g N n9 h x0 r1 x2 x3 x4 x5 r6 x7) q66 x0 (some a17) x2 x3 x4 x5 r6 x7 (some a21)) else none) else none))))
theorem p_x_J1_resize_151 (g : AG) (hst : (gL g).stackTraces = false) (N : Nat) : ∀ (n9 : Nat) (h : AH) (x0 : Nat) (r1 : Option Nat) (x2 : Int32) (x3 : Int32) (x4 : Int32) (x5 : Int32) (r6 : Option Nat) (x7 : Int32) (q : (Option Nat × AH)), x_J1_resize_151 g N n9 h x0 r1 x2 x3 x4 x5 r6 x7 = some q → AW g YJ1_resize 12 (xR q) h [some (.ref x0), some (va_rf r1), some (.int x2), some (.int x3), some (.int x4), some (.int x5), some (va_rf r6), some (.int x7), none, none, none, none, none, none] 151 [] := by
  intro n9
  induction n9 with
  | zero =>
    intro h x0 r1 x2 x3 x4 x5 r6 x7 q hq
    cases hq
  | succ n9 ih =>
    intro h x0 r1 x2 x3 x4 x5 r6 x7 q hq
    rw [x_J1_resize_151] at hq
    refine aw_iload dJ1_resize_151 rfl ?_
    refine aw_iload_n (i := 2) dJ1_resize_153 rfl rfl ?_
    refine aw_icmp_ge (tgt := 353) dJ1_resize_154 (by decide) (fun c16 => ?_) (fun c16 => ?_)
    · rw [if_pos c16] at hq
      refine aw_aload dJ1_resize_353 rfl (aIsR_rf _) ?_
      cases hq
      exact aw_areturn dJ1_resize_355 rfl (Or.inr ⟨_, rfl⟩) (aIsR_rf _) ⟨rfl, rfl⟩
    · rw [if_neg c16] at hq
      refine aw_aload_n (i := 1) dJ1_resize_157 rfl rfl (aIsR_rf _) ?_
      refine aw_iload dJ1_resize_158 rfl ?_
      replace hq := obind hq
      obtain ⟨a17, e18, hq⟩ := hq
      subst e18
      replace hq := obind hq
      obtain ⟨o19, e20, hq⟩ := hq
      refine xw_aald e20 dJ1_resize_160 ?_
      refine aw_dup dJ1_resize_161 (cat_rf _) ?_
      refine aw_astore (loc' := [some (.ref x0), some (.ref a17), some (.int x2), some (.int x3), some (.int x4), some (.int x5), some (va_rf r6), some (.int x7), some (va_rf o19), none, none, none, none, none]) dJ1_resize_162 (Nat.le_of_ble_eq_true rfl) (aIsR_rf _) rfl ?_
      rcases o19 with _ | a21
      · replace hq := ocase_n hq
        refine xw_ifnullN (tgt := 347) dJ1_resize_164 (by decide) ?_
        exact p_x_J1_resize_347 g hst N _ ih h x0 (some a17) x2 x3 x4 x5 r6 x7 (none) _ hq
      · replace hq := ocase_s hq
        refine xw_ifnullS (tgt := 347) dJ1_resize_164 (by decide) ?_
        refine aw_aload_n (i := 1) dJ1_resize_167 rfl rfl trivial ?_
        refine aw_iload dJ1_resize_168 rfl ?_
        refine aw_null dJ1_resize_170 ?_
        replace hq := obind hq
        obtain ⟨h22, e23, hq⟩ := hq
        refine xw_aast (v := (none)) e23 dJ1_resize_171 ?_
        refine aw_aload dJ1_resize_172 rfl trivial ?_
        replace hq := obind hq
        obtain ⟨o24, e25, hq⟩ := hq
        refine xw_getR e25 fJ1_177 dJ1_resize_174 ?_
        rcases o24 with _ | a26
        · replace hq := ocase_n hq
          refine xw_ifnonN (tgt := 198) dJ1_resize_177 (by decide) ?_
          refine aw_aload dJ1_resize_180 rfl (aIsR_rf _) ?_
          refine aw_aload dJ1_resize_182 rfl trivial ?_
          replace hq := obind hq
          obtain ⟨i27, e28, hq⟩ := hq
          refine xw_getI e28 fJ1_168 dJ1_resize_184 ?_
          refine aw_iload dJ1_resize_187 rfl ?_
          refine aw_iconst (v := 1) dJ1_resize_189 (by decide) ?_
          refine aw_isub dJ1_resize_190 ?_
          refine aw_iand dJ1_resize_191 ?_
          refine aw_aload dJ1_resize_192 rfl trivial ?_
          replace hq := obind hq
          obtain ⟨a29, e30, hq⟩ := hq
          subst e30
          replace hq := obind hq
          obtain ⟨h31, e32, hq⟩ := hq
          refine xw_aast (v := (some a21)) e32 dJ1_resize_194 ?_
          refine aw_goto (tgt := 347) dJ1_resize_195 (by decide) ?_
          exact p_x_J1_resize_347 g hst N _ ih h31 x0 (some a17) x2 x3 x4 x5 (some a29) x7 (some a21) _ hq
        · replace hq := ocase_s hq
          refine xw_ifnonS (tgt := 198) dJ1_resize_177 (by decide) ?_
          refine aw_aload dJ1_resize_198 rfl trivial ?_
          replace hq := obind hq
          obtain ⟨i33, e34, hq⟩ := hq
          refine xw_inst (r := (some a21)) e34 q1261 casjava_util_HashMap_TreeNode ncajava_util_HashMap_TreeNode dJ1_resize_200 ?_
          refine aw_if_eq (tgt := 223) dJ1_resize_203 (by decide) (fun c35 => ?_) (fun c35 => ?_)
          · rw [if_pos c35] at hq
            refine aw_null dJ1_resize_223 ?_
            refine aw_astore (loc' := [some (.ref x0), some (.ref a17), some (.int x2), some (.int x3), some (.int x4), some (.int x5), some (va_rf r6), some (.int x7), some (.ref a21), some (.null), none, none, none, none]) dJ1_resize_224 (Nat.le_of_ble_eq_true rfl) trivial rfl ?_
            refine aw_null dJ1_resize_226 ?_
            refine aw_astore (loc' := [some (.ref x0), some (.ref a17), some (.int x2), some (.int x3), some (.int x4), some (.int x5), some (va_rf r6), some (.int x7), some (.ref a21), some (.null), some (.null), none, none, none]) dJ1_resize_227 (Nat.le_of_ble_eq_true rfl) trivial rfl ?_
            refine aw_null dJ1_resize_229 ?_
            refine aw_astore (loc' := [some (.ref x0), some (.ref a17), some (.int x2), some (.int x3), some (.int x4), some (.int x5), some (va_rf r6), some (.int x7), some (.ref a21), some (.null), some (.null), some (.null), none, none]) dJ1_resize_230 (Nat.le_of_ble_eq_true rfl) trivial rfl ?_
            refine aw_null dJ1_resize_232 ?_
            refine aw_astore (loc' := [some (.ref x0), some (.ref a17), some (.int x2), some (.int x3), some (.int x4), some (.int x5), some (va_rf r6), some (.int x7), some (.ref a21), some (.null), some (.null), some (.null), some (.null), none]) dJ1_resize_233 (Nat.le_of_ble_eq_true rfl) trivial rfl ?_
            refine p_x_J1_resize_235 g hst N _ _ ih ?_ N h22 x0 (some a17) x2 x3 x4 x5 r6 x7 (some a21) (none) (none) (none) (none) _ hq
            · intro h x0 r1 x2 x3 x4 x5 r6 x7 r8 r9 r10 r11 r12 r13 q hq
              refine aw_aload dJ1_resize_309 rfl (aIsR_rf _) ?_
              rcases r10 with _ | a50
              · replace hq := ocase_n hq
                refine xw_ifnullN (tgt := 327) dJ1_resize_311 (by decide) ?_
                exact p_x_J1_resize_327 g hst N _ ih h x0 r1 x2 x3 x4 x5 r6 x7 r8 r9 (none) r11 r12 r13 _ hq
              · replace hq := ocase_s hq
                refine xw_ifnullS (tgt := 327) dJ1_resize_311 (by decide) ?_
                refine aw_aload dJ1_resize_314 rfl trivial ?_
                refine aw_null dJ1_resize_316 ?_
                replace hq := obind hq
                obtain ⟨h58, e59, hq⟩ := hq
                refine xw_put e59 fJ1_177 tJ27_3_J29_5 (fits_rf _ (none)) dJ1_resize_317 ?_
                refine aw_aload dJ1_resize_320 rfl (aIsR_rf _) ?_
                refine aw_iload dJ1_resize_322 rfl ?_
                refine aw_aload dJ1_resize_324 rfl (aIsR_rf _) ?_
                replace hq := obind hq
                obtain ⟨a60, e61, hq⟩ := hq
                subst e61
                replace hq := obind hq
                obtain ⟨h62, e63, hq⟩ := hq
                refine xw_aast (v := r9) e63 dJ1_resize_326 ?_
                exact p_x_J1_resize_327 g hst N _ ih h62 x0 r1 x2 x3 x4 x5 (some a60) x7 r8 r9 (some a50) r11 r12 r13 _ hq
          · rw [if_neg c35] at hq
            refine aw_aload dJ1_resize_206 rfl trivial ?_
            replace hq := cond_t hq
            obtain ⟨z64, hq⟩ := hq
            refine xw_cast (r := (some a21)) z64 q1261 casjava_util_HashMap_TreeNode dJ1_resize_208 ?_
            refine aw_aload_n (i := 0) dJ1_resize_211 rfl rfl trivial ?_
            refine aw_aload dJ1_resize_212 rfl (aIsR_rf _) ?_
            refine aw_iload dJ1_resize_214 rfl ?_
            refine aw_iload_n (i := 2) dJ1_resize_216 rfl rfl ?_
            replace hq := cond_t hq
            obtain ⟨z65, hq⟩ := hq
            obtain ⟨fs9, ha9⟩ := clB1 z65
            replace hq := obind hq
            obtain ⟨q66, e67, hq⟩ := hq
            refine aw_callV (Y2 := YJ29_split) (As := [.ref x0, va_rf r6, .int x7, .int x2]) (rest := []) (r := (RJ29, TJ29, 11)) kJ29_split ha9 rfl rfl q1545 q1546 q1547 dJ1_resize_217 rfl rfl (ct_J29_split g hst N h22 a21 (some x0) r6 x7 x2 _ e67) (Nat.le_of_ble_eq_true rfl) (Nat.le_of_ble_eq_true rfl) (fun v9 h9 z9 y9 => ?_)
            obtain ⟨rfl, y9⟩ := y9
            rw [y9]
            refine aw_st (st' := []) rfl ?_
            refine aw_goto (tgt := 347) dJ1_resize_220 (by decide) ?_
            exact p_x_J1_resize_347 g hst N _ ih q66 x0 (some a17) x2 x3 x4 x5 r6 x7 (some a21) _ hq
def x_J1_resize_85 (g : AG) (N : Nat) (h : AH) (x0 : Nat) (r1 : Option Nat) (x2 : Int32) (x3 : Int32) (x4 : Int32) (x5 : Int32) : Option (Option Nat × AH) :=
  if x5 = 0 then (none) else ((wrV g h x0 [(10, 6)] (.int x5)).bind fun h9 => (mkA g h9 6 x4 .null).bind fun h11 => (wrV g h11 x0 [(10, 2)] (.ref h9.2.1)).bind fun h13 => ocase r1 (some ((some h9.2.1), h13)) (fun a15 => x_J1_resize_151 g N  N h13 x0 (some a15) x2 x3 x4 x5 (some h9.2.1) (0 : Int32)))
theorem p_x_J1_resize_85 (g : AG) (hst : (gL g).stackTraces = false) (N : Nat) : ∀ (h : AH) (x0 : Nat) (r1 : Option Nat) (x2 : Int32) (x3 : Int32) (x4 : Int32) (x5 : Int32) (q : (Option Nat × AH)), x_J1_resize_85 g N h x0 r1 x2 x3 x4 x5 = some q → AW g YJ1_resize 12 (xR q) h [some (.ref x0), some (va_rf r1), some (.int x2), some (.int x3), some (.int x4), some (.int x5), none, none, none, none, none, none, none, none] 85 [] := by
  intro h x0 r1 x2 x3 x4 x5 q hq
  unfold x_J1_resize_85 at hq
  refine aw_iload dJ1_resize_85 rfl ?_
  refine aw_if_ne (tgt := 125) dJ1_resize_87 (by decide) (fun c8 => ?_) (fun c8 => ?_)
  · rw [if_neg c8] at hq
    refine aw_aload_n (i := 0) dJ1_resize_125 rfl rfl trivial ?_
    refine aw_iload dJ1_resize_126 rfl ?_
    replace hq := obind hq
    obtain ⟨h9, e10, hq⟩ := hq
    refine xw_put e10 fJ1_88 tJ1_6 ⟨rfl, rfl⟩ dJ1_resize_128 ?_
    refine aw_iload dJ1_resize_131 rfl ?_
    replace hq := obind hq
    obtain ⟨h11, e12, hq⟩ := hq
    refine xw_anew e12 q1543 q1544 rfl (by decide) dJ1_resize_133 ?_
    refine aw_astore (loc' := [some (.ref x0), some (va_rf r1), some (.int x2), some (.int x3), some (.int x4), some (.int x5), some (.ref h9.2.1), none, none, none, none, none, none, none]) dJ1_resize_136 (Nat.le_of_ble_eq_true rfl) trivial rfl ?_
    refine aw_aload_n (i := 0) dJ1_resize_138 rfl rfl trivial ?_
    refine aw_aload dJ1_resize_139 rfl trivial ?_
    replace hq := obind hq
    obtain ⟨h13, e14, hq⟩ := hq
    refine xw_put e14 fJ1_105 tJ1_2 (fits_rfA _ (some h9.2.1)) dJ1_resize_141 ?_
    refine aw_aload_n (i := 1) dJ1_resize_144 rfl rfl (aIsR_rf _) ?_
    rcases r1 with _ | a15
    · replace hq := ocase_n hq
      refine xw_ifnullN (tgt := 353) dJ1_resize_145 (by decide) ?_
      refine aw_aload dJ1_resize_353 rfl trivial ?_
      cases hq
      exact aw_areturn dJ1_resize_355 rfl (Or.inr ⟨_, rfl⟩) trivial ⟨rfl, rfl⟩
    · replace hq := ocase_s hq
      refine xw_ifnullS (tgt := 353) dJ1_resize_145 (by decide) ?_
      refine aw_iconst (v := 0) dJ1_resize_148 (by decide) ?_
      refine aw_istore (loc' := [some (.ref x0), some (.ref a15), some (.int x2), some (.int x3), some (.int x4), some (.int x5), some (.ref h9.2.1), some (.int (0 : Int32)), none, none, none, none, none, none]) dJ1_resize_149 (Nat.le_of_ble_eq_true rfl) rfl ?_
      exact p_x_J1_resize_151 g hst N   N h13 x0 (some a15) x2 x3 x4 x5 (some h9.2.1) (0 : Int32) _ hq
  · rw [if_pos c8] at hq
    refine aw_iload dJ1_resize_90 rfl ?_
    cases hq
def x_J1_resize_15 (g : AG) (N : Nat) (h : AH) (x0 : Nat) (r1 : Option Nat) (s0 : Int32) : Option (Option Nat × AH) :=
  (rdI h x0 [(10, 6)]).bind fun i4 => if s0 ≤ 0 then (if i4 ≤ 0 then (x_J1_resize_85 g N  h x0 r1 s0 i4 (16 : Int32) (12 : Int32)) else (x_J1_resize_85 g N  h x0 r1 s0 i4 i4 (0 : Int32))) else (if s0 < (1073741824 : Int32) then (if (1073741824 : Int32) ≤ (s0 <<< ((1 : Int32) &&& 31)) then (x_J1_resize_85 g N  h x0 r1 s0 i4 (s0 <<< ((1 : Int32) &&& 31)) (0 : Int32)) else (if s0 < (16 : Int32) then (x_J1_resize_85 g N  h x0 r1 s0 i4 (s0 <<< ((1 : Int32) &&& 31)) (0 : Int32)) else (x_J1_resize_85 g N  h x0 r1 s0 i4 (s0 <<< ((1 : Int32) &&& 31)) (i4 <<< ((1 : Int32) &&& 31))))) else ((wrV g h x0 [(10, 6)] (.int (2147483647 : Int32))).bind fun h71 => some (r1, h71)))
theorem p_x_J1_resize_15 (g : AG) (hst : (gL g).stackTraces = false) (N : Nat) : ∀ (h : AH) (x0 : Nat) (r1 : Option Nat) (s0 : Int32) (q : (Option Nat × AH)), x_J1_resize_15 g N h x0 r1 s0 = some q → AW g YJ1_resize 12 (xR q) h [some (.ref x0), some (va_rf r1), none, none, none, none, none, none, none, none, none, none, none, none] 15 [.int s0] := by
  intro h x0 r1 s0 q hq
  unfold x_J1_resize_15 at hq
  refine aw_istore_n (i := 2) (loc' := [some (.ref x0), some (va_rf r1), some (.int s0), none, none, none, none, none, none, none, none, none, none, none]) dJ1_resize_15 rfl (Nat.le_of_ble_eq_true rfl) (aset1_rf rfl) ?_
  refine aw_aload_n (i := 0) dJ1_resize_16 rfl rfl trivial ?_
  replace hq := obind hq
  obtain ⟨i4, e5, hq⟩ := hq
  refine xw_getI e5 fJ1_88 dJ1_resize_17 ?_
  refine aw_istore_n (i := 3) (loc' := [some (.ref x0), some (va_rf r1), some (.int s0), some (.int i4), none, none, none, none, none, none, none, none, none, none]) dJ1_resize_20 rfl (Nat.le_of_ble_eq_true rfl) rfl ?_
  refine aw_iconst (v := 0) dJ1_resize_21 (by decide) ?_
  refine aw_istore (loc' := [some (.ref x0), some (va_rf r1), some (.int s0), some (.int i4), none, some (.int (0 : Int32)), none, none, none, none, none, none, none, none]) dJ1_resize_22 (Nat.le_of_ble_eq_true rfl) rfl ?_
  refine aw_iload_n (i := 2) dJ1_resize_24 rfl rfl ?_
  refine aw_if_le (tgt := 67) dJ1_resize_25 (by decide) (fun c6 => ?_) (fun c6 => ?_)
  · rw [if_pos c6] at hq
    refine aw_iload_n (i := 3) dJ1_resize_67 rfl rfl ?_
    refine aw_if_le (tgt := 77) dJ1_resize_68 (by decide) (fun c7 => ?_) (fun c7 => ?_)
    · rw [if_pos c7] at hq
      refine aw_bipush (v := 16) dJ1_resize_77 (by decide) ?_
      refine aw_istore (loc' := [some (.ref x0), some (va_rf r1), some (.int s0), some (.int i4), some (.int (16 : Int32)), some (.int (0 : Int32)), none, none, none, none, none, none, none, none]) dJ1_resize_79 (Nat.le_of_ble_eq_true rfl) rfl ?_
      refine aw_bipush (v := 12) dJ1_resize_81 (by decide) ?_
      refine aw_istore (loc' := [some (.ref x0), some (va_rf r1), some (.int s0), some (.int i4), some (.int (16 : Int32)), some (.int (12 : Int32)), none, none, none, none, none, none, none, none]) dJ1_resize_83 (Nat.le_of_ble_eq_true rfl) rfl ?_
      exact p_x_J1_resize_85 g hst N   h x0 r1 s0 i4 (16 : Int32) (12 : Int32) _ hq
    · rw [if_neg c7] at hq
      refine aw_iload_n (i := 3) dJ1_resize_71 rfl rfl ?_
      refine aw_istore (loc' := [some (.ref x0), some (va_rf r1), some (.int s0), some (.int i4), some (.int i4), some (.int (0 : Int32)), none, none, none, none, none, none, none, none]) dJ1_resize_72 (Nat.le_of_ble_eq_true rfl) rfl ?_
      refine aw_goto (tgt := 85) dJ1_resize_74 (by decide) ?_
      exact p_x_J1_resize_85 g hst N   h x0 r1 s0 i4 i4 (0 : Int32) _ hq
  · rw [if_neg c6] at hq
    refine aw_iload_n (i := 2) dJ1_resize_28 rfl rfl ?_
    refine aw_ldc (v := (1073741824)) dJ1_resize_29 q1540 ?_
    refine aw_icmp_lt (tgt := 42) dJ1_resize_31 (by decide) (fun c68 => ?_) (fun c68 => ?_)
    · rw [if_pos c68] at hq
      refine aw_iload_n (i := 2) dJ1_resize_42 rfl rfl ?_
      refine aw_iconst (v := 1) dJ1_resize_43 (by decide) ?_
      refine aw_ishl dJ1_resize_44 ?_
      refine aw_dup dJ1_resize_45 rfl ?_
      refine aw_istore (loc' := [some (.ref x0), some (va_rf r1), some (.int s0), some (.int i4), some (.int (s0 <<< ((1 : Int32) &&& 31))), some (.int (0 : Int32)), none, none, none, none, none, none, none, none]) dJ1_resize_46 (Nat.le_of_ble_eq_true rfl) rfl ?_
      refine aw_ldc (v := (1073741824)) dJ1_resize_48 q1540 ?_
      refine aw_icmp_ge (tgt := 85) dJ1_resize_50 (by decide) (fun c69 => ?_) (fun c69 => ?_)
      · rw [if_pos c69] at hq
        exact p_x_J1_resize_85 g hst N   h x0 r1 s0 i4 (s0 <<< ((1 : Int32) &&& 31)) (0 : Int32) _ hq
      · rw [if_neg c69] at hq
        refine aw_iload_n (i := 2) dJ1_resize_53 rfl rfl ?_
        refine aw_bipush (v := 16) dJ1_resize_54 (by decide) ?_
        refine aw_icmp_lt (tgt := 85) dJ1_resize_56 (by decide) (fun c70 => ?_) (fun c70 => ?_)
        · rw [if_pos c70] at hq
          exact p_x_J1_resize_85 g hst N   h x0 r1 s0 i4 (s0 <<< ((1 : Int32) &&& 31)) (0 : Int32) _ hq
        · rw [if_neg c70] at hq
          refine aw_iload_n (i := 3) dJ1_resize_59 rfl rfl ?_
          refine aw_iconst (v := 1) dJ1_resize_60 (by decide) ?_
          refine aw_ishl dJ1_resize_61 ?_
          refine aw_istore (loc' := [some (.ref x0), some (va_rf r1), some (.int s0), some (.int i4), some (.int (s0 <<< ((1 : Int32) &&& 31))), some (.int (i4 <<< ((1 : Int32) &&& 31))), none, none, none, none, none, none, none, none]) dJ1_resize_62 (Nat.le_of_ble_eq_true rfl) rfl ?_
          refine aw_goto (tgt := 85) dJ1_resize_64 (by decide) ?_
          exact p_x_J1_resize_85 g hst N   h x0 r1 s0 i4 (s0 <<< ((1 : Int32) &&& 31)) (i4 <<< ((1 : Int32) &&& 31)) _ hq
    · rw [if_neg c68] at hq
      refine aw_aload_n (i := 0) dJ1_resize_34 rfl rfl trivial ?_
      refine aw_ldc (v := (2147483647)) dJ1_resize_35 q1541 ?_
      replace hq := obind hq
      obtain ⟨h71, e72, hq⟩ := hq
      refine xw_put e72 fJ1_88 tJ1_6 ⟨rfl, rfl⟩ dJ1_resize_37 ?_
      refine aw_aload_n (i := 1) dJ1_resize_40 rfl rfl (aIsR_rf _) ?_
      cases hq
      exact aw_areturn dJ1_resize_41 rfl (Or.inr ⟨_, rfl⟩) (aIsR_rf _) ⟨rfl, rfl⟩
def x_J1_resize (g : AG) (N : Nat) (h : AH) (x0 : Nat) : Option (Option Nat × AH) :=
  (rdR h x0 [(10, 2)]).bind fun o1 => ocase o1 (x_J1_resize_15 g N  h x0 (none) (0 : Int32)) (fun a3 => (rdN h a3).bind fun i73 => x_J1_resize_15 g N  h x0 (some a3) i73)
theorem ct_J1_resize (g : AG) (hst : (gL g).stackTraces = false) (N : Nat) : ∀ (h : AH) (x0 : Nat) (q : (Option Nat × AH)), x_J1_resize g N h x0 = some q → CT g YJ1_resize 12 [.ref x0] h (xR q) := by
  intro h x0 q hq
  refine CT.of rfl (by decide +kernel) (loc := [some (.ref x0), none, none, none, none, none, none, none, none, none, none, none, none, none]) (by first | exact Nat.le_of_ble_eq_true rfl | (simp only [lgl_rf, lgl_i, lgl_j, lgl_ref, lgl_nil]; exact Nat.le_of_ble_eq_true rfl)) (by first | rfl | (simp only [aent_rf, aent_i, aent_j, aent_ref, aent_nil]; rfl)) ?_
  unfold x_J1_resize at hq
  refine aw_aload_n (i := 0) dJ1_resize_0 rfl rfl trivial ?_
  replace hq := obind hq
  obtain ⟨o1, e2, hq⟩ := hq
  refine xw_getR e2 fJ1_105 dJ1_resize_1 ?_
  refine aw_astore_n (i := 1) (loc' := [some (.ref x0), some (va_rf o1), none, none, none, none, none, none, none, none, none, none, none, none]) dJ1_resize_4 rfl (Nat.le_of_ble_eq_true rfl) (aIsR_rf _) rfl ?_
  refine aw_aload_n (i := 1) dJ1_resize_5 rfl rfl (aIsR_rf _) ?_
  rcases o1 with _ | a3
  · replace hq := ocase_n hq
    refine xw_ifnonN (tgt := 13) dJ1_resize_6 (by decide) ?_
    refine aw_iconst (v := 0) dJ1_resize_9 (by decide) ?_
    refine aw_goto (tgt := 15) dJ1_resize_10 (by decide) ?_
    exact p_x_J1_resize_15 g hst N   h x0 (none) (0 : Int32) _ hq
  · replace hq := ocase_s hq
    refine xw_ifnonS (tgt := 13) dJ1_resize_6 (by decide) ?_
    refine aw_aload_n (i := 1) dJ1_resize_13 rfl rfl trivial ?_
    replace hq := obind hq
    obtain ⟨i73, e74, hq⟩ := hq
    refine xw_alen e74 dJ1_resize_14 ?_
    exact p_x_J1_resize_15 g hst N   h x0 (some a3) i73 _ hq
