/-! THE COMPONENT AND THE JDK as functions of the heap, and their contracts: printed by wip gen/dec2.py -/
set_option maxRecDepth 100000
abbrev YJ29_putTreeVal : YC := (yJ29_putTreeVal, cJ29_putTreeVal, 16, (some (.object "java/util/HashMap$TreeNode")), [])
theorem kJ29_putTreeVal : aMk YJ29_putTreeVal 5 := ⟨rfl, q1613, q156, ⟨by decide +kernel, by decide +kernel, by decide +kernel⟩, Nat.le_of_ble_eq_true rfl⟩
def x_J29_putTreeVal_215 (g : AG) (N : Nat) (K27 : AH → Nat → Option Nat → Option Nat → Int32 → Option Nat → Option Nat → Option Nat → Int32 → Option Nat → Option Nat → Option (Option Nat × AH)) (K119 : AH → Nat → Option Nat → Option Nat → Int32 → Option Nat → Option Nat → Option Nat → Int32 → Option Nat → Option Nat → Int32 → Option Nat → Option (Option Nat × AH)) (K221 : AH → Nat → Option Nat → Option Nat → Int32 → Option Nat → Option Nat → Option Nat → Int32 → Option Nat → Option Nat → Int32 → Int32 → Option Nat → Option (Option Nat × AH)) (h : AH) (x0 : Nat) (r1 : Option Nat) (r2 : Option Nat) (x3 : Int32) (r4 : Option Nat) (r5 : Option Nat) (r6 : Option Nat) (x7 : Int32) (r8 : Option Nat) (r9 : Option Nat) (x10 : Int32) (x11 : Int32) (r13 : Option Nat) (t0 : Option Nat) : Option (Option Nat × AH) :=
  ocase t0 (K221 h x0 r1 r2 x3 r4 r5 r6 x7 r8 (none) x10 x11 r13) (fun a26 => K27 h x0 r1 r2 x3 r4 r5 r6 x7 r8 (some a26))
theorem p_x_J29_putTreeVal_215 (g : AG) (hst : (gL g).stackTraces = false) (N : Nat) (K27 : AH → Nat → Option Nat → Option Nat → Int32 → Option Nat → Option Nat → Option Nat → Int32 → Option Nat → Option Nat → Option (Option Nat × AH)) (K119 : AH → Nat → Option Nat → Option Nat → Int32 → Option Nat → Option Nat → Option Nat → Int32 → Option Nat → Option Nat → Int32 → Option Nat → Option (Option Nat × AH)) (K221 : AH → Nat → Option Nat → Option Nat → Int32 → Option Nat → Option Nat → Option Nat → Int32 → Option Nat → Option Nat → Int32 → Int32 → Option Nat → Option (Option Nat × AH)) (hK27 : ∀ (h : AH) (x0 : Nat) (r1 : Option Nat) (r2 : Option Nat) (x3 : Int32) (r4 : Option Nat) (r5 : Option Nat) (r6 : Option Nat) (x7 : Int32) (r8 : Option Nat) (r9 : Option Nat) (q : (Option Nat × AH)), K27 h x0 r1 r2 x3 r4 r5 r6 x7 r8 r9 = some q → AW g YJ29_putTreeVal 111 (xR q) h [some (.ref x0), some (va_rf r1), some (va_rf r2), some (.int x3), some (va_rf r4), some (va_rf r5), some (va_rf r6), some (.int x7), some (va_rf r8), some (va_rf r9), none, none, none, none, none, none] 27 []) (hK119 : ∀ (h : AH) (x0 : Nat) (r1 : Option Nat) (r2 : Option Nat) (x3 : Int32) (r4 : Option Nat) (r5 : Option Nat) (r6 : Option Nat) (x7 : Int32) (r8 : Option Nat) (r9 : Option Nat) (x11 : Int32) (r12 : Option Nat) (q : (Option Nat × AH)), K119 h x0 r1 r2 x3 r4 r5 r6 x7 r8 r9 x11 r12 = some q → AW g YJ29_putTreeVal 111 (xR q) h [some (.ref x0), some (va_rf r1), some (va_rf r2), some (.int x3), some (va_rf r4), some (va_rf r5), some (va_rf r6), some (.int x7), some (va_rf r8), some (va_rf r9), none, some (.int x11), some (va_rf r12), none, none, none] 119 []) (hK221 : ∀ (h : AH) (x0 : Nat) (r1 : Option Nat) (r2 : Option Nat) (x3 : Int32) (r4 : Option Nat) (r5 : Option Nat) (r6 : Option Nat) (x7 : Int32) (r8 : Option Nat) (r9 : Option Nat) (x10 : Int32) (x11 : Int32) (r13 : Option Nat) (q : (Option Nat × AH)), K221 h x0 r1 r2 x3 r4 r5 r6 x7 r8 r9 x10 x11 r13 = some q → AW g YJ29_putTreeVal 111 (xR q) h [some (.ref x0), some (va_rf r1), some (va_rf r2), some (.int x3), some (va_rf r4), some (va_rf r5), some (va_rf r6), some (.int x7), some (va_rf r8), some (va_rf r9), some (.int x10), some (.int x11), none, some (va_rf r13), none, none] 221 []) : ∀ (h : AH) (x0 : Nat) (r1 : Option Nat) (r2 : Option Nat) (x3 : Int32) (r4 : Option Nat) (r5 : Option Nat) (r6 : Option Nat) (x7 : Int32) (r8 : Option Nat) (r9 : Option Nat) (x10 : Int32) (x11 : Int32) (r13 : Option Nat) (t0 : Option Nat) (q : (Option Nat × AH)), x_J29_putTreeVal_215 g N K27 K119 K221 h x0 r1 r2 x3 r4 r5 r6 x7 r8 r9 x10 x11 r13 t0 = some q → AW g YJ29_putTreeVal 111 (xR q) h [some (.ref x0), some (va_rf r1), some (va_rf r2), some (.int x3), some (va_rf r4), some (va_rf r5), some (va_rf r6), some (.int x7), some (va_rf r8), some (va_rf r9), some (.int x10), some (.int x11), none, some (va_rf r13), none, none] 215 [va_rf t0] := by
  intro h x0 r1 r2 x3 r4 r5 r6 x7 r8 r9 x10 x11 r13 t0 q hq
  unfold x_J29_putTreeVal_215 at hq
  refine aw_dup dJ29_putTreeVal_215 (cat_rf _) ?_
  refine aw_astore (loc' := [some (.ref x0), some (va_rf r1), some (va_rf r2), some (.int x3), some (va_rf r4), some (va_rf r5), some (va_rf r6), some (.int x7), some (va_rf r8), some (va_rf t0), some (.int x10), some (.int x11), none, some (va_rf r13), none, none]) dJ29_putTreeVal_216 (Nat.le_of_ble_eq_true rfl) (aIsR_rf _) (aset1_rf rfl) ?_
  rcases t0 with _ | a26
  · replace hq := ocase_n hq
    refine xw_ifnonN (tgt := 311) dJ29_putTreeVal_218 (by decide) ?_
    exact hK221 h x0 r1 r2 x3 r4 r5 r6 x7 r8 (none) x10 x11 r13 _ hq
  · replace hq := ocase_s hq
    refine xw_ifnonS (tgt := 311) dJ29_putTreeVal_218 (by decide) ?_
    refine aw_goto (tgt := 27) dJ29_putTreeVal_311 (by decide) ?_
    refine aw_subl (loc' := [some (.ref x0), some (va_rf r1), some (va_rf r2), some (.int x3), some (va_rf r4), some (va_rf r5), some (va_rf r6), some (.int x7), some (va_rf r8), some (.ref a26), none, none, none, none, none, none]) ⟨Or.inr rfl, Or.inr rfl, Or.inr rfl, Or.inr rfl, Or.inr rfl, Or.inr rfl, Or.inr rfl, Or.inr rfl, Or.inr rfl, Or.inr rfl, Or.inl rfl, Or.inl rfl, Or.inl rfl, Or.inl rfl, Or.inl rfl, Or.inl rfl, trivial⟩ ?_
    exact hK27 h x0 r1 r2 x3 r4 r5 r6 x7 r8 (some a26) _ hq
def x_J29_putTreeVal_193 (g : AG) (N : Nat) (K27 : AH → Nat → Option Nat → Option Nat → Int32 → Option Nat → Option Nat → Option Nat → Int32 → Option Nat → Option Nat → Option (Option Nat × AH)) (K119 : AH → Nat → Option Nat → Option Nat → Int32 → Option Nat → Option Nat → Option Nat → Int32 → Option Nat → Option Nat → Int32 → Option Nat → Option (Option Nat × AH)) (K221 : AH → Nat → Option Nat → Option Nat → Int32 → Option Nat → Option Nat → Option Nat → Int32 → Option Nat → Option Nat → Int32 → Int32 → Option Nat → Option (Option Nat × AH)) (h : AH) (x0 : Nat) (r1 : Option Nat) (r2 : Option Nat) (x3 : Int32) (r4 : Option Nat) (r5 : Option Nat) (r6 : Option Nat) (x7 : Int32) (r8 : Option Nat) (r9 : Option Nat) (x10 : Int32) (x11 : Int32) : Option (Option Nat × AH) :=
  if 0 < x10 then ((r9).bind fun a22 => (rdR h a22 [(12, 8)]).bind fun o24 => x_J29_putTreeVal_215 g N K27 K119 K221 h x0 r1 r2 x3 r4 r5 r6 x7 r8 (some a22) x10 x11 (some a22) o24) else ((r9).bind fun a27 => (rdR h a27 [(12, 7)]).bind fun o29 => x_J29_putTreeVal_215 g N K27 K119 K221 h x0 r1 r2 x3 r4 r5 r6 x7 r8 (some a27) x10 x11 (some a27) o29)
theorem p_x_J29_putTreeVal_193 (g : AG) (hst : (gL g).stackTraces = false) (N : Nat) (K27 : AH → Nat → Option Nat → Option Nat → Int32 → Option Nat → Option Nat → Option Nat → Int32 → Option Nat → Option Nat → Option (Option Nat × AH)) (K119 : AH → Nat → Option Nat → Option Nat → Int32 → Option Nat → Option Nat → Option Nat → Int32 → Option Nat → Option Nat → Int32 → Option Nat → Option (Option Nat × AH)) (K221 : AH → Nat → Option Nat → Option Nat → Int32 → Option Nat → Option Nat → Option Nat → Int32 → Option Nat → Option Nat → Int32 → Int32 → Option Nat → Option (Option Nat × AH)) (hK27 : ∀ (h : AH) (x0 : Nat) (r1 : Option Nat) (r2 : Option Nat) (x3 : Int32) (r4 : Option Nat) (r5 : Option Nat) (r6 : Option Nat) (x7 : Int32) (r8 : Option Nat) (r9 : Option Nat) (q : (Option Nat × AH)), K27 h x0 r1 r2 x3 r4 r5 r6 x7 r8 r9 = some q → AW g YJ29_putTreeVal 111 (xR q) h [some (.ref x0), some (va_rf r1), some (va_rf r2), some (.int x3), some (va_rf r4), some (va_rf r5), some (va_rf r6), some (.int x7), some (va_rf r8), some (va_rf r9), none, none, none, none, none, none] 27 []) (hK119 : ∀ (h : AH) (x0 : Nat) (r1 : Option Nat) (r2 : Option Nat) (x3 : Int32) (r4 : Option Nat) (r5 : Option Nat) (r6 : Option Nat) (x7 : Int32) (r8 : Option Nat) (r9 : Option Nat) (x11 : Int32) (r12 : Option Nat) (q : (Option Nat × AH)), K119 h x0 r1 r2 x3 r4 r5 r6 x7 r8 r9 x11 r12 = some q → AW g YJ29_putTreeVal 111 (xR q) h [some (.ref x0), some (va_rf r1), some (va_rf r2), some (.int x3), some (va_rf r4), some (va_rf r5), some (va_rf r6), some (.int x7), some (va_rf r8), some (va_rf r9), none, some (.int x11), some (va_rf r12), none, none, none] 119 []) (hK221 : ∀ (h : AH) (x0 : Nat) (r1 : Option Nat) (r2 : Option Nat) (x3 : Int32) (r4 : Option Nat) (r5 : Option Nat) (r6 : Option Nat) (x7 : Int32) (r8 : Option Nat) (r9 : Option Nat) (x10 : Int32) (x11 : Int32) (r13 : Option Nat) (q : (Option Nat × AH)), K221 h x0 r1 r2 x3 r4 r5 r6 x7 r8 r9 x10 x11 r13 = some q → AW g YJ29_putTreeVal 111 (xR q) h [some (.ref x0), some (va_rf r1), some (va_rf r2), some (.int x3), some (va_rf r4), some (va_rf r5), some (va_rf r6), some (.int x7), some (va_rf r8), some (va_rf r9), some (.int x10), some (.int x11), none, some (va_rf r13), none, none] 221 []) : ∀ (h : AH) (x0 : Nat) (r1 : Option Nat) (r2 : Option Nat) (x3 : Int32) (r4 : Option Nat) (r5 : Option Nat) (r6 : Option Nat) (x7 : Int32) (r8 : Option Nat) (r9 : Option Nat) (x10 : Int32) (x11 : Int32) (q : (Option Nat × AH)), x_J29_putTreeVal_193 g N K27 K119 K221 h x0 r1 r2 x3 r4 r5 r6 x7 r8 r9 x10 x11 = some q → AW g YJ29_putTreeVal 111 (xR q) h [some (.ref x0), some (va_rf r1), some (va_rf r2), some (.int x3), some (va_rf r4), some (va_rf r5), some (va_rf r6), some (.int x7), some (va_rf r8), some (va_rf r9), some (.int x10), some (.int x11), none, none, none, none] 193 [] := by
  intro h x0 r1 r2 x3 r4 r5 r6 x7 r8 r9 x10 x11 q hq
  unfold x_J29_putTreeVal_193 at hq
  refine aw_aload dJ29_putTreeVal_193 rfl (aIsR_rf _) ?_
  refine aw_astore (loc' := [some (.ref x0), some (va_rf r1), some (va_rf r2), some (.int x3), some (va_rf r4), some (va_rf r5), some (va_rf r6), some (.int x7), some (va_rf r8), some (va_rf r9), some (.int x10), some (.int x11), none, some (va_rf r9), none, none]) dJ29_putTreeVal_195 (Nat.le_of_ble_eq_true rfl) (aIsR_rf _) rfl ?_
  refine aw_iload dJ29_putTreeVal_197 rfl ?_
  refine aw_if_gt (tgt := 210) dJ29_putTreeVal_199 (by decide) (fun c21 => ?_) (fun c21 => ?_)
  · rw [if_pos c21] at hq
    refine aw_aload dJ29_putTreeVal_210 rfl (aIsR_rf _) ?_
    replace hq := obind hq
    obtain ⟨a22, e23, hq⟩ := hq
    subst e23
    replace hq := obind hq
    obtain ⟨o24, e25, hq⟩ := hq
    refine xw_getR e25 fJ29_42 dJ29_putTreeVal_212 ?_
    exact p_x_J29_putTreeVal_215 g hst N _ _ _ hK27 hK119 hK221 h x0 r1 r2 x3 r4 r5 r6 x7 r8 (some a22) x10 x11 (some a22) o24 _ hq
  · rw [if_neg c21] at hq
    refine aw_aload dJ29_putTreeVal_202 rfl (aIsR_rf _) ?_
    replace hq := obind hq
    obtain ⟨a27, e28, hq⟩ := hq
    subst e28
    replace hq := obind hq
    obtain ⟨o29, e30, hq⟩ := hq
    refine xw_getR e30 fJ29_39 dJ29_putTreeVal_204 ?_
    refine aw_goto (tgt := 215) dJ29_putTreeVal_207 (by decide) ?_
    exact p_x_J29_putTreeVal_215 g hst N _ _ _ hK27 hK119 hK221 h x0 r1 r2 x3 r4 r5 r6 x7 r8 (some a27) x10 x11 (some a27) o29 _ hq
def x_J29_putTreeVal_104 (g : AG) (N : Nat) (K27 : AH → Nat → Option Nat → Option Nat → Int32 → Option Nat → Option Nat → Option Nat → Int32 → Option Nat → Option Nat → Option (Option Nat × AH)) (K119 : AH → Nat → Option Nat → Option Nat → Int32 → Option Nat → Option Nat → Option Nat → Int32 → Option Nat → Option Nat → Int32 → Option Nat → Option (Option Nat × AH)) (K221 : AH → Nat → Option Nat → Option Nat → Int32 → Option Nat → Option Nat → Option Nat → Int32 → Option Nat → Option Nat → Int32 → Int32 → Option Nat → Option (Option Nat × AH)) (h : AH) (x0 : Nat) (r1 : Option Nat) (r2 : Option Nat) (x3 : Int32) (r4 : Option Nat) (r5 : Option Nat) (r6 : Option Nat) (x7 : Int32) (r8 : Option Nat) (r9 : Option Nat) (x11 : Int32) (r12 : Option Nat) : Option (Option Nat × AH) :=
  (x_J1_compareComparables g N h r6 r4 r12).bind fun q18 => if q18.1 = 0 then (K119 q18.2 x0 r1 r2 x3 r4 r5 r6 x7 r8 r9 x11 r12) else (x_J29_putTreeVal_193 g N K27 K119 K221 q18.2 x0 r1 r2 x3 r4 r5 r6 x7 r8 r9 q18.1 x11)
theorem p_x_J29_putTreeVal_104 (g : AG) (hst : (gL g).stackTraces = false) (N : Nat) (K27 : AH → Nat → Option Nat → Option Nat → Int32 → Option Nat → Option Nat → Option Nat → Int32 → Option Nat → Option Nat → Option (Option Nat × AH)) (K119 : AH → Nat → Option Nat → Option Nat → Int32 → Option Nat → Option Nat → Option Nat → Int32 → Option Nat → Option Nat → Int32 → Option Nat → Option (Option Nat × AH)) (K221 : AH → Nat → Option Nat → Option Nat → Int32 → Option Nat → Option Nat → Option Nat → Int32 → Option Nat → Option Nat → Int32 → Int32 → Option Nat → Option (Option Nat × AH)) (hK27 : ∀ (h : AH) (x0 : Nat) (r1 : Option Nat) (r2 : Option Nat) (x3 : Int32) (r4 : Option Nat) (r5 : Option Nat) (r6 : Option Nat) (x7 : Int32) (r8 : Option Nat) (r9 : Option Nat) (q : (Option Nat × AH)), K27 h x0 r1 r2 x3 r4 r5 r6 x7 r8 r9 = some q → AW g YJ29_putTreeVal 111 (xR q) h [some (.ref x0), some (va_rf r1), some (va_rf r2), some (.int x3), some (va_rf r4), some (va_rf r5), some (va_rf r6), some (.int x7), some (va_rf r8), some (va_rf r9), none, none, none, none, none, none] 27 []) (hK119 : ∀ (h : AH) (x0 : Nat) (r1 : Option Nat) (r2 : Option Nat) (x3 : Int32) (r4 : Option Nat) (r5 : Option Nat) (r6 : Option Nat) (x7 : Int32) (r8 : Option Nat) (r9 : Option Nat) (x11 : Int32) (r12 : Option Nat) (q : (Option Nat × AH)), K119 h x0 r1 r2 x3 r4 r5 r6 x7 r8 r9 x11 r12 = some q → AW g YJ29_putTreeVal 111 (xR q) h [some (.ref x0), some (va_rf r1), some (va_rf r2), some (.int x3), some (va_rf r4), some (va_rf r5), some (va_rf r6), some (.int x7), some (va_rf r8), some (va_rf r9), none, some (.int x11), some (va_rf r12), none, none, none] 119 []) (hK221 : ∀ (h : AH) (x0 : Nat) (r1 : Option Nat) (r2 : Option Nat) (x3 : Int32) (r4 : Option Nat) (r5 : Option Nat) (r6 : Option Nat) (x7 : Int32) (r8 : Option Nat) (r9 : Option Nat) (x10 : Int32) (x11 : Int32) (r13 : Option Nat) (q : (Option Nat × AH)), K221 h x0 r1 r2 x3 r4 r5 r6 x7 r8 r9 x10 x11 r13 = some q → AW g YJ29_putTreeVal 111 (xR q) h [some (.ref x0), some (va_rf r1), some (va_rf r2), some (.int x3), some (va_rf r4), some (va_rf r5), some (va_rf r6), some (.int x7), some (va_rf r8), some (va_rf r9), some (.int x10), some (.int x11), none, some (va_rf r13), none, none] 221 []) : ∀ (h : AH) (x0 : Nat) (r1 : Option Nat) (r2 : Option Nat) (x3 : Int32) (r4 : Option Nat) (r5 : Option Nat) (r6 : Option Nat) (x7 : Int32) (r8 : Option Nat) (r9 : Option Nat) (x11 : Int32) (r12 : Option Nat) (q : (Option Nat × AH)), x_J29_putTreeVal_104 g N K27 K119 K221 h x0 r1 r2 x3 r4 r5 r6 x7 r8 r9 x11 r12 = some q → AW g YJ29_putTreeVal 111 (xR q) h [some (.ref x0), some (va_rf r1), some (va_rf r2), some (.int x3), some (va_rf r4), some (va_rf r5), some (va_rf r6), some (.int x7), some (va_rf r8), some (va_rf r9), none, some (.int x11), some (va_rf r12), none, none, none] 104 [] := by
  intro h x0 r1 r2 x3 r4 r5 r6 x7 r8 r9 x11 r12 q hq
  unfold x_J29_putTreeVal_104 at hq
  refine aw_aload dJ29_putTreeVal_104 rfl (aIsR_rf _) ?_
  refine aw_aload dJ29_putTreeVal_106 rfl (aIsR_rf _) ?_
  refine aw_aload dJ29_putTreeVal_108 rfl (aIsR_rf _) ?_
  replace hq := obind hq
  obtain ⟨q18, e19, hq⟩ := hq
  refine aw_callS (Y2 := YJ1_compareComparables) (As := [va_rf r6, va_rf r4, va_rf r12]) (rest := []) kJ1_compareComparables q1281 q1282 dJ29_putTreeVal_110 rfl rfl (ct_J1_compareComparables g hst N h r6 r4 r12 _ e19) (Nat.le_of_ble_eq_true rfl) (Nat.le_of_ble_eq_true rfl) (fun v9 h9 z9 y9 => ?_)
  obtain ⟨rfl, rfl⟩ := y9
  refine aw_st (st' := [.int q18.1]) rfl ?_
  refine aw_dup dJ29_putTreeVal_113 rfl ?_
  refine aw_istore (loc' := [some (.ref x0), some (va_rf r1), some (va_rf r2), some (.int x3), some (va_rf r4), some (va_rf r5), some (va_rf r6), some (.int x7), some (va_rf r8), some (va_rf r9), some (.int q18.1), some (.int x11), some (va_rf r12), none, none, none]) dJ29_putTreeVal_114 (Nat.le_of_ble_eq_true rfl) (aset1_rf rfl) ?_
  refine aw_if_ne (tgt := 193) dJ29_putTreeVal_116 (by decide) (fun c20 => ?_) (fun c20 => ?_)
  · rw [if_neg c20] at hq
    refine aw_subl (loc' := [some (.ref x0), some (va_rf r1), some (va_rf r2), some (.int x3), some (va_rf r4), some (va_rf r5), some (va_rf r6), some (.int x7), some (va_rf r8), some (va_rf r9), some (.int q18.1), some (.int x11), none, none, none, none]) ⟨Or.inr rfl, Or.inr rfl, Or.inr rfl, Or.inr rfl, Or.inr rfl, Or.inr rfl, Or.inr rfl, Or.inr rfl, Or.inr rfl, Or.inr rfl, Or.inr rfl, Or.inr rfl, Or.inl rfl, Or.inl rfl, Or.inl rfl, Or.inl rfl, trivial⟩ ?_
    exact p_x_J29_putTreeVal_193 g hst N _ _ _ hK27 hK119 hK221 q18.2 x0 r1 r2 x3 r4 r5 r6 x7 r8 r9 q18.1 x11 _ hq
  · rw [if_pos c20] at hq
    refine aw_subl (loc' := [some (.ref x0), some (va_rf r1), some (va_rf r2), some (.int x3), some (va_rf r4), some (va_rf r5), some (va_rf r6), some (.int x7), some (va_rf r8), some (va_rf r9), none, some (.int x11), some (va_rf r12), none, none, none]) ⟨Or.inr rfl, Or.inr rfl, Or.inr rfl, Or.inr rfl, Or.inr rfl, Or.inr rfl, Or.inr rfl, Or.inr rfl, Or.inr rfl, Or.inr rfl, Or.inl rfl, Or.inr rfl, Or.inr rfl, Or.inl rfl, Or.inl rfl, Or.inl rfl, trivial⟩ ?_
    exact hK119 q18.2 x0 r1 r2 x3 r4 r5 r6 x7 r8 r9 x11 r12 _ hq
def x_J29_putTreeVal_88 (g : AG) (N : Nat) (K27 : AH → Nat → Option Nat → Option Nat → Int32 → Option Nat → Option Nat → Option Nat → Int32 → Option Nat → Option Nat → Option (Option Nat × AH)) (K119 : AH → Nat → Option Nat → Option Nat → Int32 → Option Nat → Option Nat → Option Nat → Int32 → Option Nat → Option Nat → Int32 → Option Nat → Option (Option Nat × AH)) (K221 : AH → Nat → Option Nat → Option Nat → Int32 → Option Nat → Option Nat → Option Nat → Int32 → Option Nat → Option Nat → Int32 → Int32 → Option Nat → Option (Option Nat × AH)) (h : AH) (x0 : Nat) (r1 : Option Nat) (r2 : Option Nat) (x3 : Int32) (r4 : Option Nat) (r5 : Option Nat) (r6 : Option Nat) (x7 : Int32) (r8 : Option Nat) (r9 : Option Nat) (x11 : Int32) (r12 : Option Nat) : Option (Option Nat × AH) :=
  ocase r6 ((x_J1_comparableClassFor g N h r4).bind fun q15 => ocase q15.1 (K119 q15.2 x0 r1 r2 x3 r4 r5 (none) x7 r8 r9 x11 r12) (fun a17 => x_J29_putTreeVal_104 g N K27 K119 K221 q15.2 x0 r1 r2 x3 r4 r5 (some a17) x7 r8 r9 x11 r12)) (fun a14 => x_J29_putTreeVal_104 g N K27 K119 K221 h x0 r1 r2 x3 r4 r5 (some a14) x7 r8 r9 x11 r12)
theorem p_x_J29_putTreeVal_88 (g : AG) (hst : (gL g).stackTraces = false) (N : Nat) (K27 : AH → Nat → Option Nat → Option Nat → Int32 → Option Nat → Option Nat → Option Nat → Int32 → Option Nat → Option Nat → Option (Option Nat × AH)) (K119 : AH → Nat → Option Nat → Option Nat → Int32 → Option Nat → Option Nat → Option Nat → Int32 → Option Nat → Option Nat → Int32 → Option Nat → Option (Option Nat × AH)) (K221 : AH → Nat → Option Nat → Option Nat → Int32 → Option Nat → Option Nat → Option Nat → Int32 → Option Nat → Option Nat → Int32 → Int32 → Option Nat → Option (Option Nat × AH)) (hK27 : ∀ (h : AH) (x0 : Nat) (r1 : Option Nat) (r2 : Option Nat) (x3 : Int32) (r4 : Option Nat) (r5 : Option Nat) (r6 : Option Nat) (x7 : Int32) (r8 : Option Nat) (r9 : Option Nat) (q : (Option Nat × AH)), K27 h x0 r1 r2 x3 r4 r5 r6 x7 r8 r9 = some q → AW g YJ29_putTreeVal 111 (xR q) h [some (.ref x0), some (va_rf r1), some (va_rf r2), some (.int x3), some (va_rf r4), some (va_rf r5), some (va_rf r6), some (.int x7), some (va_rf r8), some (va_rf r9), none, none, none, none, none, none] 27 []) (hK119 : ∀ (h : AH) (x0 : Nat) (r1 : Option Nat) (r2 : Option Nat) (x3 : Int32) (r4 : Option Nat) (r5 : Option Nat) (r6 : Option Nat) (x7 : Int32) (r8 : Option Nat) (r9 : Option Nat) (x11 : Int32) (r12 : Option Nat) (q : (Option Nat × AH)), K119 h x0 r1 r2 x3 r4 r5 r6 x7 r8 r9 x11 r12 = some q → AW g YJ29_putTreeVal 111 (xR q) h [some (.ref x0), some (va_rf r1), some (va_rf r2), some (.int x3), some (va_rf r4), some (va_rf r5), some (va_rf r6), some (.int x7), some (va_rf r8), some (va_rf r9), none, some (.int x11), some (va_rf r12), none, none, none] 119 []) (hK221 : ∀ (h : AH) (x0 : Nat) (r1 : Option Nat) (r2 : Option Nat) (x3 : Int32) (r4 : Option Nat) (r5 : Option Nat) (r6 : Option Nat) (x7 : Int32) (r8 : Option Nat) (r9 : Option Nat) (x10 : Int32) (x11 : Int32) (r13 : Option Nat) (q : (Option Nat × AH)), K221 h x0 r1 r2 x3 r4 r5 r6 x7 r8 r9 x10 x11 r13 = some q → AW g YJ29_putTreeVal 111 (xR q) h [some (.ref x0), some (va_rf r1), some (va_rf r2), some (.int x3), some (va_rf r4), some (va_rf r5), some (va_rf r6), some (.int x7), some (va_rf r8), some (va_rf r9), some (.int x10), some (.int x11), none, some (va_rf r13), none, none] 221 []) : ∀ (h : AH) (x0 : Nat) (r1 : Option Nat) (r2 : Option Nat) (x3 : Int32) (r4 : Option Nat) (r5 : Option Nat) (r6 : Option Nat) (x7 : Int32) (r8 : Option Nat) (r9 : Option Nat) (x11 : Int32) (r12 : Option Nat) (q : (Option Nat × AH)), x_J29_putTreeVal_88 g N K27 K119 K221 h x0 r1 r2 x3 r4 r5 r6 x7 r8 r9 x11 r12 = some q → AW g YJ29_putTreeVal 111 (xR q) h [some (.ref x0), some (va_rf r1), some (va_rf r2), some (.int x3), some (va_rf r4), some (va_rf r5), some (va_rf r6), some (.int x7), some (va_rf r8), some (va_rf r9), none, some (.int x11), some (va_rf r12), none, none, none] 88 [] := by
  intro h x0 r1 r2 x3 r4 r5 r6 x7 r8 r9 x11 r12 q hq
  unfold x_J29_putTreeVal_88 at hq
  refine aw_aload dJ29_putTreeVal_88 rfl (aIsR_rf _) ?_
  rcases r6 with _ | a14
  · replace hq := ocase_n hq
    refine xw_ifnonN (tgt := 104) dJ29_putTreeVal_90 (by decide) ?_
    refine aw_aload dJ29_putTreeVal_93 rfl (aIsR_rf _) ?_
    replace hq := obind hq
    obtain ⟨q15, e16, hq⟩ := hq
    refine aw_callS (Y2 := YJ1_comparableClassFor) (As := [va_rf r4]) (rest := []) kJ1_comparableClassFor q1275 q1276 dJ29_putTreeVal_95 rfl rfl (ct_J1_comparableClassFor g hst N h r4 _ e16) (Nat.le_of_ble_eq_true rfl) (Nat.le_of_ble_eq_true rfl) (fun v9 h9 z9 y9 => ?_)
    obtain ⟨rfl, rfl⟩ := y9
    refine aw_st (st' := [va_rf q15.1]) rfl ?_
    refine aw_dup dJ29_putTreeVal_98 (cat_rf _) ?_
    refine aw_astore (loc' := [some (.ref x0), some (va_rf r1), some (va_rf r2), some (.int x3), some (va_rf r4), some (va_rf r5), some (va_rf q15.1), some (.int x7), some (va_rf r8), some (va_rf r9), none, some (.int x11), some (va_rf r12), none, none, none]) dJ29_putTreeVal_99 (Nat.le_of_ble_eq_true rfl) (aIsR_rf _) (aset1_rf rfl) ?_
    generalize q15.1 = v9 at hq ⊢
    rcases v9 with _ | a17
    · replace hq := ocase_n hq
      refine xw_ifnullN (tgt := 119) dJ29_putTreeVal_101 (by decide) ?_
      exact hK119 q15.2 x0 r1 r2 x3 r4 r5 (none) x7 r8 r9 x11 r12 _ hq
    · replace hq := ocase_s hq
      refine xw_ifnullS (tgt := 119) dJ29_putTreeVal_101 (by decide) ?_
      exact p_x_J29_putTreeVal_104 g hst N _ _ _ hK27 hK119 hK221 q15.2 x0 r1 r2 x3 r4 r5 (some a17) x7 r8 r9 x11 r12 _ hq
  · replace hq := ocase_s hq
    refine xw_ifnonS (tgt := 104) dJ29_putTreeVal_90 (by decide) ?_
    exact p_x_J29_putTreeVal_104 g hst N _ _ _ hK27 hK119 hK221 h x0 r1 r2 x3 r4 r5 (some a14) x7 r8 r9 x11 r12 _ hq
def x_J29_putTreeVal_27 (g : AG) (N : Nat) (K119 : AH → Nat → Option Nat → Option Nat → Int32 → Option Nat → Option Nat → Option Nat → Int32 → Option Nat → Option Nat → Int32 → Option Nat → Option (Option Nat × AH)) (K221 : AH → Nat → Option Nat → Option Nat → Int32 → Option Nat → Option Nat → Option Nat → Int32 → Option Nat → Option Nat → Int32 → Int32 → Option Nat → Option (Option Nat × AH)) : Nat → AH → Nat → Option Nat → Option Nat → Int32 → Option Nat → Option Nat → Option Nat → Int32 → Option Nat → Option Nat → Option (Option Nat × AH)
  | 0, _, _, _, _, _, _, _, _, _, _, _ => none
  | n9 + 1, h, x0, r1, r2, x3, r4, r5, r6, x7, r8, r9 =>
  (r9).bind fun a4 => (rdI h a4 [(12, 2)]).bind fun i6 => if i6 ≤ x3 then (if x3 ≤ i6 then ((rdR h a4 [(12, 3)]).bind fun o10 => if o10 = r4 then (some ((some a4), h)) else (ocase r4 (x_J29_putTreeVal_88 g N (fun h x0 r1 r2 x3 r4 r5 r6 x7 r8 r9 => x_J29_putTreeVal_27 g N K119 K221 n9 h x0 r1 r2 x3 r4 r5 r6 x7 r8 r9) K119 K221 h x0 r1 r2 x3 (none) r5 r6 x7 r8 (some a4) i6 o10) (fun a13 => bif clB h a13 [17] then ((x_J13_equals g N h a13 o10).bind fun q32 => if q32.1 = 0 then (x_J29_putTreeVal_88 g N (fun h x0 r1 r2 x3 r4 r5 r6 x7 r8 r9 => x_J29_putTreeVal_27 g N K119 K221 n9 h x0 r1 r2 x3 r4 r5 r6 x7 r8 r9) K119 K221 q32.2 x0 r1 r2 x3 (some a13) r5 r6 x7 r8 (some a4) i6 o10) else (some ((some a4), q32.2))) else none))) else (x_J29_putTreeVal_193 g N (fun h x0 r1 r2 x3 r4 r5 r6 x7 r8 r9 => x_J29_putTreeVal_27 g N K119 K221 n9 h x0 r1 r2 x3 r4 r5 r6 x7 r8 r9) K119 K221 h x0 r1 r2 x3 r4 r5 r6 x7 r8 (some a4) (1 : Int32) i6)) else (x_J29_putTreeVal_193 g N (fun h x0 r1 r2 x3 r4 r5 r6 x7 r8 r9 => x_J29_putTreeVal_27 g N K119 K221 n9 h x0 r1 r2 x3 r4 r5 r6 x7 r8 r9) K119 K221 h x0 r1 r2 x3 r4 r5 r6 x7 r8 (some a4) (-1 : Int32) i6)
theorem p_x_J29_putTreeVal_27 (g : AG) (hst : (gL g).stackTraces = false) (N : Nat) (K119 : AH → Nat → Option Nat → Option Nat → Int32 → Option Nat → Option Nat → Option Nat → Int32 → Option Nat → Option Nat → Int32 → Option Nat → Option (Option Nat × AH)) (K221 : AH → Nat → Option Nat → Option Nat → Int32 → Option Nat → Option Nat → Option Nat → Int32 → Option Nat → Option Nat → Int32 → Int32 → Option Nat → Option (Option Nat × AH)) (hK119 : ∀ (h : AH) (x0 : Nat) (r1 : Option Nat) (r2 : Option Nat) (x3 : Int32) (r4 : Option Nat) (r5 : Option Nat) (r6 : Option Nat) (x7 : Int32) (r8 : Option Nat) (r9 : Option Nat) (x11 : Int32) (r12 : Option Nat) (q : (Option Nat × AH)), K119 h x0 r1 r2 x3 r4 r5 r6 x7 r8 r9 x11 r12 = some q → AW g YJ29_putTreeVal 111 (xR q) h [some (.ref x0), some (va_rf r1), some (va_rf r2), some (.int x3), some (va_rf r4), some (va_rf r5), some (va_rf r6), some (.int x7), some (va_rf r8), some (va_rf r9), none, some (.int x11), some (va_rf r12), none, none, none] 119 []) (hK221 : ∀ (h : AH) (x0 : Nat) (r1 : Option Nat) (r2 : Option Nat) (x3 : Int32) (r4 : Option Nat) (r5 : Option Nat) (r6 : Option Nat) (x7 : Int32) (r8 : Option Nat) (r9 : Option Nat) (x10 : Int32) (x11 : Int32) (r13 : Option Nat) (q : (Option Nat × AH)), K221 h x0 r1 r2 x3 r4 r5 r6 x7 r8 r9 x10 x11 r13 = some q → AW g YJ29_putTreeVal 111 (xR q) h [some (.ref x0), some (va_rf r1), some (va_rf r2), some (.int x3), some (va_rf r4), some (va_rf r5), some (va_rf r6), some (.int x7), some (va_rf r8), some (va_rf r9), some (.int x10), some (.int x11), none, some (va_rf r13), none, none] 221 []) : ∀ (n9 : Nat) (h : AH) (x0 : Nat) (r1 : Option Nat) (r2 : Option Nat) (x3 : Int32) (r4 : Option Nat) (r5 : Option Nat) (r6 : Option Nat) (x7 : Int32) (r8 : Option Nat) (r9 : Option Nat) (q : (Option Nat × AH)), x_J29_putTreeVal_27 g N K119 K221 n9 h x0 r1 r2 x3 r4 r5 r6 x7 r8 r9 = some q → AW g YJ29_putTreeVal 111 (xR q) h [some (.ref x0), some (va_rf r1), some (va_rf r2), some (.int x3), some (va_rf r4), some (va_rf r5), some (va_rf r6), some (.int x7), some (va_rf r8), some (va_rf r9), none, none, none, none, none, none] 27 [] := by
  intro n9
  induction n9 with
  | zero =>
    intro h x0 r1 r2 x3 r4 r5 r6 x7 r8 r9 q hq
    cases hq
  | succ n9 ih =>
    intro h x0 r1 r2 x3 r4 r5 r6 x7 r8 r9 q hq
    rw [x_J29_putTreeVal_27] at hq
    refine aw_aload dJ29_putTreeVal_27 rfl (aIsR_rf _) ?_
    replace hq := obind hq
    obtain ⟨a4, e5, hq⟩ := hq
    subst e5
    replace hq := obind hq
    obtain ⟨i6, e7, hq⟩ := hq
    refine xw_getI e7 fJ29_15 dJ29_putTreeVal_29 ?_
    refine aw_dup dJ29_putTreeVal_32 rfl ?_
    refine aw_istore (loc' := [some (.ref x0), some (va_rf r1), some (va_rf r2), some (.int x3), some (va_rf r4), some (va_rf r5), some (va_rf r6), some (.int x7), some (va_rf r8), some (.ref a4), none, some (.int i6), none, none, none, none]) dJ29_putTreeVal_33 (Nat.le_of_ble_eq_true rfl) rfl ?_
    refine aw_iload_n (i := 3) dJ29_putTreeVal_35 rfl rfl ?_
    refine aw_icmp_le (tgt := 45) dJ29_putTreeVal_36 (by decide) (fun c8 => ?_) (fun c8 => ?_)
    · rw [if_pos c8] at hq
      refine aw_iload dJ29_putTreeVal_45 rfl ?_
      refine aw_iload_n (i := 3) dJ29_putTreeVal_47 rfl rfl ?_
      refine aw_icmp_ge (tgt := 57) dJ29_putTreeVal_48 (by decide) (fun c9 => ?_) (fun c9 => ?_)
      · rw [if_pos c9] at hq
        refine aw_aload dJ29_putTreeVal_57 rfl trivial ?_
        replace hq := obind hq
        obtain ⟨o10, e11, hq⟩ := hq
        refine xw_getR e11 fJ29_45 dJ29_putTreeVal_59 ?_
        refine aw_dup dJ29_putTreeVal_62 (cat_rf _) ?_
        refine aw_astore (loc' := [some (.ref x0), some (va_rf r1), some (va_rf r2), some (.int x3), some (va_rf r4), some (va_rf r5), some (va_rf r6), some (.int x7), some (va_rf r8), some (.ref a4), none, some (.int i6), some (va_rf o10), none, none, none]) dJ29_putTreeVal_63 (Nat.le_of_ble_eq_true rfl) (aIsR_rf _) rfl ?_
        refine aw_aload dJ29_putTreeVal_65 rfl (aIsR_rf _) ?_
        refine xw_acmp_eq (v := o10) (w := r4) (tgt := 85) dJ29_putTreeVal_67 (by decide) (fun c12 => ?_) (fun c12 => ?_)
        · rw [if_pos c12] at hq
          refine aw_aload dJ29_putTreeVal_85 rfl trivial ?_
          cases hq
          exact aw_areturn dJ29_putTreeVal_87 rfl (Or.inl ⟨_, rfl⟩) trivial ⟨rfl, rfl⟩
        · rw [if_neg c12] at hq
          refine aw_aload dJ29_putTreeVal_70 rfl (aIsR_rf _) ?_
          rcases r4 with _ | a13
          · replace hq := ocase_n hq
            refine xw_ifnullN (tgt := 88) dJ29_putTreeVal_72 (by decide) ?_
            exact p_x_J29_putTreeVal_88 g hst N _ _ _ ih hK119 hK221 h x0 r1 r2 x3 (none) r5 r6 x7 r8 (some a4) i6 o10 _ hq
          · replace hq := ocase_s hq
            refine xw_ifnullS (tgt := 88) dJ29_putTreeVal_72 (by decide) ?_
            refine aw_aload dJ29_putTreeVal_75 rfl trivial ?_
            refine aw_aload dJ29_putTreeVal_77 rfl (aIsR_rf _) ?_
            replace hq := cond_t hq
            obtain ⟨z31, hq⟩ := hq
            obtain ⟨fs9, ha9⟩ := clB1 z31
            replace hq := obind hq
            obtain ⟨q32, e33, hq⟩ := hq
            refine aw_callO (Y2 := YJ13_equals) (As := [va_rf o10]) (rest := []) (r := (RJ13, TJ13, 4)) (x := ⟨"java/lang/Object", "equals", "(Ljava/lang/Object;)Z"⟩) (o := "java/lang/Object") kJ13_equals ha9 rfl ⟨by decide +kernel, by decide +kernel, by decide +kernel⟩ q1274 q1220 q1217 q1251 q1250 dJ29_putTreeVal_79 rfl rfl (ct_J13_equals g hst N h a13 o10 _ e33) (Nat.le_of_ble_eq_true rfl) (Nat.le_of_ble_eq_true rfl) (fun v9 h9 z9 y9 => ?_)
            obtain ⟨rfl, rfl⟩ := y9
            refine aw_st (st' := [.int q32.1]) rfl ?_
            refine aw_if_eq (tgt := 88) dJ29_putTreeVal_82 (by decide) (fun c34 => ?_) (fun c34 => ?_)
            · rw [if_pos c34] at hq
              exact p_x_J29_putTreeVal_88 g hst N _ _ _ ih hK119 hK221 q32.2 x0 r1 r2 x3 (some a13) r5 r6 x7 r8 (some a4) i6 o10 _ hq
            · rw [if_neg c34] at hq
              refine aw_aload dJ29_putTreeVal_85 rfl trivial ?_
              cases hq
              exact aw_areturn dJ29_putTreeVal_87 rfl (Or.inl ⟨_, rfl⟩) trivial ⟨rfl, rfl⟩
      · rw [if_neg c9] at hq
        refine aw_iconst (v := 1) dJ29_putTreeVal_51 (by decide) ?_
        refine aw_istore (loc' := [some (.ref x0), some (va_rf r1), some (va_rf r2), some (.int x3), some (va_rf r4), some (va_rf r5), some (va_rf r6), some (.int x7), some (va_rf r8), some (.ref a4), some (.int (1 : Int32)), some (.int i6), none, none, none, none]) dJ29_putTreeVal_52 (Nat.le_of_ble_eq_true rfl) rfl ?_
        refine aw_goto (tgt := 193) dJ29_putTreeVal_54 (by decide) ?_
        exact p_x_J29_putTreeVal_193 g hst N _ _ _ ih hK119 hK221 h x0 r1 r2 x3 r4 r5 r6 x7 r8 (some a4) (1 : Int32) i6 _ hq
    · rw [if_neg c8] at hq
      refine aw_iconst (v := (-1)) dJ29_putTreeVal_39 (by decide) ?_
      refine aw_istore (loc' := [some (.ref x0), some (va_rf r1), some (va_rf r2), some (.int x3), some (va_rf r4), some (va_rf r5), some (va_rf r6), some (.int x7), some (va_rf r8), some (.ref a4), some (.int (-1 : Int32)), some (.int i6), none, none, none, none]) dJ29_putTreeVal_40 (Nat.le_of_ble_eq_true rfl) rfl ?_
      refine aw_goto (tgt := 193) dJ29_putTreeVal_42 (by decide) ?_
      exact p_x_J29_putTreeVal_193 g hst N _ _ _ ih hK119 hK221 h x0 r1 r2 x3 r4 r5 r6 x7 r8 (some a4) (-1 : Int32) i6 _ hq
def x_J29_putTreeVal_154 (g : AG) (N : Nat) (h : AH) (x0 : Nat) (r1 : Option Nat) (r2 : Option Nat) (x3 : Int32) (r4 : Option Nat) (r5 : Option Nat) (r6 : Option Nat) (x7 : Int32) (r8 : Option Nat) (r9 : Option Nat) (x11 : Int32) (r12 : Option Nat) (r14 : Option Nat) : Option (Option Nat × AH) :=
  (r9).bind fun a41 => (rdR h a41 [(12, 8)]).bind fun o43 => ocase o43 (none) (fun a45 => bif clB h a45 [12] then ((x_J29_find g N h a45 x3 r4 r6).bind fun q47 => ocase q47.1 (none) (fun a49 => some ((some a49), q47.2))) else none)
theorem p_x_J29_putTreeVal_154 (g : AG) (hst : (gL g).stackTraces = false) (N : Nat) : ∀ (h : AH) (x0 : Nat) (r1 : Option Nat) (r2 : Option Nat) (x3 : Int32) (r4 : Option Nat) (r5 : Option Nat) (r6 : Option Nat) (x7 : Int32) (r8 : Option Nat) (r9 : Option Nat) (x11 : Int32) (r12 : Option Nat) (r14 : Option Nat) (q : (Option Nat × AH)), x_J29_putTreeVal_154 g N h x0 r1 r2 x3 r4 r5 r6 x7 r8 r9 x11 r12 r14 = some q → AW g YJ29_putTreeVal 111 (xR q) h [some (.ref x0), some (va_rf r1), some (va_rf r2), some (.int x3), some (va_rf r4), some (va_rf r5), some (va_rf r6), some (.int x7), some (va_rf r8), some (va_rf r9), none, some (.int x11), some (va_rf r12), none, some (va_rf r14), none] 154 [] := by
  intro h x0 r1 r2 x3 r4 r5 r6 x7 r8 r9 x11 r12 r14 q hq
  unfold x_J29_putTreeVal_154 at hq
  refine aw_aload dJ29_putTreeVal_154 rfl (aIsR_rf _) ?_
  replace hq := obind hq
  obtain ⟨a41, e42, hq⟩ := hq
  subst e42
  replace hq := obind hq
  obtain ⟨o43, e44, hq⟩ := hq
  refine xw_getR e44 fJ29_42 dJ29_putTreeVal_156 ?_
  refine aw_dup dJ29_putTreeVal_159 (cat_rf _) ?_
  refine aw_astore (loc' := [some (.ref x0), some (va_rf r1), some (va_rf r2), some (.int x3), some (va_rf r4), some (va_rf r5), some (va_rf r6), some (.int x7), some (va_rf r8), some (.ref a41), none, some (.int x11), some (va_rf r12), none, some (va_rf o43), none]) dJ29_putTreeVal_160 (Nat.le_of_ble_eq_true rfl) (aIsR_rf _) rfl ?_
  rcases o43 with _ | a45
  · replace hq := ocase_n hq
    refine xw_ifnullN (tgt := 184) dJ29_putTreeVal_162 (by decide) ?_
    refine aw_aload dJ29_putTreeVal_184 rfl (aIsR_rf _) ?_
    refine aw_aload dJ29_putTreeVal_186 rfl (aIsR_rf _) ?_
    cases hq
  · replace hq := ocase_s hq
    refine xw_ifnullS (tgt := 184) dJ29_putTreeVal_162 (by decide) ?_
    refine aw_aload dJ29_putTreeVal_165 rfl trivial ?_
    refine aw_iload_n (i := 3) dJ29_putTreeVal_167 rfl rfl ?_
    refine aw_aload dJ29_putTreeVal_168 rfl (aIsR_rf _) ?_
    refine aw_aload dJ29_putTreeVal_170 rfl (aIsR_rf _) ?_
    replace hq := cond_t hq
    obtain ⟨z46, hq⟩ := hq
    obtain ⟨fs9, ha9⟩ := clB1 z46
    replace hq := obind hq
    obtain ⟨q47, e48, hq⟩ := hq
    refine aw_callV (Y2 := YJ29_find) (As := [.int x3, va_rf r4, va_rf r6]) (rest := []) (r := (RJ29, TJ29, 11)) kJ29_find ha9 rfl rfl q1270 q1271 q1272 dJ29_putTreeVal_172 rfl rfl (ct_J29_find g hst N h a45 x3 r4 r6 _ e48) (Nat.le_of_ble_eq_true rfl) (Nat.le_of_ble_eq_true rfl) (fun v9 h9 z9 y9 => ?_)
    obtain ⟨rfl, rfl⟩ := y9
    refine aw_st (st' := [va_rf q47.1]) rfl ?_
    refine aw_dup dJ29_putTreeVal_175 (cat_rf _) ?_
    refine aw_astore (loc' := [some (.ref x0), some (va_rf r1), some (va_rf r2), some (.int x3), some (va_rf r4), some (va_rf r5), some (va_rf r6), some (.int x7), some (va_rf r8), some (.ref a41), none, some (.int x11), some (va_rf r12), some (va_rf q47.1), some (.ref a45), none]) dJ29_putTreeVal_176 (Nat.le_of_ble_eq_true rfl) (aIsR_rf _) (aset1_rf rfl) ?_
    generalize q47.1 = v9 at hq ⊢
    rcases v9 with _ | a49
    · replace hq := ocase_n hq
      refine xw_ifnullN (tgt := 184) dJ29_putTreeVal_178 (by decide) ?_
      refine aw_aload dJ29_putTreeVal_184 rfl (aIsR_rf _) ?_
      refine aw_aload dJ29_putTreeVal_186 rfl (aIsR_rf _) ?_
      cases hq
    · replace hq := ocase_s hq
      refine xw_ifnullS (tgt := 184) dJ29_putTreeVal_178 (by decide) ?_
      refine aw_aload dJ29_putTreeVal_181 rfl trivial ?_
      cases hq
      exact aw_areturn dJ29_putTreeVal_183 rfl (Or.inl ⟨_, rfl⟩) trivial ⟨rfl, rfl⟩
def x_J29_putTreeVal_119 (g : AG) (N : Nat) (h : AH) (x0 : Nat) (r1 : Option Nat) (r2 : Option Nat) (x3 : Int32) (r4 : Option Nat) (r5 : Option Nat) (r6 : Option Nat) (x7 : Int32) (r8 : Option Nat) (r9 : Option Nat) (x11 : Int32) (r12 : Option Nat) : Option (Option Nat × AH) :=
  if x7 = 0 then ((r9).bind fun a36 => (rdR h a36 [(12, 7)]).bind fun o38 => ocase o38 (x_J29_putTreeVal_154 g N  h x0 r1 r2 x3 r4 r5 r6 (1 : Int32) r8 (some a36) x11 r12 (none)) (fun a40 => bif clB h a40 [12] then ((x_J29_find g N h a40 x3 r4 r6).bind fun q51 => ocase q51.1 (x_J29_putTreeVal_154 g N  q51.2 x0 r1 r2 x3 r4 r5 r6 (1 : Int32) r8 (some a36) x11 r12 (some a40)) (fun a53 => some ((some a53), q51.2))) else none)) else (none)
theorem p_x_J29_putTreeVal_119 (g : AG) (hst : (gL g).stackTraces = false) (N : Nat) : ∀ (h : AH) (x0 : Nat) (r1 : Option Nat) (r2 : Option Nat) (x3 : Int32) (r4 : Option Nat) (r5 : Option Nat) (r6 : Option Nat) (x7 : Int32) (r8 : Option Nat) (r9 : Option Nat) (x11 : Int32) (r12 : Option Nat) (q : (Option Nat × AH)), x_J29_putTreeVal_119 g N h x0 r1 r2 x3 r4 r5 r6 x7 r8 r9 x11 r12 = some q → AW g YJ29_putTreeVal 111 (xR q) h [some (.ref x0), some (va_rf r1), some (va_rf r2), some (.int x3), some (va_rf r4), some (va_rf r5), some (va_rf r6), some (.int x7), some (va_rf r8), some (va_rf r9), none, some (.int x11), some (va_rf r12), none, none, none] 119 [] := by
  intro h x0 r1 r2 x3 r4 r5 r6 x7 r8 r9 x11 r12 q hq
  unfold x_J29_putTreeVal_119 at hq
  refine aw_iload dJ29_putTreeVal_119 rfl ?_
  refine aw_if_ne (tgt := 184) dJ29_putTreeVal_121 (by decide) (fun c35 => ?_) (fun c35 => ?_)
  · rw [if_neg c35] at hq
    refine aw_aload dJ29_putTreeVal_184 rfl (aIsR_rf _) ?_
    refine aw_aload dJ29_putTreeVal_186 rfl (aIsR_rf _) ?_
    cases hq
  · rw [if_pos c35] at hq
    refine aw_iconst (v := 1) dJ29_putTreeVal_124 (by decide) ?_
    refine aw_istore (loc' := [some (.ref x0), some (va_rf r1), some (va_rf r2), some (.int x3), some (va_rf r4), some (va_rf r5), some (va_rf r6), some (.int (1 : Int32)), some (va_rf r8), some (va_rf r9), none, some (.int x11), some (va_rf r12), none, none, none]) dJ29_putTreeVal_125 (Nat.le_of_ble_eq_true rfl) (aset1_rf rfl) ?_
    refine aw_aload dJ29_putTreeVal_127 rfl (aIsR_rf _) ?_
    replace hq := obind hq
    obtain ⟨a36, e37, hq⟩ := hq
    subst e37
    replace hq := obind hq
    obtain ⟨o38, e39, hq⟩ := hq
    refine xw_getR e39 fJ29_39 dJ29_putTreeVal_129 ?_
    refine aw_dup dJ29_putTreeVal_132 (cat_rf _) ?_
    refine aw_astore (loc' := [some (.ref x0), some (va_rf r1), some (va_rf r2), some (.int x3), some (va_rf r4), some (va_rf r5), some (va_rf r6), some (.int (1 : Int32)), some (va_rf r8), some (.ref a36), none, some (.int x11), some (va_rf r12), none, some (va_rf o38), none]) dJ29_putTreeVal_133 (Nat.le_of_ble_eq_true rfl) (aIsR_rf _) rfl ?_
    rcases o38 with _ | a40
    · replace hq := ocase_n hq
      refine xw_ifnullN (tgt := 154) dJ29_putTreeVal_135 (by decide) ?_
      exact p_x_J29_putTreeVal_154 g hst N   h x0 r1 r2 x3 r4 r5 r6 (1 : Int32) r8 (some a36) x11 r12 (none) _ hq
    · replace hq := ocase_s hq
      refine xw_ifnullS (tgt := 154) dJ29_putTreeVal_135 (by decide) ?_
      refine aw_aload dJ29_putTreeVal_138 rfl trivial ?_
      refine aw_iload_n (i := 3) dJ29_putTreeVal_140 rfl rfl ?_
      refine aw_aload dJ29_putTreeVal_141 rfl (aIsR_rf _) ?_
      refine aw_aload dJ29_putTreeVal_143 rfl (aIsR_rf _) ?_
      replace hq := cond_t hq
      obtain ⟨z50, hq⟩ := hq
      obtain ⟨fs9, ha9⟩ := clB1 z50
      replace hq := obind hq
      obtain ⟨q51, e52, hq⟩ := hq
      refine aw_callV (Y2 := YJ29_find) (As := [.int x3, va_rf r4, va_rf r6]) (rest := []) (r := (RJ29, TJ29, 11)) kJ29_find ha9 rfl rfl q1270 q1271 q1272 dJ29_putTreeVal_145 rfl rfl (ct_J29_find g hst N h a40 x3 r4 r6 _ e52) (Nat.le_of_ble_eq_true rfl) (Nat.le_of_ble_eq_true rfl) (fun v9 h9 z9 y9 => ?_)
      obtain ⟨rfl, rfl⟩ := y9
      refine aw_st (st' := [va_rf q51.1]) rfl ?_
      refine aw_dup dJ29_putTreeVal_148 (cat_rf _) ?_
      refine aw_astore (loc' := [some (.ref x0), some (va_rf r1), some (va_rf r2), some (.int x3), some (va_rf r4), some (va_rf r5), some (va_rf r6), some (.int (1 : Int32)), some (va_rf r8), some (.ref a36), none, some (.int x11), some (va_rf r12), some (va_rf q51.1), some (.ref a40), none]) dJ29_putTreeVal_149 (Nat.le_of_ble_eq_true rfl) (aIsR_rf _) (aset1_rf rfl) ?_
      generalize q51.1 = v9 at hq ⊢
      rcases v9 with _ | a53
      · replace hq := ocase_n hq
        refine xw_ifnonN (tgt := 181) dJ29_putTreeVal_151 (by decide) ?_
        refine aw_subl (loc' := [some (.ref x0), some (va_rf r1), some (va_rf r2), some (.int x3), some (va_rf r4), some (va_rf r5), some (va_rf r6), some (.int (1 : Int32)), some (va_rf r8), some (.ref a36), none, some (.int x11), some (va_rf r12), none, some (.ref a40), none]) ⟨Or.inr rfl, Or.inr rfl, Or.inr rfl, Or.inr rfl, Or.inr rfl, Or.inr rfl, Or.inr rfl, Or.inr rfl, Or.inr rfl, Or.inr rfl, Or.inl rfl, Or.inr rfl, Or.inr rfl, Or.inl rfl, Or.inr rfl, Or.inl rfl, trivial⟩ ?_
        exact p_x_J29_putTreeVal_154 g hst N   q51.2 x0 r1 r2 x3 r4 r5 r6 (1 : Int32) r8 (some a36) x11 r12 (some a40) _ hq
      · replace hq := ocase_s hq
        refine xw_ifnonS (tgt := 181) dJ29_putTreeVal_151 (by decide) ?_
        refine aw_aload dJ29_putTreeVal_181 rfl trivial ?_
        cases hq
        exact aw_areturn dJ29_putTreeVal_183 rfl (Or.inl ⟨_, rfl⟩) trivial ⟨rfl, rfl⟩
def x_J29_putTreeVal_298 (g : AG) (N : Nat) (h : AH) (x0 : Nat) (r1 : Option Nat) (r2 : Option Nat) (x3 : Int32) (r4 : Option Nat) (r5 : Option Nat) (r6 : Option Nat) (x7 : Int32) (r8 : Option Nat) (r9 : Option Nat) (x10 : Int32) (x11 : Int32) (r13 : Option Nat) (r14 : Option Nat) (r15 : Option Nat) : Option (Option Nat × AH) :=
  (x_J29_balanceInsertion g N h r8 r15).bind fun q77 => (x_J29_moveRootToFront g N q77.2 r2 q77.1).bind fun q79 => some ((none), q79)
theorem p_x_J29_putTreeVal_298 (g : AG) (hst : (gL g).stackTraces = false) (N : Nat) : ∀ (h : AH) (x0 : Nat) (r1 : Option Nat) (r2 : Option Nat) (x3 : Int32) (r4 : Option Nat) (r5 : Option Nat) (r6 : Option Nat) (x7 : Int32) (r8 : Option Nat) (r9 : Option Nat) (x10 : Int32) (x11 : Int32) (r13 : Option Nat) (r14 : Option Nat) (r15 : Option Nat) (q : (Option Nat × AH)), x_J29_putTreeVal_298 g N h x0 r1 r2 x3 r4 r5 r6 x7 r8 r9 x10 x11 r13 r14 r15 = some q → AW g YJ29_putTreeVal 111 (xR q) h [some (.ref x0), some (va_rf r1), some (va_rf r2), some (.int x3), some (va_rf r4), some (va_rf r5), some (va_rf r6), some (.int x7), some (va_rf r8), some (va_rf r9), some (.int x10), some (.int x11), none, some (va_rf r13), some (va_rf r14), some (va_rf r15)] 298 [] := by
  intro h x0 r1 r2 x3 r4 r5 r6 x7 r8 r9 x10 x11 r13 r14 r15 q hq
  unfold x_J29_putTreeVal_298 at hq
  refine aw_aload_n (i := 2) dJ29_putTreeVal_298 rfl rfl (aIsR_rf _) ?_
  refine aw_aload dJ29_putTreeVal_299 rfl (aIsR_rf _) ?_
  refine aw_aload dJ29_putTreeVal_301 rfl (aIsR_rf _) ?_
  replace hq := obind hq
  obtain ⟨q77, e78, hq⟩ := hq
  refine aw_callS (Y2 := YJ29_balanceInsertion) (As := [va_rf r8, va_rf r15]) (rest := [va_rf r2]) kJ29_balanceInsertion q1592 q1593 dJ29_putTreeVal_303 rfl rfl (ct_J29_balanceInsertion g hst N h r8 r15 _ e78) (Nat.le_of_ble_eq_true rfl) (by simp only [List.map_cons, List.map_nil, List.sum_cons, List.sum_nil, cat_rf]; exact Nat.le_of_ble_eq_true rfl) (fun v9 h9 z9 y9 => ?_)
  obtain ⟨rfl, rfl⟩ := y9
  refine aw_st (st' := [va_rf q77.1, va_rf r2]) rfl ?_
  replace hq := obind hq
  obtain ⟨q79, e80, hq⟩ := hq
  refine aw_callS (Y2 := YJ29_moveRootToFront) (As := [va_rf r2, va_rf q77.1]) (rest := []) kJ29_moveRootToFront q1601 q1602 dJ29_putTreeVal_306 rfl rfl (ct_J29_moveRootToFront g hst N q77.2 r2 q77.1 _ e80) (Nat.le_of_ble_eq_true rfl) (Nat.le_of_ble_eq_true rfl) (fun v9 h9 z9 y9 => ?_)
  obtain ⟨rfl, y9⟩ := y9
  rw [y9]
  refine aw_st (st' := []) rfl ?_
  refine aw_null dJ29_putTreeVal_309 ?_
  cases hq
  exact aw_areturn dJ29_putTreeVal_310 rfl (Or.inl ⟨_, rfl⟩) trivial ⟨rfl, rfl⟩
def x_J29_putTreeVal_263 (g : AG) (N : Nat) (h : AH) (x0 : Nat) (r1 : Option Nat) (r2 : Option Nat) (x3 : Int32) (r4 : Option Nat) (r5 : Option Nat) (r6 : Option Nat) (x7 : Int32) (r8 : Option Nat) (r9 : Option Nat) (x10 : Int32) (x11 : Int32) (r13 : Option Nat) (r14 : Option Nat) (r15 : Option Nat) : Option (Option Nat × AH) :=
  (r13).bind fun a66 => (wrV g h a66 [(12, 5)] (va_rf r15)).bind fun h68 => (r15).bind fun a70 => (wrV g h68 a70 [(12, 9)] (.ref a66)).bind fun h72 => (wrV g h72 a70 [(12, 6)] (.ref a66)).bind fun h74 => ocase r14 (x_J29_putTreeVal_298 g N  h74 x0 r1 r2 x3 r4 r5 r6 x7 r8 r9 x10 x11 (some a66) (none) (some a70)) (fun a76 => bif casB h74 (some a76) [12] then ((wrV g h74 a76 [(12, 9)] (.ref a70)).bind fun h82 => x_J29_putTreeVal_298 g N  h82 x0 r1 r2 x3 r4 r5 r6 x7 r8 r9 x10 x11 (some a66) (some a76) (some a70)) else none)
theorem p_x_J29_putTreeVal_263 (g : AG) (hst : (gL g).stackTraces = false) (N : Nat) : ∀ (h : AH) (x0 : Nat) (r1 : Option Nat) (r2 : Option Nat) (x3 : Int32) (r4 : Option Nat) (r5 : Option Nat) (r6 : Option Nat) (x7 : Int32) (r8 : Option Nat) (r9 : Option Nat) (x10 : Int32) (x11 : Int32) (r13 : Option Nat) (r14 : Option Nat) (r15 : Option Nat) (q : (Option Nat × AH)), x_J29_putTreeVal_263 g N h x0 r1 r2 x3 r4 r5 r6 x7 r8 r9 x10 x11 r13 r14 r15 = some q → AW g YJ29_putTreeVal 111 (xR q) h [some (.ref x0), some (va_rf r1), some (va_rf r2), some (.int x3), some (va_rf r4), some (va_rf r5), some (va_rf r6), some (.int x7), some (va_rf r8), some (va_rf r9), some (.int x10), some (.int x11), none, some (va_rf r13), some (va_rf r14), some (va_rf r15)] 263 [] := by
  intro h x0 r1 r2 x3 r4 r5 r6 x7 r8 r9 x10 x11 r13 r14 r15 q hq
  unfold x_J29_putTreeVal_263 at hq
  refine aw_aload dJ29_putTreeVal_263 rfl (aIsR_rf _) ?_
  refine aw_aload dJ29_putTreeVal_265 rfl (aIsR_rf _) ?_
  replace hq := obind hq
  obtain ⟨a66, e67, hq⟩ := hq
  subst e67
  replace hq := obind hq
  obtain ⟨h68, e69, hq⟩ := hq
  refine xw_put e69 fJ29_22 tJ29_5 (fits_rf _ r15) dJ29_putTreeVal_267 ?_
  refine aw_aload dJ29_putTreeVal_270 rfl (aIsR_rf _) ?_
  refine aw_aload dJ29_putTreeVal_272 rfl (aIsR_rf _) ?_
  refine aw_aload dJ29_putTreeVal_274 rfl trivial ?_
  refine aw_dup_x1 dJ29_putTreeVal_276 rfl (cat_rf _) ?_
  replace hq := obind hq
  obtain ⟨a70, e71, hq⟩ := hq
  subst e71
  replace hq := obind hq
  obtain ⟨h72, e73, hq⟩ := hq
  refine xw_put e73 fJ29_19 tJ29_9 (fits_rf _ (some a66)) dJ29_putTreeVal_277 ?_
  replace hq := obind hq
  obtain ⟨h74, e75, hq⟩ := hq
  refine xw_put e75 fJ29_9 tJ29_6 (fits_rf _ (some a66)) dJ29_putTreeVal_280 ?_
  refine aw_aload dJ29_putTreeVal_283 rfl (aIsR_rf _) ?_
  rcases r14 with _ | a76
  · replace hq := ocase_n hq
    refine xw_ifnullN (tgt := 298) dJ29_putTreeVal_285 (by decide) ?_
    exact p_x_J29_putTreeVal_298 g hst N   h74 x0 r1 r2 x3 r4 r5 r6 x7 r8 r9 x10 x11 (some a66) (none) (some a70) _ hq
  · replace hq := ocase_s hq
    refine xw_ifnullS (tgt := 298) dJ29_putTreeVal_285 (by decide) ?_
    refine aw_aload dJ29_putTreeVal_288 rfl trivial ?_
    replace hq := cond_t hq
    obtain ⟨z81, hq⟩ := hq
    refine xw_cast (r := (some a76)) z81 q1549 casjava_util_HashMap_TreeNode dJ29_putTreeVal_290 ?_
    refine aw_aload dJ29_putTreeVal_293 rfl trivial ?_
    replace hq := obind hq
    obtain ⟨h82, e83, hq⟩ := hq
    refine xw_put e83 fJ29_19 tJ29_9 (fits_rf _ (some a70)) dJ29_putTreeVal_295 ?_
    exact p_x_J29_putTreeVal_298 g hst N   h82 x0 r1 r2 x3 r4 r5 r6 x7 r8 r9 x10 x11 (some a66) (some a76) (some a70) _ hq
def x_J29_putTreeVal_21 (g : AG) (N : Nat) (h : AH) (x0 : Nat) (r1 : Option Nat) (r2 : Option Nat) (x3 : Int32) (r4 : Option Nat) (r5 : Option Nat) (r6 : Option Nat) (x7 : Int32) (t0 : Option Nat) : Option (Option Nat × AH) :=
  x_J29_putTreeVal_27 g N (fun h x0 r1 r2 x3 r4 r5 r6 x7 r8 r9 x11 r12 => x_J29_putTreeVal_119 g N  h x0 r1 r2 x3 r4 r5 r6 x7 r8 r9 x11 r12) (fun h x0 r1 r2 x3 r4 r5 r6 x7 r8 r9 x10 x11 r13 => (r13).bind fun a54 => (rdR h a54 [(12, 5)]).bind fun o56 => (r1).bind fun a58 => bif clB h a58 [10] then ((x_J1_newTreeNode g N h a58 x3 r4 r5 o56).bind fun q61 => if 0 < x10 then ((wrV g q61.2 a54 [(12, 8)] (va_rf q61.1)).bind fun h64 => x_J29_putTreeVal_263 g N  h64 x0 (some a58) r2 x3 r4 r5 r6 x7 r8 r9 x10 x11 (some a54) o56 q61.1) else ((wrV g q61.2 a54 [(12, 7)] (va_rf q61.1)).bind fun h84 => x_J29_putTreeVal_263 g N  h84 x0 (some a58) r2 x3 r4 r5 r6 x7 r8 r9 x10 x11 (some a54) o56 q61.1)) else none) N h x0 r1 r2 x3 r4 r5 r6 x7 t0 t0
theorem p_x_J29_putTreeVal_21 (g : AG) (hst : (gL g).stackTraces = false) (N : Nat) : ∀ (h : AH) (x0 : Nat) (r1 : Option Nat) (r2 : Option Nat) (x3 : Int32) (r4 : Option Nat) (r5 : Option Nat) (r6 : Option Nat) (x7 : Int32) (t0 : Option Nat) (q : (Option Nat × AH)), x_J29_putTreeVal_21 g N h x0 r1 r2 x3 r4 r5 r6 x7 t0 = some q → AW g YJ29_putTreeVal 111 (xR q) h [some (.ref x0), some (va_rf r1), some (va_rf r2), some (.int x3), some (va_rf r4), some (va_rf r5), some (va_rf r6), some (.int x7), none, none, none, none, none, none, none, none] 21 [va_rf t0] := by
  intro h x0 r1 r2 x3 r4 r5 r6 x7 t0 q hq
  unfold x_J29_putTreeVal_21 at hq
  refine aw_astore (loc' := [some (.ref x0), some (va_rf r1), some (va_rf r2), some (.int x3), some (va_rf r4), some (va_rf r5), some (va_rf r6), some (.int x7), some (va_rf t0), none, none, none, none, none, none, none]) dJ29_putTreeVal_21 (Nat.le_of_ble_eq_true rfl) (aIsR_rf _) rfl ?_
  refine aw_aload dJ29_putTreeVal_23 rfl (aIsR_rf _) ?_
  refine aw_astore (loc' := [some (.ref x0), some (va_rf r1), some (va_rf r2), some (.int x3), some (va_rf r4), some (va_rf r5), some (va_rf r6), some (.int x7), some (va_rf t0), some (va_rf t0), none, none, none, none, none, none]) dJ29_putTreeVal_25 (Nat.le_of_ble_eq_true rfl) (aIsR_rf _) (aset1_rf rfl) ?_
  refine p_x_J29_putTreeVal_27 g hst N _ _ ?_ ?_ N h x0 r1 r2 x3 r4 r5 r6 x7 t0 t0 _ hq
  · intro h x0 r1 r2 x3 r4 r5 r6 x7 r8 r9 x11 r12 q hq
    exact p_x_J29_putTreeVal_119 g hst N   h x0 r1 r2 x3 r4 r5 r6 x7 r8 r9 x11 r12 _ hq
  · intro h x0 r1 r2 x3 r4 r5 r6 x7 r8 r9 x10 x11 r13 q hq
    refine aw_aload dJ29_putTreeVal_221 rfl (aIsR_rf _) ?_
    replace hq := obind hq
    obtain ⟨a54, e55, hq⟩ := hq
    subst e55
    replace hq := obind hq
    obtain ⟨o56, e57, hq⟩ := hq
    refine xw_getR e57 fJ29_22 dJ29_putTreeVal_223 ?_
    refine aw_astore (loc' := [some (.ref x0), some (va_rf r1), some (va_rf r2), some (.int x3), some (va_rf r4), some (va_rf r5), some (va_rf r6), some (.int x7), some (va_rf r8), some (va_rf r9), some (.int x10), some (.int x11), none, some (.ref a54), some (va_rf o56), none]) dJ29_putTreeVal_226 (Nat.le_of_ble_eq_true rfl) (aIsR_rf _) rfl ?_
    refine aw_aload_n (i := 1) dJ29_putTreeVal_228 rfl rfl (aIsR_rf _) ?_
    refine aw_iload_n (i := 3) dJ29_putTreeVal_229 rfl rfl ?_
    refine aw_aload dJ29_putTreeVal_230 rfl (aIsR_rf _) ?_
    refine aw_aload dJ29_putTreeVal_232 rfl (aIsR_rf _) ?_
    refine aw_aload dJ29_putTreeVal_234 rfl (aIsR_rf _) ?_
    replace hq := obind hq
    obtain ⟨a58, e59, hq⟩ := hq
    subst e59
    replace hq := cond_t hq
    obtain ⟨z60, hq⟩ := hq
    obtain ⟨fs9, ha9⟩ := clB1 z60
    replace hq := obind hq
    obtain ⟨q61, e62, hq⟩ := hq
    refine aw_callV (Y2 := YJ1_newTreeNode) (As := [.int x3, va_rf r4, va_rf r5, va_rf o56]) (rest := []) (r := (RJ1, TJ1, 8)) kJ1_newTreeNode ha9 rfl rfl q1614 q1615 q1616 dJ29_putTreeVal_236 rfl rfl (ct_J1_newTreeNode g hst N h a58 x3 r4 r5 o56 _ e62) (Nat.le_of_ble_eq_true rfl) (Nat.le_of_ble_eq_true rfl) (fun v9 h9 z9 y9 => ?_)
    obtain ⟨rfl, rfl⟩ := y9
    refine aw_st (st' := [va_rf q61.1]) rfl ?_
    refine aw_astore (loc' := [some (.ref x0), some (.ref a58), some (va_rf r2), some (.int x3), some (va_rf r4), some (va_rf r5), some (va_rf r6), some (.int x7), some (va_rf r8), some (va_rf r9), some (.int x10), some (.int x11), none, some (.ref a54), some (va_rf o56), some (va_rf q61.1)]) dJ29_putTreeVal_239 (Nat.le_of_ble_eq_true rfl) (aIsR_rf _) (aset1_rf rfl) ?_
    refine aw_iload dJ29_putTreeVal_241 rfl ?_
    refine aw_if_gt (tgt := 256) dJ29_putTreeVal_243 (by decide) (fun c63 => ?_) (fun c63 => ?_)
    · rw [if_pos c63] at hq
      refine aw_aload dJ29_putTreeVal_256 rfl trivial ?_
      refine aw_aload dJ29_putTreeVal_258 rfl (aIsR_rf _) ?_
      replace hq := obind hq
      obtain ⟨h64, e65, hq⟩ := hq
      refine xw_put e65 fJ29_42 tJ29_8 (fits_rf _ q61.1) dJ29_putTreeVal_260 ?_
      exact p_x_J29_putTreeVal_263 g hst N   h64 x0 (some a58) r2 x3 r4 r5 r6 x7 r8 r9 x10 x11 (some a54) o56 q61.1 _ hq
    · rw [if_neg c63] at hq
      refine aw_aload dJ29_putTreeVal_246 rfl trivial ?_
      refine aw_aload dJ29_putTreeVal_248 rfl (aIsR_rf _) ?_
      replace hq := obind hq
      obtain ⟨h84, e85, hq⟩ := hq
      refine xw_put e85 fJ29_39 tJ29_7 (fits_rf _ q61.1) dJ29_putTreeVal_250 ?_
      refine aw_goto (tgt := 263) dJ29_putTreeVal_253 (by decide) ?_
      exact p_x_J29_putTreeVal_263 g hst N   h84 x0 (some a58) r2 x3 r4 r5 r6 x7 r8 r9 x10 x11 (some a54) o56 q61.1 _ hq
def x_J29_putTreeVal (g : AG) (N : Nat) (h : AH) (x0 : Nat) (r1 : Option Nat) (r2 : Option Nat) (x3 : Int32) (r4 : Option Nat) (r5 : Option Nat) : Option (Option Nat × AH) :=
  (rdR h x0 [(12, 6)]).bind fun o1 => ocase o1 (x_J29_putTreeVal_21 g N  h x0 r1 r2 x3 r4 r5 (none) (0 : Int32) (some x0)) (fun a3 => bif clB h x0 [12] then ((x_J29_root g N h x0).bind fun q87 => x_J29_putTreeVal_21 g N  q87.2 x0 r1 r2 x3 r4 r5 (none) (0 : Int32) q87.1) else none)
theorem ct_J29_putTreeVal (g : AG) (hst : (gL g).stackTraces = false) (N : Nat) : ∀ (h : AH) (x0 : Nat) (r1 : Option Nat) (r2 : Option Nat) (x3 : Int32) (r4 : Option Nat) (r5 : Option Nat) (q : (Option Nat × AH)), x_J29_putTreeVal g N h x0 r1 r2 x3 r4 r5 = some q → CT g YJ29_putTreeVal 111 [.ref x0, va_rf r1, va_rf r2, .int x3, va_rf r4, va_rf r5] h (xR q) := by
  intro h x0 r1 r2 x3 r4 r5 q hq
  refine CT.of rfl (by decide +kernel) (loc := [some (.ref x0), some (va_rf r1), some (va_rf r2), some (.int x3), some (va_rf r4), some (va_rf r5), none, none, none, none, none, none, none, none, none, none]) (by first | exact Nat.le_of_ble_eq_true rfl | (simp only [lgl_rf, lgl_i, lgl_j, lgl_ref, lgl_nil]; exact Nat.le_of_ble_eq_true rfl)) (by first | rfl | (simp only [aent_rf, aent_i, aent_j, aent_ref, aent_nil]; rfl)) ?_
  unfold x_J29_putTreeVal at hq
  refine aw_null dJ29_putTreeVal_0 ?_
  refine aw_astore (loc' := [some (.ref x0), some (va_rf r1), some (va_rf r2), some (.int x3), some (va_rf r4), some (va_rf r5), some (.null), none, none, none, none, none, none, none, none, none]) dJ29_putTreeVal_1 (Nat.le_of_ble_eq_true rfl) trivial (aset1_rf rfl) ?_
  refine aw_iconst (v := 0) dJ29_putTreeVal_3 (by decide) ?_
  refine aw_istore (loc' := [some (.ref x0), some (va_rf r1), some (va_rf r2), some (.int x3), some (va_rf r4), some (va_rf r5), some (.null), some (.int (0 : Int32)), none, none, none, none, none, none, none, none]) dJ29_putTreeVal_4 (Nat.le_of_ble_eq_true rfl) rfl ?_
  refine aw_aload_n (i := 0) dJ29_putTreeVal_6 rfl rfl trivial ?_
  replace hq := obind hq
  obtain ⟨o1, e2, hq⟩ := hq
  refine xw_getR e2 fJ29_9 dJ29_putTreeVal_7 ?_
  rcases o1 with _ | a3
  · replace hq := ocase_n hq
    refine xw_ifnullN (tgt := 20) dJ29_putTreeVal_10 (by decide) ?_
    refine aw_aload_n (i := 0) dJ29_putTreeVal_20 rfl rfl trivial ?_
    exact p_x_J29_putTreeVal_21 g hst N   h x0 r1 r2 x3 r4 r5 (none) (0 : Int32) (some x0) _ hq
  · replace hq := ocase_s hq
    refine xw_ifnullS (tgt := 20) dJ29_putTreeVal_10 (by decide) ?_
    refine aw_aload_n (i := 0) dJ29_putTreeVal_13 rfl rfl trivial ?_
    replace hq := cond_t hq
    obtain ⟨z86, hq⟩ := hq
    obtain ⟨fs9, ha9⟩ := clB1 z86
    replace hq := obind hq
    obtain ⟨q87, e88, hq⟩ := hq
    refine aw_callV (Y2 := YJ29_root) (As := []) (rest := []) (r := (RJ29, TJ29, 11)) kJ29_root ha9 rfl rfl q1266 q1267 q1268 dJ29_putTreeVal_14 rfl rfl (ct_J29_root g hst N h x0 _ e88) (Nat.le_of_ble_eq_true rfl) (Nat.le_of_ble_eq_true rfl) (fun v9 h9 z9 y9 => ?_)
    obtain ⟨rfl, rfl⟩ := y9
    refine aw_st (st' := [va_rf q87.1]) rfl ?_
    refine aw_goto (tgt := 21) dJ29_putTreeVal_17 (by decide) ?_
    exact p_x_J29_putTreeVal_21 g hst N   q87.2 x0 r1 r2 x3 r4 r5 (none) (0 : Int32) q87.1 _ hq
abbrev YJ1_replacementTreeNode : YC := (yJ1_replacementTreeNode, cJ1_replacementTreeNode, 3, (some (.object "java/util/HashMap$TreeNode")), [])
theorem kJ1_replacementTreeNode : aMk YJ1_replacementTreeNode 2 := ⟨rfl, q1658, q120, ⟨by decide +kernel, by decide +kernel, by decide +kernel⟩, Nat.le_of_ble_eq_true rfl⟩
def x_J1_replacementTreeNode (g : AG) (N : Nat) (h : AH) (x0 : Nat) (r1 : Option Nat) (r2 : Option Nat) : Option (Option Nat × AH) :=
  (mkO g h 11 12 [.null, .null, .int 0, .null, .null, .null, .null, .null, .null, .null, .int 0]).bind fun h1 => (r1).bind fun a3 => (rdI h1 a3 [(11, 0), (12, 2)]).bind fun i5 => (rdR h1 a3 [(11, 1), (12, 3)]).bind fun o7 => (rdR h1 a3 [(11, 2), (12, 4)]).bind fun o9 => (x_J29_init g N h1 h.2.1 i5 o7 o9 r2).bind fun q11 => some ((some h.2.1), q11)
theorem ct_J1_replacementTreeNode (g : AG) (hst : (gL g).stackTraces = false) (N : Nat) : ∀ (h : AH) (x0 : Nat) (r1 : Option Nat) (r2 : Option Nat) (q : (Option Nat × AH)), x_J1_replacementTreeNode g N h x0 r1 r2 = some q → CT g YJ1_replacementTreeNode 6 [.ref x0, va_rf r1, va_rf r2] h (xR q) := by
  intro h x0 r1 r2 q hq
  refine CT.of rfl (by decide +kernel) (loc := [some (.ref x0), some (va_rf r1), some (va_rf r2)]) (by first | exact Nat.le_of_ble_eq_true rfl | (simp only [lgl_rf, lgl_i, lgl_j, lgl_ref, lgl_nil]; exact Nat.le_of_ble_eq_true rfl)) (by first | rfl | (simp only [aent_rf, aent_i, aent_j, aent_ref, aent_nil]; rfl)) ?_
  unfold x_J1_replacementTreeNode at hq
  replace hq := obind hq
  obtain ⟨h1, e2, hq⟩ := hq
  refine xw_new (r := (RJ29, TJ29, 11)) e2 q1261 q1618 q156 (by decide) rfl okJ29 rfl dfJ29 dJ1_replacementTreeNode_0 ?_
  refine aw_dup dJ1_replacementTreeNode_3 rfl ?_
  refine aw_aload_n (i := 1) dJ1_replacementTreeNode_4 rfl rfl (aIsR_rf _) ?_
  replace hq := obind hq
  obtain ⟨a3, e4, hq⟩ := hq
  subst e4
  replace hq := obind hq
  obtain ⟨i5, e6, hq⟩ := hq
  refine xw_getI e6 fJ1_168 dJ1_replacementTreeNode_5 ?_
  refine aw_aload_n (i := 1) dJ1_replacementTreeNode_8 rfl rfl trivial ?_
  replace hq := obind hq
  obtain ⟨o7, e8, hq⟩ := hq
  refine xw_getR e8 fJ1_170 dJ1_replacementTreeNode_9 ?_
  refine aw_aload_n (i := 1) dJ1_replacementTreeNode_12 rfl rfl trivial ?_
  replace hq := obind hq
  obtain ⟨o9, e10, hq⟩ := hq
  refine xw_getR e10 fJ1_162 dJ1_replacementTreeNode_13 ?_
  refine aw_aload_n (i := 2) dJ1_replacementTreeNode_16 rfl rfl (aIsR_rf _) ?_
  replace hq := obind hq
  obtain ⟨q11, e12, hq⟩ := hq
  refine aw_callI (Y2 := YJ29_init) (As := [.int i5, va_rf o7, va_rf o9, va_rf r2]) (rest := [.ref h.2.1]) (b := h.2.1) kJ29_init rfl rfl q1619 q1620 dJ1_replacementTreeNode_17 rfl rfl (ct_J29_init g hst N h1 h.2.1 i5 o7 o9 r2 _ e12) (Nat.le_of_ble_eq_true rfl) (Nat.le_of_ble_eq_true rfl) (fun v9 h9 z9 y9 => ?_)
  obtain ⟨rfl, y9⟩ := y9
  rw [y9]
  refine aw_st (st' := [.ref h.2.1]) rfl ?_
  cases hq
  exact aw_areturn dJ1_replacementTreeNode_20 rfl (Or.inl ⟨_, rfl⟩) trivial ⟨rfl, rfl⟩
