/-! THE COMPONENT AND THE JDK as functions of the heap, and their contracts: printed by wip gen/dec2.py -/
set_option maxRecDepth 100000
abbrev YJ29_treeify : YC := (yJ29_treeify, cJ29_treeify, 13, none, [])
theorem kJ29_treeify : aMk YJ29_treeify 1 := ⟨rfl, q1591, q156, ⟨by decide +kernel, by decide +kernel, by decide +kernel⟩, Nat.le_of_ble_eq_true rfl⟩
def x_J29_treeify_209 (g : AG) (N : Nat) (K4 : AH → Nat → Option Nat → Option Nat → Option Nat → Option AH) (K215 : AH → Nat → Option Nat → Option Nat → Option Nat → Option AH) (h : AH) (x0 : Nat) (r1 : Option Nat) (r2 : Option Nat) (r3 : Option Nat) (r4 : Option Nat) : Option AH :=
  K4 h x0 r1 r2 r4
theorem p_x_J29_treeify_209 (g : AG) (hst : (gL g).stackTraces = false) (N : Nat) (K4 : AH → Nat → Option Nat → Option Nat → Option Nat → Option AH) (K215 : AH → Nat → Option Nat → Option Nat → Option Nat → Option AH) (hK4 : ∀ (h : AH) (x0 : Nat) (r1 : Option Nat) (r2 : Option Nat) (r3 : Option Nat) (q : AH), K4 h x0 r1 r2 r3 = some q → AW g YJ29_treeify 10 (xV q) h [some (.ref x0), some (va_rf r1), some (va_rf r2), some (va_rf r3), none, none, none, none, none, none, none, none, none] 4 []) (hK215 : ∀ (h : AH) (x0 : Nat) (r1 : Option Nat) (r2 : Option Nat) (r3 : Option Nat) (q : AH), K215 h x0 r1 r2 r3 = some q → AW g YJ29_treeify 10 (xV q) h [some (.ref x0), some (va_rf r1), some (va_rf r2), some (va_rf r3), none, none, none, none, none, none, none, none, none] 215 []) : ∀ (h : AH) (x0 : Nat) (r1 : Option Nat) (r2 : Option Nat) (r3 : Option Nat) (r4 : Option Nat) (q : AH), x_J29_treeify_209 g N K4 K215 h x0 r1 r2 r3 r4 = some q → AW g YJ29_treeify 10 (xV q) h [some (.ref x0), some (va_rf r1), some (va_rf r2), some (va_rf r3), some (va_rf r4), none, none, none, none, none, none, none, none] 209 [] := by
  intro h x0 r1 r2 r3 r4 q hq
  unfold x_J29_treeify_209 at hq
  refine aw_aload dJ29_treeify_209 rfl (aIsR_rf _) ?_
  refine aw_astore_n (i := 3) (loc' := [some (.ref x0), some (va_rf r1), some (va_rf r2), some (va_rf r4), some (va_rf r4), none, none, none, none, none, none, none, none]) dJ29_treeify_211 rfl (Nat.le_of_ble_eq_true rfl) (aIsR_rf _) (aset1_rf rfl) ?_
  refine aw_goto (tgt := 4) dJ29_treeify_212 (by decide) ?_
  refine aw_subl (loc' := [some (.ref x0), some (va_rf r1), some (va_rf r2), some (va_rf r4), none, none, none, none, none, none, none, none, none]) ⟨Or.inr rfl, Or.inr rfl, Or.inr rfl, Or.inr rfl, Or.inl rfl, Or.inl rfl, Or.inl rfl, Or.inl rfl, Or.inl rfl, Or.inl rfl, Or.inl rfl, Or.inl rfl, Or.inl rfl, trivial⟩ ?_
  exact hK4 h x0 r1 r2 r4 _ hq
def x_J29_treeify_165 (g : AG) (N : Nat) (K4 : AH → Nat → Option Nat → Option Nat → Option Nat → Option AH) (K215 : AH → Nat → Option Nat → Option Nat → Option Nat → Option AH) (K64 : AH → Nat → Option Nat → Option Nat → Option Nat → Option Nat → Option Nat → Int32 → Option Nat → Option Nat → Option AH) (K171 : AH → Nat → Option Nat → Option Nat → Option Nat → Option Nat → Option Nat → Int32 → Option Nat → Option Nat → Int32 → Int32 → Option Nat → Option Nat → Option AH) (h : AH) (x0 : Nat) (r1 : Option Nat) (r2 : Option Nat) (r3 : Option Nat) (r4 : Option Nat) (r5 : Option Nat) (x6 : Int32) (r7 : Option Nat) (r8 : Option Nat) (x9 : Int32) (x10 : Int32) (r11 : Option Nat) (r12 : Option Nat) (t0 : Option Nat) : Option AH :=
  ocase t0 (K171 h x0 r1 r2 r3 r4 r5 x6 r7 (none) x9 x10 r11 r12) (fun a38 => K64 h x0 r1 r2 r3 r4 r5 x6 r7 (some a38))
theorem p_x_J29_treeify_165 (g : AG) (hst : (gL g).stackTraces = false) (N : Nat) (K4 : AH → Nat → Option Nat → Option Nat → Option Nat → Option AH) (K215 : AH → Nat → Option Nat → Option Nat → Option Nat → Option AH) (K64 : AH → Nat → Option Nat → Option Nat → Option Nat → Option Nat → Option Nat → Int32 → Option Nat → Option Nat → Option AH) (K171 : AH → Nat → Option Nat → Option Nat → Option Nat → Option Nat → Option Nat → Int32 → Option Nat → Option Nat → Int32 → Int32 → Option Nat → Option Nat → Option AH) (hK4 : ∀ (h : AH) (x0 : Nat) (r1 : Option Nat) (r2 : Option Nat) (r3 : Option Nat) (q : AH), K4 h x0 r1 r2 r3 = some q → AW g YJ29_treeify 10 (xV q) h [some (.ref x0), some (va_rf r1), some (va_rf r2), some (va_rf r3), none, none, none, none, none, none, none, none, none] 4 []) (hK215 : ∀ (h : AH) (x0 : Nat) (r1 : Option Nat) (r2 : Option Nat) (r3 : Option Nat) (q : AH), K215 h x0 r1 r2 r3 = some q → AW g YJ29_treeify 10 (xV q) h [some (.ref x0), some (va_rf r1), some (va_rf r2), some (va_rf r3), none, none, none, none, none, none, none, none, none] 215 []) (hK64 : ∀ (h : AH) (x0 : Nat) (r1 : Option Nat) (r2 : Option Nat) (r3 : Option Nat) (r4 : Option Nat) (r5 : Option Nat) (x6 : Int32) (r7 : Option Nat) (r8 : Option Nat) (q : AH), K64 h x0 r1 r2 r3 r4 r5 x6 r7 r8 = some q → AW g YJ29_treeify 10 (xV q) h [some (.ref x0), some (va_rf r1), some (va_rf r2), some (va_rf r3), some (va_rf r4), some (va_rf r5), some (.int x6), some (va_rf r7), some (va_rf r8), none, none, none, none] 64 []) (hK171 : ∀ (h : AH) (x0 : Nat) (r1 : Option Nat) (r2 : Option Nat) (r3 : Option Nat) (r4 : Option Nat) (r5 : Option Nat) (x6 : Int32) (r7 : Option Nat) (r8 : Option Nat) (x9 : Int32) (x10 : Int32) (r11 : Option Nat) (r12 : Option Nat) (q : AH), K171 h x0 r1 r2 r3 r4 r5 x6 r7 r8 x9 x10 r11 r12 = some q → AW g YJ29_treeify 10 (xV q) h [some (.ref x0), some (va_rf r1), some (va_rf r2), some (va_rf r3), some (va_rf r4), some (va_rf r5), some (.int x6), some (va_rf r7), some (va_rf r8), some (.int x9), some (.int x10), some (va_rf r11), some (va_rf r12)] 171 []) : ∀ (h : AH) (x0 : Nat) (r1 : Option Nat) (r2 : Option Nat) (r3 : Option Nat) (r4 : Option Nat) (r5 : Option Nat) (x6 : Int32) (r7 : Option Nat) (r8 : Option Nat) (x9 : Int32) (x10 : Int32) (r11 : Option Nat) (r12 : Option Nat) (t0 : Option Nat) (q : AH), x_J29_treeify_165 g N K4 K215 K64 K171 h x0 r1 r2 r3 r4 r5 x6 r7 r8 x9 x10 r11 r12 t0 = some q → AW g YJ29_treeify 10 (xV q) h [some (.ref x0), some (va_rf r1), some (va_rf r2), some (va_rf r3), some (va_rf r4), some (va_rf r5), some (.int x6), some (va_rf r7), some (va_rf r8), some (.int x9), some (.int x10), some (va_rf r11), some (va_rf r12)] 165 [va_rf t0] := by
  intro h x0 r1 r2 r3 r4 r5 x6 r7 r8 x9 x10 r11 r12 t0 q hq
  unfold x_J29_treeify_165 at hq
  refine aw_dup dJ29_treeify_165 (cat_rf _) ?_
  refine aw_astore (loc' := [some (.ref x0), some (va_rf r1), some (va_rf r2), some (va_rf r3), some (va_rf r4), some (va_rf r5), some (.int x6), some (va_rf r7), some (va_rf t0), some (.int x9), some (.int x10), some (va_rf r11), some (va_rf r12)]) dJ29_treeify_166 (Nat.le_of_ble_eq_true rfl) (aIsR_rf _) (aset1_rf rfl) ?_
  rcases t0 with _ | a38
  · replace hq := ocase_n hq
    refine xw_ifnonN (tgt := 206) dJ29_treeify_168 (by decide) ?_
    exact hK171 h x0 r1 r2 r3 r4 r5 x6 r7 (none) x9 x10 r11 r12 _ hq
  · replace hq := ocase_s hq
    refine xw_ifnonS (tgt := 206) dJ29_treeify_168 (by decide) ?_
    refine aw_goto (tgt := 64) dJ29_treeify_206 (by decide) ?_
    refine aw_subl (loc' := [some (.ref x0), some (va_rf r1), some (va_rf r2), some (va_rf r3), some (va_rf r4), some (va_rf r5), some (.int x6), some (va_rf r7), some (.ref a38), none, none, none, none]) ⟨Or.inr rfl, Or.inr rfl, Or.inr rfl, Or.inr rfl, Or.inr rfl, Or.inr rfl, Or.inr rfl, Or.inr rfl, Or.inr rfl, Or.inl rfl, Or.inl rfl, Or.inl rfl, Or.inl rfl, trivial⟩ ?_
    exact hK64 h x0 r1 r2 r3 r4 r5 x6 r7 (some a38) _ hq
def x_J29_treeify_143 (g : AG) (N : Nat) (K4 : AH → Nat → Option Nat → Option Nat → Option Nat → Option AH) (K215 : AH → Nat → Option Nat → Option Nat → Option Nat → Option AH) (K64 : AH → Nat → Option Nat → Option Nat → Option Nat → Option Nat → Option Nat → Int32 → Option Nat → Option Nat → Option AH) (K171 : AH → Nat → Option Nat → Option Nat → Option Nat → Option Nat → Option Nat → Int32 → Option Nat → Option Nat → Int32 → Int32 → Option Nat → Option Nat → Option AH) (h : AH) (x0 : Nat) (r1 : Option Nat) (r2 : Option Nat) (r3 : Option Nat) (r4 : Option Nat) (r5 : Option Nat) (x6 : Int32) (r7 : Option Nat) (r8 : Option Nat) (x9 : Int32) (x10 : Int32) (r11 : Option Nat) : Option AH :=
  if 0 < x9 then ((r8).bind fun a34 => (rdR h a34 [(12, 8)]).bind fun o36 => x_J29_treeify_165 g N K4 K215 K64 K171 h x0 r1 r2 r3 r4 r5 x6 r7 (some a34) x9 x10 r11 (some a34) o36) else ((r8).bind fun a39 => (rdR h a39 [(12, 7)]).bind fun o41 => x_J29_treeify_165 g N K4 K215 K64 K171 h x0 r1 r2 r3 r4 r5 x6 r7 (some a39) x9 x10 r11 (some a39) o41)
theorem p_x_J29_treeify_143 (g : AG) (hst : (gL g).stackTraces = false) (N : Nat) (K4 : AH → Nat → Option Nat → Option Nat → Option Nat → Option AH) (K215 : AH → Nat → Option Nat → Option Nat → Option Nat → Option AH) (K64 : AH → Nat → Option Nat → Option Nat → Option Nat → Option Nat → Option Nat → Int32 → Option Nat → Option Nat → Option AH) (K171 : AH → Nat → Option Nat → Option Nat → Option Nat → Option Nat → Option Nat → Int32 → Option Nat → Option Nat → Int32 → Int32 → Option Nat → Option Nat → Option AH) (hK4 : ∀ (h : AH) (x0 : Nat) (r1 : Option Nat) (r2 : Option Nat) (r3 : Option Nat) (q : AH), K4 h x0 r1 r2 r3 = some q → AW g YJ29_treeify 10 (xV q) h [some (.ref x0), some (va_rf r1), some (va_rf r2), some (va_rf r3), none, none, none, none, none, none, none, none, none] 4 []) (hK215 : ∀ (h : AH) (x0 : Nat) (r1 : Option Nat) (r2 : Option Nat) (r3 : Option Nat) (q : AH), K215 h x0 r1 r2 r3 = some q → AW g YJ29_treeify 10 (xV q) h [some (.ref x0), some (va_rf r1), some (va_rf r2), some (va_rf r3), none, none, none, none, none, none, none, none, none] 215 []) (hK64 : ∀ (h : AH) (x0 : Nat) (r1 : Option Nat) (r2 : Option Nat) (r3 : Option Nat) (r4 : Option Nat) (r5 : Option Nat) (x6 : Int32) (r7 : Option Nat) (r8 : Option Nat) (q : AH), K64 h x0 r1 r2 r3 r4 r5 x6 r7 r8 = some q → AW g YJ29_treeify 10 (xV q) h [some (.ref x0), some (va_rf r1), some (va_rf r2), some (va_rf r3), some (va_rf r4), some (va_rf r5), some (.int x6), some (va_rf r7), some (va_rf r8), none, none, none, none] 64 []) (hK171 : ∀ (h : AH) (x0 : Nat) (r1 : Option Nat) (r2 : Option Nat) (r3 : Option Nat) (r4 : Option Nat) (r5 : Option Nat) (x6 : Int32) (r7 : Option Nat) (r8 : Option Nat) (x9 : Int32) (x10 : Int32) (r11 : Option Nat) (r12 : Option Nat) (q : AH), K171 h x0 r1 r2 r3 r4 r5 x6 r7 r8 x9 x10 r11 r12 = some q → AW g YJ29_treeify 10 (xV q) h [some (.ref x0), some (va_rf r1), some (va_rf r2), some (va_rf r3), some (va_rf r4), some (va_rf r5), some (.int x6), some (va_rf r7), some (va_rf r8), some (.int x9), some (.int x10), some (va_rf r11), some (va_rf r12)] 171 []) : ∀ (h : AH) (x0 : Nat) (r1 : Option Nat) (r2 : Option Nat) (r3 : Option Nat) (r4 : Option Nat) (r5 : Option Nat) (x6 : Int32) (r7 : Option Nat) (r8 : Option Nat) (x9 : Int32) (x10 : Int32) (r11 : Option Nat) (q : AH), x_J29_treeify_143 g N K4 K215 K64 K171 h x0 r1 r2 r3 r4 r5 x6 r7 r8 x9 x10 r11 = some q → AW g YJ29_treeify 10 (xV q) h [some (.ref x0), some (va_rf r1), some (va_rf r2), some (va_rf r3), some (va_rf r4), some (va_rf r5), some (.int x6), some (va_rf r7), some (va_rf r8), some (.int x9), some (.int x10), some (va_rf r11), none] 143 [] := by
  intro h x0 r1 r2 r3 r4 r5 x6 r7 r8 x9 x10 r11 q hq
  unfold x_J29_treeify_143 at hq
  refine aw_aload dJ29_treeify_143 rfl (aIsR_rf _) ?_
  refine aw_astore (loc' := [some (.ref x0), some (va_rf r1), some (va_rf r2), some (va_rf r3), some (va_rf r4), some (va_rf r5), some (.int x6), some (va_rf r7), some (va_rf r8), some (.int x9), some (.int x10), some (va_rf r11), some (va_rf r8)]) dJ29_treeify_145 (Nat.le_of_ble_eq_true rfl) (aIsR_rf _) (aset1_rf rfl) ?_
  refine aw_iload dJ29_treeify_147 rfl ?_
  refine aw_if_gt (tgt := 160) dJ29_treeify_149 (by decide) (fun c33 => ?_) (fun c33 => ?_)
  · rw [if_pos c33] at hq
    refine aw_aload dJ29_treeify_160 rfl (aIsR_rf _) ?_
    replace hq := obind hq
    obtain ⟨a34, e35, hq⟩ := hq
    subst e35
    replace hq := obind hq
    obtain ⟨o36, e37, hq⟩ := hq
    refine xw_getR e37 fJ29_42 dJ29_treeify_162 ?_
    exact p_x_J29_treeify_165 g hst N _ _ _ _ hK4 hK215 hK64 hK171 h x0 r1 r2 r3 r4 r5 x6 r7 (some a34) x9 x10 r11 (some a34) o36 _ hq
  · rw [if_neg c33] at hq
    refine aw_aload dJ29_treeify_152 rfl (aIsR_rf _) ?_
    replace hq := obind hq
    obtain ⟨a39, e40, hq⟩ := hq
    subst e40
    replace hq := obind hq
    obtain ⟨o41, e42, hq⟩ := hq
    refine xw_getR e42 fJ29_39 dJ29_treeify_154 ?_
    refine aw_goto (tgt := 165) dJ29_treeify_157 (by decide) ?_
    exact p_x_J29_treeify_165 g hst N _ _ _ _ hK4 hK215 hK64 hK171 h x0 r1 r2 r3 r4 r5 x6 r7 (some a39) x9 x10 r11 (some a39) o41 _ hq
def x_J29_treeify_119 (g : AG) (N : Nat) (K4 : AH → Nat → Option Nat → Option Nat → Option Nat → Option AH) (K215 : AH → Nat → Option Nat → Option Nat → Option Nat → Option AH) (K64 : AH → Nat → Option Nat → Option Nat → Option Nat → Option Nat → Option Nat → Int32 → Option Nat → Option Nat → Option AH) (K171 : AH → Nat → Option Nat → Option Nat → Option Nat → Option Nat → Option Nat → Int32 → Option Nat → Option Nat → Int32 → Int32 → Option Nat → Option Nat → Option AH) (h : AH) (x0 : Nat) (r1 : Option Nat) (r2 : Option Nat) (r3 : Option Nat) (r4 : Option Nat) (r5 : Option Nat) (x6 : Int32) (r7 : Option Nat) (r8 : Option Nat) (x10 : Int32) (r11 : Option Nat) : Option AH :=
  (x_J1_compareComparables g N h r7 r5 r11).bind fun q30 => if q30.1 = 0 then (none) else (x_J29_treeify_143 g N K4 K215 K64 K171 q30.2 x0 r1 r2 r3 r4 r5 x6 r7 r8 q30.1 x10 r11)
theorem p_x_J29_treeify_119 (g : AG) (hst : (gL g).stackTraces = false) (N : Nat) (K4 : AH → Nat → Option Nat → Option Nat → Option Nat → Option AH) (K215 : AH → Nat → Option Nat → Option Nat → Option Nat → Option AH) (K64 : AH → Nat → Option Nat → Option Nat → Option Nat → Option Nat → Option Nat → Int32 → Option Nat → Option Nat → Option AH) (K171 : AH → Nat → Option Nat → Option Nat → Option Nat → Option Nat → Option Nat → Int32 → Option Nat → Option Nat → Int32 → Int32 → Option Nat → Option Nat → Option AH) (hK4 : ∀ (h : AH) (x0 : Nat) (r1 : Option Nat) (r2 : Option Nat) (r3 : Option Nat) (q : AH), K4 h x0 r1 r2 r3 = some q → AW g YJ29_treeify 10 (xV q) h [some (.ref x0), some (va_rf r1), some (va_rf r2), some (va_rf r3), none, none, none, none, none, none, none, none, none] 4 []) (hK215 : ∀ (h : AH) (x0 : Nat) (r1 : Option Nat) (r2 : Option Nat) (r3 : Option Nat) (q : AH), K215 h x0 r1 r2 r3 = some q → AW g YJ29_treeify 10 (xV q) h [some (.ref x0), some (va_rf r1), some (va_rf r2), some (va_rf r3), none, none, none, none, none, none, none, none, none] 215 []) (hK64 : ∀ (h : AH) (x0 : Nat) (r1 : Option Nat) (r2 : Option Nat) (r3 : Option Nat) (r4 : Option Nat) (r5 : Option Nat) (x6 : Int32) (r7 : Option Nat) (r8 : Option Nat) (q : AH), K64 h x0 r1 r2 r3 r4 r5 x6 r7 r8 = some q → AW g YJ29_treeify 10 (xV q) h [some (.ref x0), some (va_rf r1), some (va_rf r2), some (va_rf r3), some (va_rf r4), some (va_rf r5), some (.int x6), some (va_rf r7), some (va_rf r8), none, none, none, none] 64 []) (hK171 : ∀ (h : AH) (x0 : Nat) (r1 : Option Nat) (r2 : Option Nat) (r3 : Option Nat) (r4 : Option Nat) (r5 : Option Nat) (x6 : Int32) (r7 : Option Nat) (r8 : Option Nat) (x9 : Int32) (x10 : Int32) (r11 : Option Nat) (r12 : Option Nat) (q : AH), K171 h x0 r1 r2 r3 r4 r5 x6 r7 r8 x9 x10 r11 r12 = some q → AW g YJ29_treeify 10 (xV q) h [some (.ref x0), some (va_rf r1), some (va_rf r2), some (va_rf r3), some (va_rf r4), some (va_rf r5), some (.int x6), some (va_rf r7), some (va_rf r8), some (.int x9), some (.int x10), some (va_rf r11), some (va_rf r12)] 171 []) : ∀ (h : AH) (x0 : Nat) (r1 : Option Nat) (r2 : Option Nat) (r3 : Option Nat) (r4 : Option Nat) (r5 : Option Nat) (x6 : Int32) (r7 : Option Nat) (r8 : Option Nat) (x10 : Int32) (r11 : Option Nat) (q : AH), x_J29_treeify_119 g N K4 K215 K64 K171 h x0 r1 r2 r3 r4 r5 x6 r7 r8 x10 r11 = some q → AW g YJ29_treeify 10 (xV q) h [some (.ref x0), some (va_rf r1), some (va_rf r2), some (va_rf r3), some (va_rf r4), some (va_rf r5), some (.int x6), some (va_rf r7), some (va_rf r8), none, some (.int x10), some (va_rf r11), none] 119 [] := by
  intro h x0 r1 r2 r3 r4 r5 x6 r7 r8 x10 r11 q hq
  unfold x_J29_treeify_119 at hq
  refine aw_aload dJ29_treeify_119 rfl (aIsR_rf _) ?_
  refine aw_aload dJ29_treeify_121 rfl (aIsR_rf _) ?_
  refine aw_aload dJ29_treeify_123 rfl (aIsR_rf _) ?_
  replace hq := obind hq
  obtain ⟨q30, e31, hq⟩ := hq
  refine aw_callS (Y2 := YJ1_compareComparables) (As := [va_rf r7, va_rf r5, va_rf r11]) (rest := []) kJ1_compareComparables q1281 q1282 dJ29_treeify_125 rfl rfl (ct_J1_compareComparables g hst N h r7 r5 r11 _ e31) (Nat.le_of_ble_eq_true rfl) (Nat.le_of_ble_eq_true rfl) (fun v9 h9 z9 y9 => ?_)
  obtain ⟨rfl, rfl⟩ := y9
  refine aw_st (st' := [.int q30.1]) rfl ?_
  refine aw_dup dJ29_treeify_128 rfl ?_
  refine aw_istore (loc' := [some (.ref x0), some (va_rf r1), some (va_rf r2), some (va_rf r3), some (va_rf r4), some (va_rf r5), some (.int x6), some (va_rf r7), some (va_rf r8), some (.int q30.1), some (.int x10), some (va_rf r11), none]) dJ29_treeify_129 (Nat.le_of_ble_eq_true rfl) (aset1_rf rfl) ?_
  refine aw_if_ne (tgt := 143) dJ29_treeify_131 (by decide) (fun c32 => ?_) (fun c32 => ?_)
  · rw [if_neg c32] at hq
    exact p_x_J29_treeify_143 g hst N _ _ _ _ hK4 hK215 hK64 hK171 q30.2 x0 r1 r2 r3 r4 r5 x6 r7 r8 q30.1 x10 r11 _ hq
  · rw [if_pos c32] at hq
    refine aw_aload dJ29_treeify_134 rfl (aIsR_rf _) ?_
    refine aw_aload dJ29_treeify_136 rfl (aIsR_rf _) ?_
    cases hq
def x_J29_treeify_64 (g : AG) (N : Nat) (K4 : AH → Nat → Option Nat → Option Nat → Option Nat → Option AH) (K215 : AH → Nat → Option Nat → Option Nat → Option Nat → Option AH) (K171 : AH → Nat → Option Nat → Option Nat → Option Nat → Option Nat → Option Nat → Int32 → Option Nat → Option Nat → Int32 → Int32 → Option Nat → Option Nat → Option AH) : Nat → AH → Nat → Option Nat → Option Nat → Option Nat → Option Nat → Option Nat → Int32 → Option Nat → Option Nat → Option AH
  | 0, _, _, _, _, _, _, _, _, _, _ => none
  | n9 + 1, h, x0, r1, r2, r3, r4, r5, x6, r7, r8 =>
  (r8).bind fun a18 => (rdR h a18 [(12, 3)]).bind fun o20 => (rdI h a18 [(12, 2)]).bind fun i22 => if i22 ≤ x6 then (if x6 ≤ i22 then (ocase r7 ((x_J1_comparableClassFor g N h r5).bind fun q27 => ocase q27.1 (none) (fun a29 => x_J29_treeify_119 g N K4 K215 (fun h x0 r1 r2 r3 r4 r5 x6 r7 r8 => x_J29_treeify_64 g N K4 K215 K171 n9 h x0 r1 r2 r3 r4 r5 x6 r7 r8) K171 q27.2 x0 r1 r2 r3 r4 r5 x6 (some a29) (some a18) i22 o20)) (fun a26 => x_J29_treeify_119 g N K4 K215 (fun h x0 r1 r2 r3 r4 r5 x6 r7 r8 => x_J29_treeify_64 g N K4 K215 K171 n9 h x0 r1 r2 r3 r4 r5 x6 r7 r8) K171 h x0 r1 r2 r3 r4 r5 x6 (some a26) (some a18) i22 o20)) else (x_J29_treeify_143 g N K4 K215 (fun h x0 r1 r2 r3 r4 r5 x6 r7 r8 => x_J29_treeify_64 g N K4 K215 K171 n9 h x0 r1 r2 r3 r4 r5 x6 r7 r8) K171 h x0 r1 r2 r3 r4 r5 x6 r7 (some a18) (1 : Int32) i22 o20)) else (x_J29_treeify_143 g N K4 K215 (fun h x0 r1 r2 r3 r4 r5 x6 r7 r8 => x_J29_treeify_64 g N K4 K215 K171 n9 h x0 r1 r2 r3 r4 r5 x6 r7 r8) K171 h x0 r1 r2 r3 r4 r5 x6 r7 (some a18) (-1 : Int32) i22 o20)
theorem p_x_J29_treeify_64 (g : AG) (hst : (gL g).stackTraces = false) (N : Nat) (K4 : AH → Nat → Option Nat → Option Nat → Option Nat → Option AH) (K215 : AH → Nat → Option Nat → Option Nat → Option Nat → Option AH) (K171 : AH → Nat → Option Nat → Option Nat → Option Nat → Option Nat → Option Nat → Int32 → Option Nat → Option Nat → Int32 → Int32 → Option Nat → Option Nat → Option AH) (hK4 : ∀ (h : AH) (x0 : Nat) (r1 : Option Nat) (r2 : Option Nat) (r3 : Option Nat) (q : AH), K4 h x0 r1 r2 r3 = some q → AW g YJ29_treeify 10 (xV q) h [some (.ref x0), some (va_rf r1), some (va_rf r2), some (va_rf r3), none, none, none, none, none, none, none, none, none] 4 []) (hK215 : ∀ (h : AH) (x0 : Nat) (r1 : Option Nat) (r2 : Option Nat) (r3 : Option Nat) (q : AH), K215 h x0 r1 r2 r3 = some q → AW g YJ29_treeify 10 (xV q) h [some (.ref x0), some (va_rf r1), some (va_rf r2), some (va_rf r3), none, none, none, none, none, none, none, none, none] 215 []) (hK171 : ∀ (h : AH) (x0 : Nat) (r1 : Option Nat) (r2 : Option Nat) (r3 : Option Nat) (r4 : Option Nat) (r5 : Option Nat) (x6 : Int32) (r7 : Option Nat) (r8 : Option Nat) (x9 : Int32) (x10 : Int32) (r11 : Option Nat) (r12 : Option Nat) (q : AH), K171 h x0 r1 r2 r3 r4 r5 x6 r7 r8 x9 x10 r11 r12 = some q → AW g YJ29_treeify 10 (xV q) h [some (.ref x0), some (va_rf r1), some (va_rf r2), some (va_rf r3), some (va_rf r4), some (va_rf r5), some (.int x6), some (va_rf r7), some (va_rf r8), some (.int x9), some (.int x10), some (va_rf r11), some (va_rf r12)] 171 []) : ∀ (n9 : Nat) (h : AH) (x0 : Nat) (r1 : Option Nat) (r2 : Option Nat) (r3 : Option Nat) (r4 : Option Nat) (r5 : Option Nat) (x6 : Int32) (r7 : Option Nat) (r8 : Option Nat) (q : AH), x_J29_treeify_64 g N K4 K215 K171 n9 h x0 r1 r2 r3 r4 r5 x6 r7 r8 = some q → AW g YJ29_treeify 10 (xV q) h [some (.ref x0), some (va_rf r1), some (va_rf r2), some (va_rf r3), some (va_rf r4), some (va_rf r5), some (.int x6), some (va_rf r7), some (va_rf r8), none, none, none, none] 64 [] := by
  intro n9
  induction n9 with
  | zero =>
    intro h x0 r1 r2 r3 r4 r5 x6 r7 r8 q hq
    cases hq
  | succ n9 ih =>
    intro h x0 r1 r2 r3 r4 r5 x6 r7 r8 q hq
    rw [x_J29_treeify_64] at hq
    refine aw_aload dJ29_treeify_64 rfl (aIsR_rf _) ?_
    replace hq := obind hq
    obtain ⟨a18, e19, hq⟩ := hq
    subst e19
    replace hq := obind hq
    obtain ⟨o20, e21, hq⟩ := hq
    refine xw_getR e21 fJ29_45 dJ29_treeify_66 ?_
    refine aw_astore (loc' := [some (.ref x0), some (va_rf r1), some (va_rf r2), some (va_rf r3), some (va_rf r4), some (va_rf r5), some (.int x6), some (va_rf r7), some (.ref a18), none, none, some (va_rf o20), none]) dJ29_treeify_69 (Nat.le_of_ble_eq_true rfl) (aIsR_rf _) rfl ?_
    refine aw_aload dJ29_treeify_71 rfl trivial ?_
    replace hq := obind hq
    obtain ⟨i22, e23, hq⟩ := hq
    refine xw_getI e23 fJ29_15 dJ29_treeify_73 ?_
    refine aw_dup dJ29_treeify_76 rfl ?_
    refine aw_istore (loc' := [some (.ref x0), some (va_rf r1), some (va_rf r2), some (va_rf r3), some (va_rf r4), some (va_rf r5), some (.int x6), some (va_rf r7), some (.ref a18), none, some (.int i22), some (va_rf o20), none]) dJ29_treeify_77 (Nat.le_of_ble_eq_true rfl) rfl ?_
    refine aw_iload dJ29_treeify_79 rfl ?_
    refine aw_icmp_le (tgt := 90) dJ29_treeify_81 (by decide) (fun c24 => ?_) (fun c24 => ?_)
    · rw [if_pos c24] at hq
      refine aw_iload dJ29_treeify_90 rfl ?_
      refine aw_iload dJ29_treeify_92 rfl ?_
      refine aw_icmp_ge (tgt := 103) dJ29_treeify_94 (by decide) (fun c25 => ?_) (fun c25 => ?_)
      · rw [if_pos c25] at hq
        refine aw_aload dJ29_treeify_103 rfl (aIsR_rf _) ?_
        rcases r7 with _ | a26
        · replace hq := ocase_n hq
          refine xw_ifnonN (tgt := 119) dJ29_treeify_105 (by decide) ?_
          refine aw_aload dJ29_treeify_108 rfl (aIsR_rf _) ?_
          replace hq := obind hq
          obtain ⟨q27, e28, hq⟩ := hq
          refine aw_callS (Y2 := YJ1_comparableClassFor) (As := [va_rf r5]) (rest := []) kJ1_comparableClassFor q1275 q1276 dJ29_treeify_110 rfl rfl (ct_J1_comparableClassFor g hst N h r5 _ e28) (Nat.le_of_ble_eq_true rfl) (Nat.le_of_ble_eq_true rfl) (fun v9 h9 z9 y9 => ?_)
          obtain ⟨rfl, rfl⟩ := y9
          refine aw_st (st' := [va_rf q27.1]) rfl ?_
          refine aw_dup dJ29_treeify_113 (cat_rf _) ?_
          refine aw_astore (loc' := [some (.ref x0), some (va_rf r1), some (va_rf r2), some (va_rf r3), some (va_rf r4), some (va_rf r5), some (.int x6), some (va_rf q27.1), some (.ref a18), none, some (.int i22), some (va_rf o20), none]) dJ29_treeify_114 (Nat.le_of_ble_eq_true rfl) (aIsR_rf _) rfl ?_
          generalize q27.1 = v9 at hq ⊢
          rcases v9 with _ | a29
          · replace hq := ocase_n hq
            refine xw_ifnullN (tgt := 134) dJ29_treeify_116 (by decide) ?_
            refine aw_aload dJ29_treeify_134 rfl (aIsR_rf _) ?_
            refine aw_aload dJ29_treeify_136 rfl (aIsR_rf _) ?_
            cases hq
          · replace hq := ocase_s hq
            refine xw_ifnullS (tgt := 134) dJ29_treeify_116 (by decide) ?_
            exact p_x_J29_treeify_119 g hst N _ _ _ _ hK4 hK215 ih hK171 q27.2 x0 r1 r2 r3 r4 r5 x6 (some a29) (some a18) i22 o20 _ hq
        · replace hq := ocase_s hq
          refine xw_ifnonS (tgt := 119) dJ29_treeify_105 (by decide) ?_
          exact p_x_J29_treeify_119 g hst N _ _ _ _ hK4 hK215 ih hK171 h x0 r1 r2 r3 r4 r5 x6 (some a26) (some a18) i22 o20 _ hq
      · rw [if_neg c25] at hq
        refine aw_iconst (v := 1) dJ29_treeify_97 (by decide) ?_
        refine aw_istore (loc' := [some (.ref x0), some (va_rf r1), some (va_rf r2), some (va_rf r3), some (va_rf r4), some (va_rf r5), some (.int x6), some (va_rf r7), some (.ref a18), some (.int (1 : Int32)), some (.int i22), some (va_rf o20), none]) dJ29_treeify_98 (Nat.le_of_ble_eq_true rfl) rfl ?_
        refine aw_goto (tgt := 143) dJ29_treeify_100 (by decide) ?_
        exact p_x_J29_treeify_143 g hst N _ _ _ _ hK4 hK215 ih hK171 h x0 r1 r2 r3 r4 r5 x6 r7 (some a18) (1 : Int32) i22 o20 _ hq
    · rw [if_neg c24] at hq
      refine aw_iconst (v := (-1)) dJ29_treeify_84 (by decide) ?_
      refine aw_istore (loc' := [some (.ref x0), some (va_rf r1), some (va_rf r2), some (va_rf r3), some (va_rf r4), some (va_rf r5), some (.int x6), some (va_rf r7), some (.ref a18), some (.int (-1 : Int32)), some (.int i22), some (va_rf o20), none]) dJ29_treeify_85 (Nat.le_of_ble_eq_true rfl) rfl ?_
      refine aw_goto (tgt := 143) dJ29_treeify_87 (by decide) ?_
      exact p_x_J29_treeify_143 g hst N _ _ _ _ hK4 hK215 ih hK171 h x0 r1 r2 r3 r4 r5 x6 r7 (some a18) (-1 : Int32) i22 o20 _ hq
def x_J29_treeify_197 (g : AG) (N : Nat) (K4 : AH → Nat → Option Nat → Option Nat → Option Nat → Option AH) (K215 : AH → Nat → Option Nat → Option Nat → Option Nat → Option AH) (h : AH) (x0 : Nat) (r1 : Option Nat) (r2 : Option Nat) (r3 : Option Nat) (r4 : Option Nat) (r5 : Option Nat) (x6 : Int32) (r7 : Option Nat) (r8 : Option Nat) (x9 : Int32) (x10 : Int32) (r11 : Option Nat) (r12 : Option Nat) : Option AH :=
  (x_J29_balanceInsertion g N h r2 r3).bind fun q52 => x_J29_treeify_209 g N K4 K215 q52.2 x0 r1 q52.1 r3 r4
theorem p_x_J29_treeify_197 (g : AG) (hst : (gL g).stackTraces = false) (N : Nat) (K4 : AH → Nat → Option Nat → Option Nat → Option Nat → Option AH) (K215 : AH → Nat → Option Nat → Option Nat → Option Nat → Option AH) (hK4 : ∀ (h : AH) (x0 : Nat) (r1 : Option Nat) (r2 : Option Nat) (r3 : Option Nat) (q : AH), K4 h x0 r1 r2 r3 = some q → AW g YJ29_treeify 10 (xV q) h [some (.ref x0), some (va_rf r1), some (va_rf r2), some (va_rf r3), none, none, none, none, none, none, none, none, none] 4 []) (hK215 : ∀ (h : AH) (x0 : Nat) (r1 : Option Nat) (r2 : Option Nat) (r3 : Option Nat) (q : AH), K215 h x0 r1 r2 r3 = some q → AW g YJ29_treeify 10 (xV q) h [some (.ref x0), some (va_rf r1), some (va_rf r2), some (va_rf r3), none, none, none, none, none, none, none, none, none] 215 []) : ∀ (h : AH) (x0 : Nat) (r1 : Option Nat) (r2 : Option Nat) (r3 : Option Nat) (r4 : Option Nat) (r5 : Option Nat) (x6 : Int32) (r7 : Option Nat) (r8 : Option Nat) (x9 : Int32) (x10 : Int32) (r11 : Option Nat) (r12 : Option Nat) (q : AH), x_J29_treeify_197 g N K4 K215 h x0 r1 r2 r3 r4 r5 x6 r7 r8 x9 x10 r11 r12 = some q → AW g YJ29_treeify 10 (xV q) h [some (.ref x0), some (va_rf r1), some (va_rf r2), some (va_rf r3), some (va_rf r4), some (va_rf r5), some (.int x6), some (va_rf r7), some (va_rf r8), some (.int x9), some (.int x10), some (va_rf r11), some (va_rf r12)] 197 [] := by
  intro h x0 r1 r2 r3 r4 r5 x6 r7 r8 x9 x10 r11 r12 q hq
  unfold x_J29_treeify_197 at hq
  refine aw_aload_n (i := 2) dJ29_treeify_197 rfl rfl (aIsR_rf _) ?_
  refine aw_aload_n (i := 3) dJ29_treeify_198 rfl rfl (aIsR_rf _) ?_
  replace hq := obind hq
  obtain ⟨q52, e53, hq⟩ := hq
  refine aw_callS (Y2 := YJ29_balanceInsertion) (As := [va_rf r2, va_rf r3]) (rest := []) kJ29_balanceInsertion q1592 q1593 dJ29_treeify_199 rfl rfl (ct_J29_balanceInsertion g hst N h r2 r3 _ e53) (Nat.le_of_ble_eq_true rfl) (Nat.le_of_ble_eq_true rfl) (fun v9 h9 z9 y9 => ?_)
  obtain ⟨rfl, rfl⟩ := y9
  refine aw_st (st' := [va_rf q52.1]) rfl ?_
  refine aw_astore_n (i := 2) (loc' := [some (.ref x0), some (va_rf r1), some (va_rf q52.1), some (va_rf r3), some (va_rf r4), some (va_rf r5), some (.int x6), some (va_rf r7), some (va_rf r8), some (.int x9), some (.int x10), some (va_rf r11), some (va_rf r12)]) dJ29_treeify_202 rfl (Nat.le_of_ble_eq_true rfl) (aIsR_rf _) (aset1_rf rfl) ?_
  refine aw_goto (tgt := 209) dJ29_treeify_203 (by decide) ?_
  refine aw_subl (loc' := [some (.ref x0), some (va_rf r1), some (va_rf q52.1), some (va_rf r3), some (va_rf r4), none, none, none, none, none, none, none, none]) ⟨Or.inr rfl, Or.inr rfl, Or.inr rfl, Or.inr rfl, Or.inr rfl, Or.inl rfl, Or.inl rfl, Or.inl rfl, Or.inl rfl, Or.inl rfl, Or.inl rfl, Or.inl rfl, Or.inl rfl, trivial⟩ ?_
  exact p_x_J29_treeify_209 g hst N _ _ hK4 hK215 q52.2 x0 r1 q52.1 r3 r4 _ hq
def x_J29_treeify_4 (g : AG) (N : Nat) (K215 : AH → Nat → Option Nat → Option Nat → Option Nat → Option AH) : Nat → AH → Nat → Option Nat → Option Nat → Option Nat → Option AH
  | 0, _, _, _, _, _ => none
  | n9 + 1, h, x0, r1, r2, r3 =>
  ocase r3 (K215 h x0 r1 r2 (none)) (fun a1 => (rdR h a1 [(12, 5)]).bind fun o2 => bif casB h o2 [12] then ((wrV g h a1 [(12, 8)] (.null)).bind fun h5 => (wrV g h5 a1 [(12, 7)] (.null)).bind fun h7 => ocase r2 ((wrV g h7 a1 [(12, 6)] (.null)).bind fun h10 => (wrV g h10 a1 [(12, 10)] (.int (0 : Int32))).bind fun h12 => x_J29_treeify_209 g N (fun h x0 r1 r2 r3 => x_J29_treeify_4 g N K215 n9 h x0 r1 r2 r3) K215 h12 x0 r1 (some a1) (some a1) o2) (fun a9 => (rdR h7 a1 [(12, 3)]).bind fun o14 => (rdI h7 a1 [(12, 2)]).bind fun i16 => x_J29_treeify_64 g N (fun h x0 r1 r2 r3 => x_J29_treeify_4 g N K215 n9 h x0 r1 r2 r3) K215 (fun h x0 r1 r2 r3 r4 r5 x6 r7 r8 x9 x10 r11 r12 => (r3).bind fun a43 => (wrV g h a43 [(12, 6)] (va_rf r12)).bind fun h45 => if 0 < x9 then ((r12).bind fun a48 => (wrV g h45 a48 [(12, 8)] (.ref a43)).bind fun h50 => x_J29_treeify_197 g N (fun h x0 r1 r2 r3 => x_J29_treeify_4 g N K215 n9 h x0 r1 r2 r3) K215 h50 x0 r1 r2 (some a43) r4 r5 x6 r7 r8 x9 x10 r11 (some a48)) else ((r12).bind fun a54 => (wrV g h45 a54 [(12, 7)] (.ref a43)).bind fun h56 => x_J29_treeify_197 g N (fun h x0 r1 r2 r3 => x_J29_treeify_4 g N K215 n9 h x0 r1 r2 r3) K215 h56 x0 r1 r2 (some a43) r4 r5 x6 r7 r8 x9 x10 r11 (some a54))) N h7 x0 r1 (some a9) (some a1) o2 o14 i16 (none) (some a9))) else none)
theorem p_x_J29_treeify_4 (g : AG) (hst : (gL g).stackTraces = false) (N : Nat) (K215 : AH → Nat → Option Nat → Option Nat → Option Nat → Option AH) (hK215 : ∀ (h : AH) (x0 : Nat) (r1 : Option Nat) (r2 : Option Nat) (r3 : Option Nat) (q : AH), K215 h x0 r1 r2 r3 = some q → AW g YJ29_treeify 10 (xV q) h [some (.ref x0), some (va_rf r1), some (va_rf r2), some (va_rf r3), none, none, none, none, none, none, none, none, none] 215 []) : ∀ (n9 : Nat) (h : AH) (x0 : Nat) (r1 : Option Nat) (r2 : Option Nat) (r3 : Option Nat) (q : AH), x_J29_treeify_4 g N K215 n9 h x0 r1 r2 r3 = some q → AW g YJ29_treeify 10 (xV q) h [some (.ref x0), some (va_rf r1), some (va_rf r2), some (va_rf r3), none, none, none, none, none, none, none, none, none] 4 [] := by
  intro n9
  induction n9 with
  | zero =>
    intro h x0 r1 r2 r3 q hq
    cases hq
  | succ n9 ih =>
    intro h x0 r1 r2 r3 q hq
    rw [x_J29_treeify_4] at hq
    refine aw_aload_n (i := 3) dJ29_treeify_4 rfl rfl (aIsR_rf _) ?_
    rcases r3 with _ | a1
    · replace hq := ocase_n hq
      refine xw_ifnullN (tgt := 215) dJ29_treeify_5 (by decide) ?_
      exact hK215 h x0 r1 r2 (none) _ hq
    · replace hq := ocase_s hq
      refine xw_ifnullS (tgt := 215) dJ29_treeify_5 (by decide) ?_
      refine aw_aload_n (i := 3) dJ29_treeify_8 rfl rfl trivial ?_
      replace hq := obind hq
      obtain ⟨o2, e3, hq⟩ := hq
      refine xw_getR e3 fJ29_22 dJ29_treeify_9 ?_
      replace hq := cond_t hq
      obtain ⟨z4, hq⟩ := hq
      refine xw_cast (r := o2) z4 q1549 casjava_util_HashMap_TreeNode dJ29_treeify_12 ?_
      refine aw_astore (loc' := [some (.ref x0), some (va_rf r1), some (va_rf r2), some (.ref a1), some (va_rf o2), none, none, none, none, none, none, none, none]) dJ29_treeify_15 (Nat.le_of_ble_eq_true rfl) (aIsR_rf _) rfl ?_
      refine aw_aload_n (i := 3) dJ29_treeify_17 rfl rfl trivial ?_
      refine aw_aload_n (i := 3) dJ29_treeify_18 rfl rfl trivial ?_
      refine aw_null dJ29_treeify_19 ?_
      refine aw_dup_x1 dJ29_treeify_20 rfl rfl ?_
      replace hq := obind hq
      obtain ⟨h5, e6, hq⟩ := hq
      refine xw_put e6 fJ29_42 tJ29_8 (fits_rf _ (none)) dJ29_treeify_21 ?_
      replace hq := obind hq
      obtain ⟨h7, e8, hq⟩ := hq
      refine xw_put e8 fJ29_39 tJ29_7 (fits_rf _ (none)) dJ29_treeify_24 ?_
      refine aw_aload_n (i := 2) dJ29_treeify_27 rfl rfl (aIsR_rf _) ?_
      rcases r2 with _ | a9
      · replace hq := ocase_n hq
        refine xw_ifnonN (tgt := 46) dJ29_treeify_28 (by decide) ?_
        refine aw_aload_n (i := 3) dJ29_treeify_31 rfl rfl trivial ?_
        refine aw_null dJ29_treeify_32 ?_
        replace hq := obind hq
        obtain ⟨h10, e11, hq⟩ := hq
        refine xw_put e11 fJ29_9 tJ29_6 (fits_rf _ (none)) dJ29_treeify_33 ?_
        refine aw_aload_n (i := 3) dJ29_treeify_36 rfl rfl trivial ?_
        refine aw_iconst (v := 0) dJ29_treeify_37 (by decide) ?_
        replace hq := obind hq
        obtain ⟨h12, e13, hq⟩ := hq
        refine xw_put e13 fJ29_93 tJ29_10 (isb_ok (by decide)) dJ29_treeify_38 ?_
        refine aw_aload_n (i := 3) dJ29_treeify_41 rfl rfl trivial ?_
        refine aw_astore_n (i := 2) (loc' := [some (.ref x0), some (va_rf r1), some (.ref a1), some (.ref a1), some (va_rf o2), none, none, none, none, none, none, none, none]) dJ29_treeify_42 rfl (Nat.le_of_ble_eq_true rfl) trivial (aset1_rf rfl) ?_
        refine aw_goto (tgt := 209) dJ29_treeify_43 (by decide) ?_
        exact p_x_J29_treeify_209 g hst N _ _ ih hK215 h12 x0 r1 (some a1) (some a1) o2 _ hq
      · replace hq := ocase_s hq
        refine xw_ifnonS (tgt := 46) dJ29_treeify_28 (by decide) ?_
        refine aw_aload_n (i := 3) dJ29_treeify_46 rfl rfl trivial ?_
        replace hq := obind hq
        obtain ⟨o14, e15, hq⟩ := hq
        refine xw_getR e15 fJ29_45 dJ29_treeify_47 ?_
        refine aw_astore (loc' := [some (.ref x0), some (va_rf r1), some (.ref a9), some (.ref a1), some (va_rf o2), some (va_rf o14), none, none, none, none, none, none, none]) dJ29_treeify_50 (Nat.le_of_ble_eq_true rfl) (aIsR_rf _) (aset1_rf rfl) ?_
        refine aw_aload_n (i := 3) dJ29_treeify_52 rfl rfl trivial ?_
        replace hq := obind hq
        obtain ⟨i16, e17, hq⟩ := hq
        refine xw_getI e17 fJ29_15 dJ29_treeify_53 ?_
        refine aw_istore (loc' := [some (.ref x0), some (va_rf r1), some (.ref a9), some (.ref a1), some (va_rf o2), some (va_rf o14), some (.int i16), none, none, none, none, none, none]) dJ29_treeify_56 (Nat.le_of_ble_eq_true rfl) (aset1_rf rfl) ?_
        refine aw_null dJ29_treeify_58 ?_
        refine aw_astore (loc' := [some (.ref x0), some (va_rf r1), some (.ref a9), some (.ref a1), some (va_rf o2), some (va_rf o14), some (.int i16), some (.null), none, none, none, none, none]) dJ29_treeify_59 (Nat.le_of_ble_eq_true rfl) trivial rfl ?_
        refine aw_aload_n (i := 2) dJ29_treeify_61 rfl rfl trivial ?_
        refine aw_astore (loc' := [some (.ref x0), some (va_rf r1), some (.ref a9), some (.ref a1), some (va_rf o2), some (va_rf o14), some (.int i16), some (.null), some (.ref a9), none, none, none, none]) dJ29_treeify_62 (Nat.le_of_ble_eq_true rfl) trivial rfl ?_
        refine p_x_J29_treeify_64 g hst N _ _ _ ih hK215 ?_ N h7 x0 r1 (some a9) (some a1) o2 o14 i16 (none) (some a9) _ hq
        · intro h x0 r1 r2 r3 r4 r5 x6 r7 r8 x9 x10 r11 r12 q hq
          refine aw_aload_n (i := 3) dJ29_treeify_171 rfl rfl (aIsR_rf _) ?_
          refine aw_aload dJ29_treeify_172 rfl (aIsR_rf _) ?_
          replace hq := obind hq
          obtain ⟨a43, e44, hq⟩ := hq
          subst e44
          replace hq := obind hq
          obtain ⟨h45, e46, hq⟩ := hq
          refine xw_put e46 fJ29_9 tJ29_6 (fits_rf _ r12) dJ29_treeify_174 ?_
          refine aw_iload dJ29_treeify_177 rfl ?_
          refine aw_if_gt (tgt := 191) dJ29_treeify_179 (by decide) (fun c47 => ?_) (fun c47 => ?_)
          · rw [if_pos c47] at hq
            refine aw_aload dJ29_treeify_191 rfl (aIsR_rf _) ?_
            refine aw_aload_n (i := 3) dJ29_treeify_193 rfl rfl trivial ?_
            replace hq := obind hq
            obtain ⟨a48, e49, hq⟩ := hq
            subst e49
            replace hq := obind hq
            obtain ⟨h50, e51, hq⟩ := hq
            refine xw_put e51 fJ29_42 tJ29_8 (fits_rf _ (some a43)) dJ29_treeify_194 ?_
            exact p_x_J29_treeify_197 g hst N _ _ ih hK215 h50 x0 r1 r2 (some a43) r4 r5 x6 r7 r8 x9 x10 r11 (some a48) _ hq
          · rw [if_neg c47] at hq
            refine aw_aload dJ29_treeify_182 rfl (aIsR_rf _) ?_
            refine aw_aload_n (i := 3) dJ29_treeify_184 rfl rfl trivial ?_
            replace hq := obind hq
            obtain ⟨a54, e55, hq⟩ := hq
            subst e55
            replace hq := obind hq
            obtain ⟨h56, e57, hq⟩ := hq
            refine xw_put e57 fJ29_39 tJ29_7 (fits_rf _ (some a43)) dJ29_treeify_185 ?_
            refine aw_goto (tgt := 197) dJ29_treeify_188 (by decide) ?_
            exact p_x_J29_treeify_197 g hst N _ _ ih hK215 h56 x0 r1 r2 (some a43) r4 r5 x6 r7 r8 x9 x10 r11 (some a54) _ hq
def x_J29_treeify (g : AG) (N : Nat) (h : AH) (x0 : Nat) (r1 : Option Nat) : Option AH :=
  x_J29_treeify_4 g N (fun h x0 r1 r2 r3 => (x_J29_moveRootToFront g N h r1 r2).bind fun q58 => some q58) N h x0 r1 (none) (some x0)
theorem ct_J29_treeify (g : AG) (hst : (gL g).stackTraces = false) (N : Nat) : ∀ (h : AH) (x0 : Nat) (r1 : Option Nat) (q : AH), x_J29_treeify g N h x0 r1 = some q → CT g YJ29_treeify 10 [.ref x0, va_rf r1] h (xV q) := by
  intro h x0 r1 q hq
  refine CT.of rfl (by decide +kernel) (loc := [some (.ref x0), some (va_rf r1), none, none, none, none, none, none, none, none, none, none, none]) (by first | exact Nat.le_of_ble_eq_true rfl | (simp only [lgl_rf, lgl_i, lgl_j, lgl_ref, lgl_nil]; exact Nat.le_of_ble_eq_true rfl)) (by first | rfl | (simp only [aent_rf, aent_i, aent_j, aent_ref, aent_nil]; rfl)) ?_
  unfold x_J29_treeify at hq
  refine aw_null dJ29_treeify_0 ?_
  refine aw_astore_n (i := 2) (loc' := [some (.ref x0), some (va_rf r1), some (.null), none, none, none, none, none, none, none, none, none, none]) dJ29_treeify_1 rfl (Nat.le_of_ble_eq_true rfl) trivial (aset1_rf rfl) ?_
  refine aw_aload_n (i := 0) dJ29_treeify_2 rfl rfl trivial ?_
  refine aw_astore_n (i := 3) (loc' := [some (.ref x0), some (va_rf r1), some (.null), some (.ref x0), none, none, none, none, none, none, none, none, none]) dJ29_treeify_3 rfl (Nat.le_of_ble_eq_true rfl) trivial rfl ?_
  refine p_x_J29_treeify_4 g hst N _ ?_ N h x0 r1 (none) (some x0) _ hq
  · intro h x0 r1 r2 r3 q hq
    refine aw_aload_n (i := 1) dJ29_treeify_215 rfl rfl (aIsR_rf _) ?_
    refine aw_aload_n (i := 2) dJ29_treeify_216 rfl rfl (aIsR_rf _) ?_
    replace hq := obind hq
    obtain ⟨q58, e59, hq⟩ := hq
    refine aw_callS (Y2 := YJ29_moveRootToFront) (As := [va_rf r1, va_rf r2]) (rest := []) kJ29_moveRootToFront q1601 q1602 dJ29_treeify_217 rfl rfl (ct_J29_moveRootToFront g hst N h r1 r2 _ e59) (Nat.le_of_ble_eq_true rfl) (Nat.le_of_ble_eq_true rfl) (fun v9 h9 z9 y9 => ?_)
    obtain ⟨rfl, y9⟩ := y9
    rw [y9]
    refine aw_st (st' := []) rfl ?_
    cases hq
    exact aw_vret dJ29_treeify_220 rfl ⟨rfl, rfl⟩
