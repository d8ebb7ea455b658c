/-! THE COMPONENT AND THE JDK as functions of the heap, and their contracts: printed by wip gen/dec2.py -/
set_option maxRecDepth 100000
abbrev YJ29_split : YC := (yJ29_split, cJ29_split, 14, none, [])
theorem kJ29_split : aMk YJ29_split 4 := ⟨rfl, q1548, q156, ⟨by decide +kernel, by decide +kernel, by decide +kernel⟩, Nat.le_of_ble_eq_true rfl⟩
def x_J29_split_124 (g : AG) (N : Nat) (K25 : AH → Nat → Option Nat → Option Nat → Int32 → Int32 → Option Nat → Option Nat → Option Nat → Option Nat → Int32 → Int32 → Option Nat → Option AH) (K131 : AH → Nat → Option Nat → Option Nat → Int32 → Int32 → Option Nat → Option Nat → Option Nat → Option Nat → Int32 → Int32 → Option Nat → Option AH) (h : AH) (x0 : Nat) (r1 : Option Nat) (r2 : Option Nat) (x3 : Int32) (x4 : Int32) (r6 : Option Nat) (r7 : Option Nat) (r8 : Option Nat) (r9 : Option Nat) (x10 : Int32) (x11 : Int32) (r12 : Option Nat) (r13 : Option Nat) : Option AH :=
  K25 h x0 r1 r2 x3 x4 r6 r7 r8 r9 x10 x11 r13
theorem p_x_J29_split_124 (g : AG) (hst : (gL g).stackTraces = false) (N : Nat) (K25 : AH → Nat → Option Nat → Option Nat → Int32 → Int32 → Option Nat → Option Nat → Option Nat → Option Nat → Int32 → Int32 → Option Nat → Option AH) (K131 : AH → Nat → Option Nat → Option Nat → Int32 → Int32 → Option Nat → Option Nat → Option Nat → Option Nat → Int32 → Int32 → Option Nat → Option AH) (hK25 : ∀ (h : AH) (x0 : Nat) (r1 : Option Nat) (r2 : Option Nat) (x3 : Int32) (x4 : Int32) (r6 : Option Nat) (r7 : Option Nat) (r8 : Option Nat) (r9 : Option Nat) (x10 : Int32) (x11 : Int32) (r12 : Option Nat) (q : AH), K25 h x0 r1 r2 x3 x4 r6 r7 r8 r9 x10 x11 r12 = some q → AW g YJ29_split 11 (xV q) h [some (.ref x0), some (va_rf r1), some (va_rf r2), some (.int x3), some (.int x4), some (.ref x0), some (va_rf r6), some (va_rf r7), some (va_rf r8), some (va_rf r9), some (.int x10), some (.int x11), some (va_rf r12), none] 25 []) (hK131 : ∀ (h : AH) (x0 : Nat) (r1 : Option Nat) (r2 : Option Nat) (x3 : Int32) (x4 : Int32) (r6 : Option Nat) (r7 : Option Nat) (r8 : Option Nat) (r9 : Option Nat) (x10 : Int32) (x11 : Int32) (r12 : Option Nat) (q : AH), K131 h x0 r1 r2 x3 x4 r6 r7 r8 r9 x10 x11 r12 = some q → AW g YJ29_split 11 (xV q) h [some (.ref x0), some (va_rf r1), some (va_rf r2), some (.int x3), some (.int x4), some (.ref x0), some (va_rf r6), some (va_rf r7), some (va_rf r8), some (va_rf r9), some (.int x10), some (.int x11), some (va_rf r12), none] 131 []) : ∀ (h : AH) (x0 : Nat) (r1 : Option Nat) (r2 : Option Nat) (x3 : Int32) (x4 : Int32) (r6 : Option Nat) (r7 : Option Nat) (r8 : Option Nat) (r9 : Option Nat) (x10 : Int32) (x11 : Int32) (r12 : Option Nat) (r13 : Option Nat) (q : AH), x_J29_split_124 g N K25 K131 h x0 r1 r2 x3 x4 r6 r7 r8 r9 x10 x11 r12 r13 = some q → AW g YJ29_split 11 (xV q) h [some (.ref x0), some (va_rf r1), some (va_rf r2), some (.int x3), some (.int x4), some (.ref x0), some (va_rf r6), some (va_rf r7), some (va_rf r8), some (va_rf r9), some (.int x10), some (.int x11), some (va_rf r12), some (va_rf r13)] 124 [] := by
  intro h x0 r1 r2 x3 x4 r6 r7 r8 r9 x10 x11 r12 r13 q hq
  unfold x_J29_split_124 at hq
  refine aw_aload dJ29_split_124 rfl (aIsR_rf _) ?_
  refine aw_astore (loc' := [some (.ref x0), some (va_rf r1), some (va_rf r2), some (.int x3), some (.int x4), some (.ref x0), some (va_rf r6), some (va_rf r7), some (va_rf r8), some (va_rf r9), some (.int x10), some (.int x11), some (va_rf r13), some (va_rf r13)]) dJ29_split_126 (Nat.le_of_ble_eq_true rfl) (aIsR_rf _) rfl ?_
  refine aw_goto (tgt := 25) dJ29_split_128 (by decide) ?_
  refine aw_subl (loc' := [some (.ref x0), some (va_rf r1), some (va_rf r2), some (.int x3), some (.int x4), some (.ref x0), some (va_rf r6), some (va_rf r7), some (va_rf r8), some (va_rf r9), some (.int x10), some (.int x11), some (va_rf r13), none]) ⟨Or.inr rfl, Or.inr rfl, Or.inr rfl, Or.inr rfl, Or.inr rfl, Or.inr rfl, Or.inr rfl, Or.inr rfl, Or.inr rfl, Or.inr rfl, Or.inr rfl, Or.inr rfl, Or.inr rfl, Or.inl rfl, trivial⟩ ?_
  exact hK25 h x0 r1 r2 x3 x4 r6 r7 r8 r9 x10 x11 r13 _ hq
def x_J29_split_117 (g : AG) (N : Nat) (K25 : AH → Nat → Option Nat → Option Nat → Int32 → Int32 → Option Nat → Option Nat → Option Nat → Option Nat → Int32 → Int32 → Option Nat → Option AH) (K131 : AH → Nat → Option Nat → Option Nat → Int32 → Int32 → Option Nat → Option Nat → Option Nat → Option Nat → Int32 → Int32 → Option Nat → Option AH) (h : AH) (x0 : Nat) (r1 : Option Nat) (r2 : Option Nat) (x3 : Int32) (x4 : Int32) (r6 : Option Nat) (r7 : Option Nat) (r8 : Option Nat) (r9 : Option Nat) (x10 : Int32) (x11 : Int32) (r12 : Option Nat) (r13 : Option Nat) : Option AH :=
  x_J29_split_124 g N K25 K131 h x0 r1 r2 x3 x4 r6 r7 r8 r12 x10 (x11 + 1) r12 r13
theorem p_x_J29_split_117 (g : AG) (hst : (gL g).stackTraces = false) (N : Nat) (K25 : AH → Nat → Option Nat → Option Nat → Int32 → Int32 → Option Nat → Option Nat → Option Nat → Option Nat → Int32 → Int32 → Option Nat → Option AH) (K131 : AH → Nat → Option Nat → Option Nat → Int32 → Int32 → Option Nat → Option Nat → Option Nat → Option Nat → Int32 → Int32 → Option Nat → Option AH) (hK25 : ∀ (h : AH) (x0 : Nat) (r1 : Option Nat) (r2 : Option Nat) (x3 : Int32) (x4 : Int32) (r6 : Option Nat) (r7 : Option Nat) (r8 : Option Nat) (r9 : Option Nat) (x10 : Int32) (x11 : Int32) (r12 : Option Nat) (q : AH), K25 h x0 r1 r2 x3 x4 r6 r7 r8 r9 x10 x11 r12 = some q → AW g YJ29_split 11 (xV q) h [some (.ref x0), some (va_rf r1), some (va_rf r2), some (.int x3), some (.int x4), some (.ref x0), some (va_rf r6), some (va_rf r7), some (va_rf r8), some (va_rf r9), some (.int x10), some (.int x11), some (va_rf r12), none] 25 []) (hK131 : ∀ (h : AH) (x0 : Nat) (r1 : Option Nat) (r2 : Option Nat) (x3 : Int32) (x4 : Int32) (r6 : Option Nat) (r7 : Option Nat) (r8 : Option Nat) (r9 : Option Nat) (x10 : Int32) (x11 : Int32) (r12 : Option Nat) (q : AH), K131 h x0 r1 r2 x3 x4 r6 r7 r8 r9 x10 x11 r12 = some q → AW g YJ29_split 11 (xV q) h [some (.ref x0), some (va_rf r1), some (va_rf r2), some (.int x3), some (.int x4), some (.ref x0), some (va_rf r6), some (va_rf r7), some (va_rf r8), some (va_rf r9), some (.int x10), some (.int x11), some (va_rf r12), none] 131 []) : ∀ (h : AH) (x0 : Nat) (r1 : Option Nat) (r2 : Option Nat) (x3 : Int32) (x4 : Int32) (r6 : Option Nat) (r7 : Option Nat) (r8 : Option Nat) (r9 : Option Nat) (x10 : Int32) (x11 : Int32) (r12 : Option Nat) (r13 : Option Nat) (q : AH), x_J29_split_117 g N K25 K131 h x0 r1 r2 x3 x4 r6 r7 r8 r9 x10 x11 r12 r13 = some q → AW g YJ29_split 11 (xV q) h [some (.ref x0), some (va_rf r1), some (va_rf r2), some (.int x3), some (.int x4), some (.ref x0), some (va_rf r6), some (va_rf r7), some (va_rf r8), some (va_rf r9), some (.int x10), some (.int x11), some (va_rf r12), some (va_rf r13)] 117 [] := by
  intro h x0 r1 r2 x3 x4 r6 r7 r8 r9 x10 x11 r12 r13 q hq
  unfold x_J29_split_117 at hq
  refine aw_aload dJ29_split_117 rfl (aIsR_rf _) ?_
  refine aw_astore (loc' := [some (.ref x0), some (va_rf r1), some (va_rf r2), some (.int x3), some (.int x4), some (.ref x0), some (va_rf r6), some (va_rf r7), some (va_rf r8), some (va_rf r12), some (.int x10), some (.int x11), some (va_rf r12), some (va_rf r13)]) dJ29_split_119 (Nat.le_of_ble_eq_true rfl) (aIsR_rf _) (aset1_rf rfl) ?_
  refine aw_iinc (v := x11 + 1) (loc' := [some (.ref x0), some (va_rf r1), some (va_rf r2), some (.int x3), some (.int x4), some (.ref x0), some (va_rf r6), some (va_rf r7), some (va_rf r8), some (va_rf r12), some (.int x10), some (.int (x11 + 1)), some (va_rf r12), some (va_rf r13)]) dJ29_split_121 rfl rfl (Nat.le_of_ble_eq_true rfl) rfl ?_
  exact p_x_J29_split_124 g hst N _ _ hK25 hK131 h x0 r1 r2 x3 x4 r6 r7 r8 r12 x10 (x11 + 1) r12 r13 _ hq
def x_J29_split_82 (g : AG) (N : Nat) (K25 : AH → Nat → Option Nat → Option Nat → Int32 → Int32 → Option Nat → Option Nat → Option Nat → Option Nat → Int32 → Int32 → Option Nat → Option AH) (K131 : AH → Nat → Option Nat → Option Nat → Int32 → Int32 → Option Nat → Option Nat → Option Nat → Option Nat → Int32 → Int32 → Option Nat → Option AH) (h : AH) (x0 : Nat) (r1 : Option Nat) (r2 : Option Nat) (x3 : Int32) (x4 : Int32) (r6 : Option Nat) (r7 : Option Nat) (r8 : Option Nat) (r9 : Option Nat) (x10 : Int32) (x11 : Int32) (r12 : Option Nat) (r13 : Option Nat) : Option AH :=
  x_J29_split_124 g N K25 K131 h x0 r1 r2 x3 x4 r6 r12 r8 r9 (x10 + 1) x11 r12 r13
theorem p_x_J29_split_82 (g : AG) (hst : (gL g).stackTraces = false) (N : Nat) (K25 : AH → Nat → Option Nat → Option Nat → Int32 → Int32 → Option Nat → Option Nat → Option Nat → Option Nat → Int32 → Int32 → Option Nat → Option AH) (K131 : AH → Nat → Option Nat → Option Nat → Int32 → Int32 → Option Nat → Option Nat → Option Nat → Option Nat → Int32 → Int32 → Option Nat → Option AH) (hK25 : ∀ (h : AH) (x0 : Nat) (r1 : Option Nat) (r2 : Option Nat) (x3 : Int32) (x4 : Int32) (r6 : Option Nat) (r7 : Option Nat) (r8 : Option Nat) (r9 : Option Nat) (x10 : Int32) (x11 : Int32) (r12 : Option Nat) (q : AH), K25 h x0 r1 r2 x3 x4 r6 r7 r8 r9 x10 x11 r12 = some q → AW g YJ29_split 11 (xV q) h [some (.ref x0), some (va_rf r1), some (va_rf r2), some (.int x3), some (.int x4), some (.ref x0), some (va_rf r6), some (va_rf r7), some (va_rf r8), some (va_rf r9), some (.int x10), some (.int x11), some (va_rf r12), none] 25 []) (hK131 : ∀ (h : AH) (x0 : Nat) (r1 : Option Nat) (r2 : Option Nat) (x3 : Int32) (x4 : Int32) (r6 : Option Nat) (r7 : Option Nat) (r8 : Option Nat) (r9 : Option Nat) (x10 : Int32) (x11 : Int32) (r12 : Option Nat) (q : AH), K131 h x0 r1 r2 x3 x4 r6 r7 r8 r9 x10 x11 r12 = some q → AW g YJ29_split 11 (xV q) h [some (.ref x0), some (va_rf r1), some (va_rf r2), some (.int x3), some (.int x4), some (.ref x0), some (va_rf r6), some (va_rf r7), some (va_rf r8), some (va_rf r9), some (.int x10), some (.int x11), some (va_rf r12), none] 131 []) : ∀ (h : AH) (x0 : Nat) (r1 : Option Nat) (r2 : Option Nat) (x3 : Int32) (x4 : Int32) (r6 : Option Nat) (r7 : Option Nat) (r8 : Option Nat) (r9 : Option Nat) (x10 : Int32) (x11 : Int32) (r12 : Option Nat) (r13 : Option Nat) (q : AH), x_J29_split_82 g N K25 K131 h x0 r1 r2 x3 x4 r6 r7 r8 r9 x10 x11 r12 r13 = some q → AW g YJ29_split 11 (xV q) h [some (.ref x0), some (va_rf r1), some (va_rf r2), some (.int x3), some (.int x4), some (.ref x0), some (va_rf r6), some (va_rf r7), some (va_rf r8), some (va_rf r9), some (.int x10), some (.int x11), some (va_rf r12), some (va_rf r13)] 82 [] := by
  intro h x0 r1 r2 x3 x4 r6 r7 r8 r9 x10 x11 r12 r13 q hq
  unfold x_J29_split_82 at hq
  refine aw_aload dJ29_split_82 rfl (aIsR_rf _) ?_
  refine aw_astore (loc' := [some (.ref x0), some (va_rf r1), some (va_rf r2), some (.int x3), some (.int x4), some (.ref x0), some (va_rf r6), some (va_rf r12), some (va_rf r8), some (va_rf r9), some (.int x10), some (.int x11), some (va_rf r12), some (va_rf r13)]) dJ29_split_84 (Nat.le_of_ble_eq_true rfl) (aIsR_rf _) (aset1_rf rfl) ?_
  refine aw_iinc (v := x10 + 1) (loc' := [some (.ref x0), some (va_rf r1), some (va_rf r2), some (.int x3), some (.int x4), some (.ref x0), some (va_rf r6), some (va_rf r12), some (va_rf r8), some (va_rf r9), some (.int (x10 + 1)), some (.int x11), some (va_rf r12), some (va_rf r13)]) dJ29_split_86 rfl rfl (Nat.le_of_ble_eq_true rfl) (aset1_rf rfl) ?_
  refine aw_goto (tgt := 124) dJ29_split_89 (by decide) ?_
  exact p_x_J29_split_124 g hst N _ _ hK25 hK131 h x0 r1 r2 x3 x4 r6 r12 r8 r9 (x10 + 1) x11 r12 r13 _ hq
def x_J29_split_25 (g : AG) (N : Nat) (K131 : AH → Nat → Option Nat → Option Nat → Int32 → Int32 → Option Nat → Option Nat → Option Nat → Option Nat → Int32 → Int32 → Option Nat → Option AH) : Nat → AH → Nat → Option Nat → Option Nat → Int32 → Int32 → Option Nat → Option Nat → Option Nat → Option Nat → Int32 → Int32 → Option Nat → Option AH
  | 0, _, _, _, _, _, _, _, _, _, _, _, _, _ => none
  | n9 + 1, h, x0, r1, r2, x3, x4, r6, r7, r8, r9, x10, x11, r12 =>
  ocase r12 (K131 h x0 r1 r2 x3 x4 r6 r7 r8 r9 x10 x11 (none)) (fun a1 => (rdR h a1 [(12, 5)]).bind fun o2 => bif casB h o2 [12] then ((wrV g h a1 [(12, 5)] (.null)).bind fun h5 => (rdI h5 a1 [(12, 2)]).bind fun i7 => if (i7 &&& x4) = 0 then ((wrV g h5 a1 [(12, 9)] (va_rf r7)).bind fun h15 => ocase r7 (x_J29_split_82 g N (fun h x0 r1 r2 x3 x4 r6 r7 r8 r9 x10 x11 r12 => x_J29_split_25 g N K131 n9 h x0 r1 r2 x3 x4 r6 r7 r8 r9 x10 x11 r12) K131 h15 x0 r1 r2 x3 x4 (some a1) (none) r8 r9 x10 x11 (some a1) o2) (fun a17 => (wrV g h15 a17 [(12, 5)] (.ref a1)).bind fun h18 => x_J29_split_82 g N (fun h x0 r1 r2 x3 x4 r6 r7 r8 r9 x10 x11 r12 => x_J29_split_25 g N K131 n9 h x0 r1 r2 x3 x4 r6 r7 r8 r9 x10 x11 r12) K131 h18 x0 r1 r2 x3 x4 r6 (some a17) r8 r9 x10 x11 (some a1) o2)) else ((wrV g h5 a1 [(12, 9)] (va_rf r9)).bind fun h10 => ocase r9 (x_J29_split_117 g N (fun h x0 r1 r2 x3 x4 r6 r7 r8 r9 x10 x11 r12 => x_J29_split_25 g N K131 n9 h x0 r1 r2 x3 x4 r6 r7 r8 r9 x10 x11 r12) K131 h10 x0 r1 r2 x3 x4 r6 r7 (some a1) (none) x10 x11 (some a1) o2) (fun a12 => (wrV g h10 a12 [(12, 5)] (.ref a1)).bind fun h13 => x_J29_split_117 g N (fun h x0 r1 r2 x3 x4 r6 r7 r8 r9 x10 x11 r12 => x_J29_split_25 g N K131 n9 h x0 r1 r2 x3 x4 r6 r7 r8 r9 x10 x11 r12) K131 h13 x0 r1 r2 x3 x4 r6 r7 r8 (some a12) x10 x11 (some a1) o2))) else none)
theorem p_x_J29_split_25 (g : AG) (hst : (gL g).stackTraces = false) (N : Nat) (K131 : AH → Nat → Option Nat → Option Nat → Int32 → Int32 → Option Nat → Option Nat → Option Nat → Option Nat → Int32 → Int32 → Option Nat → Option AH) (hK131 : ∀ (h : AH) (x0 : Nat) (r1 : Option Nat) (r2 : Option Nat) (x3 : Int32) (x4 : Int32) (r6 : Option Nat) (r7 : Option Nat) (r8 : Option Nat) (r9 : Option Nat) (x10 : Int32) (x11 : Int32) (r12 : Option Nat) (q : AH), K131 h x0 r1 r2 x3 x4 r6 r7 r8 r9 x10 x11 r12 = some q → AW g YJ29_split 11 (xV q) h [some (.ref x0), some (va_rf r1), some (va_rf r2), some (.int x3), some (.int x4), some (.ref x0), some (va_rf r6), some (va_rf r7), some (va_rf r8), some (va_rf r9), some (.int x10), some (.int x11), some (va_rf r12), none] 131 []) : ∀ (n9 : Nat) (h : AH) (x0 : Nat) (r1 : Option Nat) (r2 : Option Nat) (x3 : Int32) (x4 : Int32) (r6 : Option Nat) (r7 : Option Nat) (r8 : Option Nat) (r9 : Option Nat) (x10 : Int32) (x11 : Int32) (r12 : Option Nat) (q : AH), x_J29_split_25 g N K131 n9 h x0 r1 r2 x3 x4 r6 r7 r8 r9 x10 x11 r12 = some q → AW g YJ29_split 11 (xV q) h [some (.ref x0), some (va_rf r1), some (va_rf r2), some (.int x3), some (.int x4), some (.ref x0), some (va_rf r6), some (va_rf r7), some (va_rf r8), some (va_rf r9), some (.int x10), some (.int x11), some (va_rf r12), none] 25 [] := by
  intro n9
  induction n9 with
  | zero =>
    intro h x0 r1 r2 x3 x4 r6 r7 r8 r9 x10 x11 r12 q hq
    cases hq
  | succ n9 ih =>
    intro h x0 r1 r2 x3 x4 r6 r7 r8 r9 x10 x11 r12 q hq
    rw [x_J29_split_25] at hq
    refine aw_aload dJ29_split_25 rfl (aIsR_rf _) ?_
    rcases r12 with _ | a1
    · replace hq := ocase_n hq
      refine xw_ifnullN (tgt := 131) dJ29_split_27 (by decide) ?_
      exact hK131 h x0 r1 r2 x3 x4 r6 r7 r8 r9 x10 x11 (none) _ hq
    · replace hq := ocase_s hq
      refine xw_ifnullS (tgt := 131) dJ29_split_27 (by decide) ?_
      refine aw_aload dJ29_split_30 rfl trivial ?_
      replace hq := obind hq
      obtain ⟨o2, e3, hq⟩ := hq
      refine xw_getR e3 fJ29_22 dJ29_split_32 ?_
      replace hq := cond_t hq
      obtain ⟨z4, hq⟩ := hq
      refine xw_cast (r := o2) z4 q1549 casjava_util_HashMap_TreeNode dJ29_split_35 ?_
      refine aw_astore (loc' := [some (.ref x0), some (va_rf r1), some (va_rf r2), some (.int x3), some (.int x4), some (.ref x0), some (va_rf r6), some (va_rf r7), some (va_rf r8), some (va_rf r9), some (.int x10), some (.int x11), some (.ref a1), some (va_rf o2)]) dJ29_split_38 (Nat.le_of_ble_eq_true rfl) (aIsR_rf _) rfl ?_
      refine aw_aload dJ29_split_40 rfl trivial ?_
      refine aw_null dJ29_split_42 ?_
      replace hq := obind hq
      obtain ⟨h5, e6, hq⟩ := hq
      refine xw_put e6 fJ29_22 tJ29_5 (fits_rf _ (none)) dJ29_split_43 ?_
      refine aw_aload dJ29_split_46 rfl trivial ?_
      replace hq := obind hq
      obtain ⟨i7, e8, hq⟩ := hq
      refine xw_getI e8 fJ29_15 dJ29_split_48 ?_
      refine aw_iload dJ29_split_51 rfl ?_
      refine aw_iand dJ29_split_53 ?_
      refine aw_if_ne (tgt := 92) dJ29_split_54 (by decide) (fun c9 => ?_) (fun c9 => ?_)
      · rw [if_neg c9] at hq
        refine aw_aload dJ29_split_92 rfl trivial ?_
        refine aw_aload dJ29_split_94 rfl (aIsR_rf _) ?_
        refine aw_dup_x1 dJ29_split_96 (cat_rf _) rfl ?_
        replace hq := obind hq
        obtain ⟨h10, e11, hq⟩ := hq
        refine xw_put e11 fJ29_19 tJ29_9 (fits_rf _ r9) dJ29_split_97 ?_
        rcases r9 with _ | a12
        · replace hq := ocase_n hq
          refine xw_ifnonN (tgt := 110) dJ29_split_100 (by decide) ?_
          refine aw_aload dJ29_split_103 rfl trivial ?_
          refine aw_astore (loc' := [some (.ref x0), some (va_rf r1), some (va_rf r2), some (.int x3), some (.int x4), some (.ref x0), some (va_rf r6), some (va_rf r7), some (.ref a1), some (.null), some (.int x10), some (.int x11), some (.ref a1), some (va_rf o2)]) dJ29_split_105 (Nat.le_of_ble_eq_true rfl) trivial (aset1_rf rfl) ?_
          refine aw_goto (tgt := 117) dJ29_split_107 (by decide) ?_
          exact p_x_J29_split_117 g hst N _ _ ih hK131 h10 x0 r1 r2 x3 x4 r6 r7 (some a1) (none) x10 x11 (some a1) o2 _ hq
        · replace hq := ocase_s hq
          refine xw_ifnonS (tgt := 110) dJ29_split_100 (by decide) ?_
          refine aw_aload dJ29_split_110 rfl trivial ?_
          refine aw_aload dJ29_split_112 rfl trivial ?_
          replace hq := obind hq
          obtain ⟨h13, e14, hq⟩ := hq
          refine xw_put e14 fJ29_22 tJ29_5 (fits_rf _ (some a1)) dJ29_split_114 ?_
          exact p_x_J29_split_117 g hst N _ _ ih hK131 h13 x0 r1 r2 x3 x4 r6 r7 r8 (some a12) x10 x11 (some a1) o2 _ hq
      · rw [if_pos c9] at hq
        refine aw_aload dJ29_split_57 rfl trivial ?_
        refine aw_aload dJ29_split_59 rfl (aIsR_rf _) ?_
        refine aw_dup_x1 dJ29_split_61 (cat_rf _) rfl ?_
        replace hq := obind hq
        obtain ⟨h15, e16, hq⟩ := hq
        refine xw_put e16 fJ29_19 tJ29_9 (fits_rf _ r7) dJ29_split_62 ?_
        rcases r7 with _ | a17
        · replace hq := ocase_n hq
          refine xw_ifnonN (tgt := 75) dJ29_split_65 (by decide) ?_
          refine aw_aload dJ29_split_68 rfl trivial ?_
          refine aw_astore (loc' := [some (.ref x0), some (va_rf r1), some (va_rf r2), some (.int x3), some (.int x4), some (.ref x0), some (.ref a1), some (.null), some (va_rf r8), some (va_rf r9), some (.int x10), some (.int x11), some (.ref a1), some (va_rf o2)]) dJ29_split_70 (Nat.le_of_ble_eq_true rfl) trivial rfl ?_
          refine aw_goto (tgt := 82) dJ29_split_72 (by decide) ?_
          exact p_x_J29_split_82 g hst N _ _ ih hK131 h15 x0 r1 r2 x3 x4 (some a1) (none) r8 r9 x10 x11 (some a1) o2 _ hq
        · replace hq := ocase_s hq
          refine xw_ifnonS (tgt := 75) dJ29_split_65 (by decide) ?_
          refine aw_aload dJ29_split_75 rfl trivial ?_
          refine aw_aload dJ29_split_77 rfl trivial ?_
          replace hq := obind hq
          obtain ⟨h18, e19, hq⟩ := hq
          refine xw_put e19 fJ29_22 tJ29_5 (fits_rf _ (some a1)) dJ29_split_79 ?_
          exact p_x_J29_split_82 g hst N _ _ ih hK131 h18 x0 r1 r2 x3 x4 r6 (some a17) r8 r9 x10 x11 (some a1) o2 _ hq
def x_J29_split_171 (g : AG) (N : Nat) (h : AH) (x0 : Nat) (r1 : Option Nat) (r2 : Option Nat) (x3 : Int32) (x4 : Int32) (r6 : Option Nat) (r7 : Option Nat) (r8 : Option Nat) (r9 : Option Nat) (x10 : Int32) (x11 : Int32) (r12 : Option Nat) : Option AH :=
  ocase r8 (some h) (fun a21 => if (6 : Int32) < x11 then ((r2).bind fun a23 => (wrQ g h a23 (x3 + x4) (some a21)).bind fun h25 => ocase r6 (some h25) (fun a27 => bif clB h25 a21 [12] then ((x_J29_treeify g N h25 a21 (some a23)).bind fun q29 => some q29) else none)) else (bif clB h a21 [12] then ((x_J29_untreeify g N h a21 r1).bind fun q32 => (r2).bind fun a34 => (wrQ g q32.2 a34 (x3 + x4) q32.1).bind fun h36 => some h36) else none))
theorem p_x_J29_split_171 (g : AG) (hst : (gL g).stackTraces = false) (N : Nat) : ∀ (h : AH) (x0 : Nat) (r1 : Option Nat) (r2 : Option Nat) (x3 : Int32) (x4 : Int32) (r6 : Option Nat) (r7 : Option Nat) (r8 : Option Nat) (r9 : Option Nat) (x10 : Int32) (x11 : Int32) (r12 : Option Nat) (q : AH), x_J29_split_171 g N h x0 r1 r2 x3 x4 r6 r7 r8 r9 x10 x11 r12 = some q → AW g YJ29_split 11 (xV q) h [some (.ref x0), some (va_rf r1), some (va_rf r2), some (.int x3), some (.int x4), some (.ref x0), some (va_rf r6), some (va_rf r7), some (va_rf r8), some (va_rf r9), some (.int x10), some (.int x11), some (va_rf r12), none] 171 [] := by
  intro h x0 r1 r2 x3 x4 r6 r7 r8 r9 x10 x11 r12 q hq
  unfold x_J29_split_171 at hq
  refine aw_aload dJ29_split_171 rfl (aIsR_rf _) ?_
  rcases r8 with _ | a21
  · replace hq := ocase_n hq
    refine xw_ifnullN (tgt := 217) dJ29_split_173 (by decide) ?_
    cases hq
    exact aw_vret dJ29_split_217 rfl ⟨rfl, rfl⟩
  · replace hq := ocase_s hq
    refine xw_ifnullS (tgt := 217) dJ29_split_173 (by decide) ?_
    refine aw_iload dJ29_split_176 rfl ?_
    refine aw_bipush (v := 6) dJ29_split_178 (by decide) ?_
    refine aw_icmp_gt (tgt := 198) dJ29_split_180 (by decide) (fun c22 => ?_) (fun c22 => ?_)
    · rw [if_pos c22] at hq
      refine aw_aload_n (i := 2) dJ29_split_198 rfl rfl (aIsR_rf _) ?_
      refine aw_iload_n (i := 3) dJ29_split_199 rfl rfl ?_
      refine aw_iload dJ29_split_200 rfl ?_
      refine aw_iadd dJ29_split_202 ?_
      refine aw_aload dJ29_split_203 rfl trivial ?_
      replace hq := obind hq
      obtain ⟨a23, e24, hq⟩ := hq
      subst e24
      replace hq := obind hq
      obtain ⟨h25, e26, hq⟩ := hq
      refine xw_aast (v := (some a21)) e26 dJ29_split_205 ?_
      refine aw_aload dJ29_split_206 rfl (aIsR_rf _) ?_
      rcases r6 with _ | a27
      · replace hq := ocase_n hq
        refine xw_ifnullN (tgt := 217) dJ29_split_208 (by decide) ?_
        cases hq
        exact aw_vret dJ29_split_217 rfl ⟨rfl, rfl⟩
      · replace hq := ocase_s hq
        refine xw_ifnullS (tgt := 217) dJ29_split_208 (by decide) ?_
        refine aw_aload dJ29_split_211 rfl trivial ?_
        refine aw_aload_n (i := 2) dJ29_split_213 rfl rfl trivial ?_
        replace hq := cond_t hq
        obtain ⟨z28, hq⟩ := hq
        obtain ⟨fs9, ha9⟩ := clB1 z28
        replace hq := obind hq
        obtain ⟨q29, e30, hq⟩ := hq
        refine aw_callV (Y2 := YJ29_treeify) (As := [.ref a23]) (rest := []) (r := (RJ29, TJ29, 11)) kJ29_treeify ha9 rfl rfl q1588 q1589 q1590 dJ29_split_214 rfl rfl (ct_J29_treeify g hst N h25 a21 (some a23) _ e30) (Nat.le_of_ble_eq_true rfl) (Nat.le_of_ble_eq_true rfl) (fun v9 h9 z9 y9 => ?_)
        obtain ⟨rfl, y9⟩ := y9
        rw [y9]
        refine aw_st (st' := []) rfl ?_
        cases hq
        exact aw_vret dJ29_split_217 rfl ⟨rfl, rfl⟩
    · rw [if_neg c22] at hq
      refine aw_aload_n (i := 2) dJ29_split_183 rfl rfl (aIsR_rf _) ?_
      refine aw_iload_n (i := 3) dJ29_split_184 rfl rfl ?_
      refine aw_iload dJ29_split_185 rfl ?_
      refine aw_iadd dJ29_split_187 ?_
      refine aw_aload dJ29_split_188 rfl trivial ?_
      refine aw_aload_n (i := 1) dJ29_split_190 rfl rfl (aIsR_rf _) ?_
      replace hq := cond_t hq
      obtain ⟨z31, hq⟩ := hq
      obtain ⟨fs9, ha9⟩ := clB1 z31
      replace hq := obind hq
      obtain ⟨q32, e33, hq⟩ := hq
      refine aw_callV (Y2 := YJ29_untreeify) (As := [va_rf r1]) (rest := [.int (x3 + x4), va_rf r2]) (r := (RJ29, TJ29, 11)) kJ29_untreeify ha9 rfl rfl q1550 q1551 q1552 dJ29_split_191 rfl rfl (ct_J29_untreeify g hst N h a21 r1 _ e33) (Nat.le_of_ble_eq_true rfl) (by simp only [List.map_cons, List.map_nil, List.sum_cons, List.sum_nil, cat_rf]; exact Nat.le_of_ble_eq_true rfl) (fun v9 h9 z9 y9 => ?_)
      obtain ⟨rfl, rfl⟩ := y9
      refine aw_st (st' := [va_rf q32.1, .int (x3 + x4), va_rf r2]) rfl ?_
      replace hq := obind hq
      obtain ⟨a34, e35, hq⟩ := hq
      subst e35
      replace hq := obind hq
      obtain ⟨h36, e37, hq⟩ := hq
      refine xw_aast (v := q32.1) e37 dJ29_split_194 ?_
      refine aw_goto (tgt := 217) dJ29_split_195 (by decide) ?_
      cases hq
      exact aw_vret dJ29_split_217 rfl ⟨rfl, rfl⟩
def x_J29_split (g : AG) (N : Nat) (h : AH) (x0 : Nat) (r1 : Option Nat) (r2 : Option Nat) (x3 : Int32) (x4 : Int32) : Option AH :=
  x_J29_split_25 g N (fun h x0 r1 r2 x3 x4 r6 r7 r8 r9 x10 x11 r12 => ocase r6 (x_J29_split_171 g N  h x0 r1 r2 x3 x4 (none) r7 r8 r9 x10 x11 r12) (fun a20 => if (6 : Int32) < x10 then ((r2).bind fun a39 => (wrQ g h a39 x3 (some a20)).bind fun h41 => ocase r8 (x_J29_split_171 g N  h41 x0 r1 (some a39) x3 x4 (some a20) r7 (none) r9 x10 x11 r12) (fun a43 => bif clB h41 a20 [12] then ((x_J29_treeify g N h41 a20 (some a39)).bind fun q45 => x_J29_split_171 g N  q45 x0 r1 (some a39) x3 x4 (some a20) r7 (some a43) r9 x10 x11 r12) else none)) else (bif clB h a20 [12] then ((x_J29_untreeify g N h a20 r1).bind fun q48 => (r2).bind fun a50 => (wrQ g q48.2 a50 x3 q48.1).bind fun h52 => x_J29_split_171 g N  h52 x0 r1 (some a50) x3 x4 (some a20) r7 r8 r9 x10 x11 r12) else none))) N h x0 r1 r2 x3 x4 (none) (none) (none) (none) (0 : Int32) (0 : Int32) (some x0)
theorem ct_J29_split (g : AG) (hst : (gL g).stackTraces = false) (N : Nat) : ∀ (h : AH) (x0 : Nat) (r1 : Option Nat) (r2 : Option Nat) (x3 : Int32) (x4 : Int32) (q : AH), x_J29_split g N h x0 r1 r2 x3 x4 = some q → CT g YJ29_split 11 [.ref x0, va_rf r1, va_rf r2, .int x3, .int x4] h (xV q) := by
  intro h x0 r1 r2 x3 x4 q hq
  refine CT.of rfl (by decide +kernel) (loc := [some (.ref x0), some (va_rf r1), some (va_rf r2), some (.int x3), some (.int x4), none, none, none, none, none, none, none, none, none]) (by first | exact Nat.le_of_ble_eq_true rfl | (simp only [lgl_rf, lgl_i, lgl_j, lgl_ref, lgl_nil]; exact Nat.le_of_ble_eq_true rfl)) (by first | rfl | (simp only [aent_rf, aent_i, aent_j, aent_ref, aent_nil]; rfl)) ?_
  unfold x_J29_split at hq
  refine aw_aload_n (i := 0) dJ29_split_0 rfl rfl trivial ?_
  refine aw_astore (loc' := [some (.ref x0), some (va_rf r1), some (va_rf r2), some (.int x3), some (.int x4), some (.ref x0), none, none, none, none, none, none, none, none]) dJ29_split_1 (Nat.le_of_ble_eq_true rfl) trivial rfl ?_
  refine aw_null dJ29_split_3 ?_
  refine aw_astore (loc' := [some (.ref x0), some (va_rf r1), some (va_rf r2), some (.int x3), some (.int x4), some (.ref x0), some (.null), none, none, none, none, none, none, none]) dJ29_split_4 (Nat.le_of_ble_eq_true rfl) trivial rfl ?_
  refine aw_null dJ29_split_6 ?_
  refine aw_astore (loc' := [some (.ref x0), some (va_rf r1), some (va_rf r2), some (.int x3), some (.int x4), some (.ref x0), some (.null), some (.null), none, none, none, none, none, none]) dJ29_split_7 (Nat.le_of_ble_eq_true rfl) trivial rfl ?_
  refine aw_null dJ29_split_9 ?_
  refine aw_astore (loc' := [some (.ref x0), some (va_rf r1), some (va_rf r2), some (.int x3), some (.int x4), some (.ref x0), some (.null), some (.null), some (.null), none, none, none, none, none]) dJ29_split_10 (Nat.le_of_ble_eq_true rfl) trivial rfl ?_
  refine aw_null dJ29_split_12 ?_
  refine aw_astore (loc' := [some (.ref x0), some (va_rf r1), some (va_rf r2), some (.int x3), some (.int x4), some (.ref x0), some (.null), some (.null), some (.null), some (.null), none, none, none, none]) dJ29_split_13 (Nat.le_of_ble_eq_true rfl) trivial rfl ?_
  refine aw_iconst (v := 0) dJ29_split_15 (by decide) ?_
  refine aw_istore (loc' := [some (.ref x0), some (va_rf r1), some (va_rf r2), some (.int x3), some (.int x4), some (.ref x0), some (.null), some (.null), some (.null), some (.null), some (.int (0 : Int32)), none, none, none]) dJ29_split_16 (Nat.le_of_ble_eq_true rfl) rfl ?_
  refine aw_iconst (v := 0) dJ29_split_18 (by decide) ?_
  refine aw_istore (loc' := [some (.ref x0), some (va_rf r1), some (va_rf r2), some (.int x3), some (.int x4), some (.ref x0), some (.null), some (.null), some (.null), some (.null), some (.int (0 : Int32)), some (.int (0 : Int32)), none, none]) dJ29_split_19 (Nat.le_of_ble_eq_true rfl) rfl ?_
  refine aw_aload dJ29_split_21 rfl trivial ?_
  refine aw_astore (loc' := [some (.ref x0), some (va_rf r1), some (va_rf r2), some (.int x3), some (.int x4), some (.ref x0), some (.null), some (.null), some (.null), some (.null), some (.int (0 : Int32)), some (.int (0 : Int32)), some (.ref x0), none]) dJ29_split_23 (Nat.le_of_ble_eq_true rfl) trivial rfl ?_
  refine p_x_J29_split_25 g hst N _ ?_ N h x0 r1 r2 x3 x4 (none) (none) (none) (none) (0 : Int32) (0 : Int32) (some x0) _ hq
  · intro h x0 r1 r2 x3 x4 r6 r7 r8 r9 x10 x11 r12 q hq
    refine aw_aload dJ29_split_131 rfl (aIsR_rf _) ?_
    rcases r6 with _ | a20
    · replace hq := ocase_n hq
      refine xw_ifnullN (tgt := 171) dJ29_split_133 (by decide) ?_
      exact p_x_J29_split_171 g hst N   h x0 r1 r2 x3 x4 (none) r7 r8 r9 x10 x11 r12 _ hq
    · replace hq := ocase_s hq
      refine xw_ifnullS (tgt := 171) dJ29_split_133 (by decide) ?_
      refine aw_iload dJ29_split_136 rfl ?_
      refine aw_bipush (v := 6) dJ29_split_138 (by decide) ?_
      refine aw_icmp_gt (tgt := 155) dJ29_split_140 (by decide) (fun c38 => ?_) (fun c38 => ?_)
      · rw [if_pos c38] at hq
        refine aw_aload_n (i := 2) dJ29_split_155 rfl rfl (aIsR_rf _) ?_
        refine aw_iload_n (i := 3) dJ29_split_156 rfl rfl ?_
        refine aw_aload dJ29_split_157 rfl trivial ?_
        replace hq := obind hq
        obtain ⟨a39, e40, hq⟩ := hq
        subst e40
        replace hq := obind hq
        obtain ⟨h41, e42, hq⟩ := hq
        refine xw_aast (v := (some a20)) e42 dJ29_split_159 ?_
        refine aw_aload dJ29_split_160 rfl (aIsR_rf _) ?_
        rcases r8 with _ | a43
        · replace hq := ocase_n hq
          refine xw_ifnullN (tgt := 171) dJ29_split_162 (by decide) ?_
          exact p_x_J29_split_171 g hst N   h41 x0 r1 (some a39) x3 x4 (some a20) r7 (none) r9 x10 x11 r12 _ hq
        · replace hq := ocase_s hq
          refine xw_ifnullS (tgt := 171) dJ29_split_162 (by decide) ?_
          refine aw_aload dJ29_split_165 rfl trivial ?_
          refine aw_aload_n (i := 2) dJ29_split_167 rfl rfl trivial ?_
          replace hq := cond_t hq
          obtain ⟨z44, hq⟩ := hq
          obtain ⟨fs9, ha9⟩ := clB1 z44
          replace hq := obind hq
          obtain ⟨q45, e46, hq⟩ := hq
          refine aw_callV (Y2 := YJ29_treeify) (As := [.ref a39]) (rest := []) (r := (RJ29, TJ29, 11)) kJ29_treeify ha9 rfl rfl q1588 q1589 q1590 dJ29_split_168 rfl rfl (ct_J29_treeify g hst N h41 a20 (some a39) _ e46) (Nat.le_of_ble_eq_true rfl) (Nat.le_of_ble_eq_true rfl) (fun v9 h9 z9 y9 => ?_)
          obtain ⟨rfl, y9⟩ := y9
          rw [y9]
          refine aw_st (st' := []) rfl ?_
          exact p_x_J29_split_171 g hst N   q45 x0 r1 (some a39) x3 x4 (some a20) r7 (some a43) r9 x10 x11 r12 _ hq
      · rw [if_neg c38] at hq
        refine aw_aload_n (i := 2) dJ29_split_143 rfl rfl (aIsR_rf _) ?_
        refine aw_iload_n (i := 3) dJ29_split_144 rfl rfl ?_
        refine aw_aload dJ29_split_145 rfl trivial ?_
        refine aw_aload_n (i := 1) dJ29_split_147 rfl rfl (aIsR_rf _) ?_
        replace hq := cond_t hq
        obtain ⟨z47, hq⟩ := hq
        obtain ⟨fs9, ha9⟩ := clB1 z47
        replace hq := obind hq
        obtain ⟨q48, e49, hq⟩ := hq
        refine aw_callV (Y2 := YJ29_untreeify) (As := [va_rf r1]) (rest := [.int x3, va_rf r2]) (r := (RJ29, TJ29, 11)) kJ29_untreeify ha9 rfl rfl q1550 q1551 q1552 dJ29_split_148 rfl rfl (ct_J29_untreeify g hst N h a20 r1 _ e49) (Nat.le_of_ble_eq_true rfl) (by simp only [List.map_cons, List.map_nil, List.sum_cons, List.sum_nil, cat_rf]; exact Nat.le_of_ble_eq_true rfl) (fun v9 h9 z9 y9 => ?_)
        obtain ⟨rfl, rfl⟩ := y9
        refine aw_st (st' := [va_rf q48.1, .int x3, va_rf r2]) rfl ?_
        replace hq := obind hq
        obtain ⟨a50, e51, hq⟩ := hq
        subst e51
        replace hq := obind hq
        obtain ⟨h52, e53, hq⟩ := hq
        refine xw_aast (v := q48.1) e53 dJ29_split_151 ?_
        refine aw_goto (tgt := 171) dJ29_split_152 (by decide) ?_
        exact p_x_J29_split_171 g hst N   h52 x0 r1 (some a50) x3 x4 (some a20) r7 r8 r9 x10 x11 r12 _ hq
