/-! THE COMPONENT AND THE JDK as functions of the heap, and their contracts: printed by wip gen/dec2.py -/
set_option maxRecDepth 100000
abbrev YJ5_fixAfterInsertion : YC := (yJ5_fixAfterInsertion, cJ5_fixAfterInsertion, 3, none, [])
theorem kJ5_fixAfterInsertion : aMk YJ5_fixAfterInsertion 1 := ⟨rfl, q1721, q124, ⟨by decide +kernel, by decide +kernel, by decide +kernel⟩, Nat.le_of_ble_eq_true rfl⟩
def x_J5_fixAfterInsertion_255 (g : AG) (N : Nat) (K5 : AH → Nat → Option Nat → Option AH) (K258 : AH → Nat → Option Nat → Option AH) (h : AH) (x0 : Nat) (r1 : Option Nat) (r2 : Option Nat) : Option AH :=
  K5 h x0 r1
theorem p_x_J5_fixAfterInsertion_255 (g : AG) (hst : (gL g).stackTraces = false) (N : Nat) (K5 : AH → Nat → Option Nat → Option AH) (K258 : AH → Nat → Option Nat → Option AH) (hK5 : ∀ (h : AH) (x0 : Nat) (r1 : Option Nat) (q : AH), K5 h x0 r1 = some q → AW g YJ5_fixAfterInsertion 2 (xV q) h [some (.ref x0), some (va_rf r1), none] 5 []) (hK258 : ∀ (h : AH) (x0 : Nat) (r1 : Option Nat) (q : AH), K258 h x0 r1 = some q → AW g YJ5_fixAfterInsertion 2 (xV q) h [some (.ref x0), some (va_rf r1), none] 258 []) : ∀ (h : AH) (x0 : Nat) (r1 : Option Nat) (r2 : Option Nat) (q : AH), x_J5_fixAfterInsertion_255 g N K5 K258 h x0 r1 r2 = some q → AW g YJ5_fixAfterInsertion 2 (xV q) h [some (.ref x0), some (va_rf r1), some (va_rf r2)] 255 [] := by
  intro h x0 r1 r2 q hq
  unfold x_J5_fixAfterInsertion_255 at hq
  refine aw_goto (tgt := 5) dJ5_fixAfterInsertion_255 (by decide) ?_
  refine aw_subl (loc' := [some (.ref x0), some (va_rf r1), none]) ⟨Or.inr rfl, Or.inr rfl, Or.inl rfl, trivial⟩ ?_
  exact hK5 h x0 r1 _ hq
def x_J5_fixAfterInsertion_225 (g : AG) (N : Nat) (K5 : AH → Nat → Option Nat → Option AH) (K258 : AH → Nat → Option Nat → Option AH) (h : AH) (x0 : Nat) (r1 : Option Nat) (r2 : Option Nat) : Option AH :=
  (x_J5_parentOf g N h r1).bind fun q39 => (x_J5_setColor g N q39.2 q39.1 (1 : Int32)).bind fun q41 => (x_J5_parentOf g N q41 r1).bind fun q43 => (x_J5_parentOf g N q43.2 q43.1).bind fun q45 => (x_J5_setColor g N q45.2 q45.1 (0 : Int32)).bind fun q47 => (x_J5_parentOf g N q47 r1).bind fun q49 => (x_J5_parentOf g N q49.2 q49.1).bind fun q51 => bif clB q51.2 x0 [14] then ((x_J5_rotateLeft g N q51.2 x0 q51.1).bind fun q54 => x_J5_fixAfterInsertion_255 g N K5 K258 q54 x0 r1 r2) else none
theorem p_x_J5_fixAfterInsertion_225 (g : AG) (hst : (gL g).stackTraces = false) (N : Nat) (K5 : AH → Nat → Option Nat → Option AH) (K258 : AH → Nat → Option Nat → Option AH) (hK5 : ∀ (h : AH) (x0 : Nat) (r1 : Option Nat) (q : AH), K5 h x0 r1 = some q → AW g YJ5_fixAfterInsertion 2 (xV q) h [some (.ref x0), some (va_rf r1), none] 5 []) (hK258 : ∀ (h : AH) (x0 : Nat) (r1 : Option Nat) (q : AH), K258 h x0 r1 = some q → AW g YJ5_fixAfterInsertion 2 (xV q) h [some (.ref x0), some (va_rf r1), none] 258 []) : ∀ (h : AH) (x0 : Nat) (r1 : Option Nat) (r2 : Option Nat) (q : AH), x_J5_fixAfterInsertion_225 g N K5 K258 h x0 r1 r2 = some q → AW g YJ5_fixAfterInsertion 2 (xV q) h [some (.ref x0), some (va_rf r1), some (va_rf r2)] 225 [] := by
  intro h x0 r1 r2 q hq
  unfold x_J5_fixAfterInsertion_225 at hq
  refine aw_aload_n (i := 1) dJ5_fixAfterInsertion_225 rfl rfl (aIsR_rf _) ?_
  replace hq := obind hq
  obtain ⟨q39, e40, hq⟩ := hq
  refine aw_callS (Y2 := YJ5_parentOf) (As := [va_rf r1]) (rest := []) kJ5_parentOf q1722 q1723 dJ5_fixAfterInsertion_226 rfl rfl (ct_J5_parentOf g hst N h r1 _ e40) (Nat.le_of_ble_eq_true rfl) (Nat.le_of_ble_eq_true rfl) (fun v9 h9 z9 y9 => ?_)
  obtain ⟨rfl, rfl⟩ := y9
  refine aw_st (st' := [va_rf q39.1]) rfl ?_
  refine aw_iconst (v := 1) dJ5_fixAfterInsertion_229 (by decide) ?_
  replace hq := obind hq
  obtain ⟨q41, e42, hq⟩ := hq
  refine aw_callS (Y2 := YJ5_setColor) (As := [va_rf q39.1, .int (1 : Int32)]) (rest := []) kJ5_setColor q1734 q1735 dJ5_fixAfterInsertion_230 rfl rfl (ct_J5_setColor g hst N q39.2 q39.1 (1 : Int32) _ e42) (Nat.le_of_ble_eq_true rfl) (Nat.le_of_ble_eq_true rfl) (fun v9 h9 z9 y9 => ?_)
  obtain ⟨rfl, y9⟩ := y9
  rw [y9]
  refine aw_st (st' := []) rfl ?_
  refine aw_aload_n (i := 1) dJ5_fixAfterInsertion_233 rfl rfl (aIsR_rf _) ?_
  replace hq := obind hq
  obtain ⟨q43, e44, hq⟩ := hq
  refine aw_callS (Y2 := YJ5_parentOf) (As := [va_rf r1]) (rest := []) kJ5_parentOf q1722 q1723 dJ5_fixAfterInsertion_234 rfl rfl (ct_J5_parentOf g hst N q41 r1 _ e44) (Nat.le_of_ble_eq_true rfl) (Nat.le_of_ble_eq_true rfl) (fun v9 h9 z9 y9 => ?_)
  obtain ⟨rfl, rfl⟩ := y9
  refine aw_st (st' := [va_rf q43.1]) rfl ?_
  replace hq := obind hq
  obtain ⟨q45, e46, hq⟩ := hq
  refine aw_callS (Y2 := YJ5_parentOf) (As := [va_rf q43.1]) (rest := []) kJ5_parentOf q1722 q1723 dJ5_fixAfterInsertion_237 rfl rfl (ct_J5_parentOf g hst N q43.2 q43.1 _ e46) (Nat.le_of_ble_eq_true rfl) (Nat.le_of_ble_eq_true rfl) (fun v9 h9 z9 y9 => ?_)
  obtain ⟨rfl, rfl⟩ := y9
  refine aw_st (st' := [va_rf q45.1]) rfl ?_
  refine aw_iconst (v := 0) dJ5_fixAfterInsertion_240 (by decide) ?_
  replace hq := obind hq
  obtain ⟨q47, e48, hq⟩ := hq
  refine aw_callS (Y2 := YJ5_setColor) (As := [va_rf q45.1, .int (0 : Int32)]) (rest := []) kJ5_setColor q1734 q1735 dJ5_fixAfterInsertion_241 rfl rfl (ct_J5_setColor g hst N q45.2 q45.1 (0 : Int32) _ e48) (Nat.le_of_ble_eq_true rfl) (Nat.le_of_ble_eq_true rfl) (fun v9 h9 z9 y9 => ?_)
  obtain ⟨rfl, y9⟩ := y9
  rw [y9]
  refine aw_st (st' := []) rfl ?_
  refine aw_aload_n (i := 0) dJ5_fixAfterInsertion_244 rfl rfl trivial ?_
  refine aw_aload_n (i := 1) dJ5_fixAfterInsertion_245 rfl rfl (aIsR_rf _) ?_
  replace hq := obind hq
  obtain ⟨q49, e50, hq⟩ := hq
  refine aw_callS (Y2 := YJ5_parentOf) (As := [va_rf r1]) (rest := [.ref x0]) kJ5_parentOf q1722 q1723 dJ5_fixAfterInsertion_246 rfl rfl (ct_J5_parentOf g hst N q47 r1 _ e50) (Nat.le_of_ble_eq_true rfl) (Nat.le_of_ble_eq_true rfl) (fun v9 h9 z9 y9 => ?_)
  obtain ⟨rfl, rfl⟩ := y9
  refine aw_st (st' := [va_rf q49.1, .ref x0]) rfl ?_
  replace hq := obind hq
  obtain ⟨q51, e52, hq⟩ := hq
  refine aw_callS (Y2 := YJ5_parentOf) (As := [va_rf q49.1]) (rest := [.ref x0]) kJ5_parentOf q1722 q1723 dJ5_fixAfterInsertion_249 rfl rfl (ct_J5_parentOf g hst N q49.2 q49.1 _ e52) (Nat.le_of_ble_eq_true rfl) (Nat.le_of_ble_eq_true rfl) (fun v9 h9 z9 y9 => ?_)
  obtain ⟨rfl, rfl⟩ := y9
  refine aw_st (st' := [va_rf q51.1, .ref x0]) rfl ?_
  replace hq := cond_t hq
  obtain ⟨z53, hq⟩ := hq
  obtain ⟨fs9, ha9⟩ := clB1 z53
  replace hq := obind hq
  obtain ⟨q54, e55, hq⟩ := hq
  refine aw_callV (Y2 := YJ5_rotateLeft) (As := [va_rf q51.1]) (rest := []) (r := (RJ5, TJ5, 9)) kJ5_rotateLeft ha9 rfl rfl q1737 q1739 qs29 dJ5_fixAfterInsertion_252 rfl rfl (ct_J5_rotateLeft g hst N q51.2 x0 q51.1 _ e55) (Nat.le_of_ble_eq_true rfl) (Nat.le_of_ble_eq_true rfl) (fun v9 h9 z9 y9 => ?_)
  obtain ⟨rfl, y9⟩ := y9
  rw [y9]
  refine aw_st (st' := []) rfl ?_
  exact p_x_J5_fixAfterInsertion_255 g hst N _ _ hK5 hK258 q54 x0 r1 r2 _ hq
def x_J5_fixAfterInsertion_148 (g : AG) (N : Nat) (K5 : AH → Nat → Option Nat → Option AH) (K258 : AH → Nat → Option Nat → Option AH) (h : AH) (x0 : Nat) (r1 : Option Nat) (r2 : Option Nat) : Option AH :=
  K5 h x0 r1
theorem p_x_J5_fixAfterInsertion_148 (g : AG) (hst : (gL g).stackTraces = false) (N : Nat) (K5 : AH → Nat → Option Nat → Option AH) (K258 : AH → Nat → Option Nat → Option AH) (hK5 : ∀ (h : AH) (x0 : Nat) (r1 : Option Nat) (q : AH), K5 h x0 r1 = some q → AW g YJ5_fixAfterInsertion 2 (xV q) h [some (.ref x0), some (va_rf r1), none] 5 []) (hK258 : ∀ (h : AH) (x0 : Nat) (r1 : Option Nat) (q : AH), K258 h x0 r1 = some q → AW g YJ5_fixAfterInsertion 2 (xV q) h [some (.ref x0), some (va_rf r1), none] 258 []) : ∀ (h : AH) (x0 : Nat) (r1 : Option Nat) (r2 : Option Nat) (q : AH), x_J5_fixAfterInsertion_148 g N K5 K258 h x0 r1 r2 = some q → AW g YJ5_fixAfterInsertion 2 (xV q) h [some (.ref x0), some (va_rf r1), some (va_rf r2)] 148 [] := by
  intro h x0 r1 r2 q hq
  unfold x_J5_fixAfterInsertion_148 at hq
  refine aw_goto (tgt := 5) dJ5_fixAfterInsertion_148 (by decide) ?_
  refine aw_subl (loc' := [some (.ref x0), some (va_rf r1), none]) ⟨Or.inr rfl, Or.inr rfl, Or.inl rfl, trivial⟩ ?_
  exact hK5 h x0 r1 _ hq
def x_J5_fixAfterInsertion_118 (g : AG) (N : Nat) (K5 : AH → Nat → Option Nat → Option AH) (K258 : AH → Nat → Option Nat → Option AH) (h : AH) (x0 : Nat) (r1 : Option Nat) (r2 : Option Nat) : Option AH :=
  (x_J5_parentOf g N h r1).bind fun q91 => (x_J5_setColor g N q91.2 q91.1 (1 : Int32)).bind fun q93 => (x_J5_parentOf g N q93 r1).bind fun q95 => (x_J5_parentOf g N q95.2 q95.1).bind fun q97 => (x_J5_setColor g N q97.2 q97.1 (0 : Int32)).bind fun q99 => (x_J5_parentOf g N q99 r1).bind fun q101 => (x_J5_parentOf g N q101.2 q101.1).bind fun q103 => bif clB q103.2 x0 [14] then ((x_J5_rotateRight g N q103.2 x0 q103.1).bind fun q106 => x_J5_fixAfterInsertion_148 g N K5 K258 q106 x0 r1 r2) else none
theorem p_x_J5_fixAfterInsertion_118 (g : AG) (hst : (gL g).stackTraces = false) (N : Nat) (K5 : AH → Nat → Option Nat → Option AH) (K258 : AH → Nat → Option Nat → Option AH) (hK5 : ∀ (h : AH) (x0 : Nat) (r1 : Option Nat) (q : AH), K5 h x0 r1 = some q → AW g YJ5_fixAfterInsertion 2 (xV q) h [some (.ref x0), some (va_rf r1), none] 5 []) (hK258 : ∀ (h : AH) (x0 : Nat) (r1 : Option Nat) (q : AH), K258 h x0 r1 = some q → AW g YJ5_fixAfterInsertion 2 (xV q) h [some (.ref x0), some (va_rf r1), none] 258 []) : ∀ (h : AH) (x0 : Nat) (r1 : Option Nat) (r2 : Option Nat) (q : AH), x_J5_fixAfterInsertion_118 g N K5 K258 h x0 r1 r2 = some q → AW g YJ5_fixAfterInsertion 2 (xV q) h [some (.ref x0), some (va_rf r1), some (va_rf r2)] 118 [] := by
  intro h x0 r1 r2 q hq
  unfold x_J5_fixAfterInsertion_118 at hq
  refine aw_aload_n (i := 1) dJ5_fixAfterInsertion_118 rfl rfl (aIsR_rf _) ?_
  replace hq := obind hq
  obtain ⟨q91, e92, hq⟩ := hq
  refine aw_callS (Y2 := YJ5_parentOf) (As := [va_rf r1]) (rest := []) kJ5_parentOf q1722 q1723 dJ5_fixAfterInsertion_119 rfl rfl (ct_J5_parentOf g hst N h r1 _ e92) (Nat.le_of_ble_eq_true rfl) (Nat.le_of_ble_eq_true rfl) (fun v9 h9 z9 y9 => ?_)
  obtain ⟨rfl, rfl⟩ := y9
  refine aw_st (st' := [va_rf q91.1]) rfl ?_
  refine aw_iconst (v := 1) dJ5_fixAfterInsertion_122 (by decide) ?_
  replace hq := obind hq
  obtain ⟨q93, e94, hq⟩ := hq
  refine aw_callS (Y2 := YJ5_setColor) (As := [va_rf q91.1, .int (1 : Int32)]) (rest := []) kJ5_setColor q1734 q1735 dJ5_fixAfterInsertion_123 rfl rfl (ct_J5_setColor g hst N q91.2 q91.1 (1 : Int32) _ e94) (Nat.le_of_ble_eq_true rfl) (Nat.le_of_ble_eq_true rfl) (fun v9 h9 z9 y9 => ?_)
  obtain ⟨rfl, y9⟩ := y9
  rw [y9]
  refine aw_st (st' := []) rfl ?_
  refine aw_aload_n (i := 1) dJ5_fixAfterInsertion_126 rfl rfl (aIsR_rf _) ?_
  replace hq := obind hq
  obtain ⟨q95, e96, hq⟩ := hq
  refine aw_callS (Y2 := YJ5_parentOf) (As := [va_rf r1]) (rest := []) kJ5_parentOf q1722 q1723 dJ5_fixAfterInsertion_127 rfl rfl (ct_J5_parentOf g hst N q93 r1 _ e96) (Nat.le_of_ble_eq_true rfl) (Nat.le_of_ble_eq_true rfl) (fun v9 h9 z9 y9 => ?_)
  obtain ⟨rfl, rfl⟩ := y9
  refine aw_st (st' := [va_rf q95.1]) rfl ?_
  replace hq := obind hq
  obtain ⟨q97, e98, hq⟩ := hq
  refine aw_callS (Y2 := YJ5_parentOf) (As := [va_rf q95.1]) (rest := []) kJ5_parentOf q1722 q1723 dJ5_fixAfterInsertion_130 rfl rfl (ct_J5_parentOf g hst N q95.2 q95.1 _ e98) (Nat.le_of_ble_eq_true rfl) (Nat.le_of_ble_eq_true rfl) (fun v9 h9 z9 y9 => ?_)
  obtain ⟨rfl, rfl⟩ := y9
  refine aw_st (st' := [va_rf q97.1]) rfl ?_
  refine aw_iconst (v := 0) dJ5_fixAfterInsertion_133 (by decide) ?_
  replace hq := obind hq
  obtain ⟨q99, e100, hq⟩ := hq
  refine aw_callS (Y2 := YJ5_setColor) (As := [va_rf q97.1, .int (0 : Int32)]) (rest := []) kJ5_setColor q1734 q1735 dJ5_fixAfterInsertion_134 rfl rfl (ct_J5_setColor g hst N q97.2 q97.1 (0 : Int32) _ e100) (Nat.le_of_ble_eq_true rfl) (Nat.le_of_ble_eq_true rfl) (fun v9 h9 z9 y9 => ?_)
  obtain ⟨rfl, y9⟩ := y9
  rw [y9]
  refine aw_st (st' := []) rfl ?_
  refine aw_aload_n (i := 0) dJ5_fixAfterInsertion_137 rfl rfl trivial ?_
  refine aw_aload_n (i := 1) dJ5_fixAfterInsertion_138 rfl rfl (aIsR_rf _) ?_
  replace hq := obind hq
  obtain ⟨q101, e102, hq⟩ := hq
  refine aw_callS (Y2 := YJ5_parentOf) (As := [va_rf r1]) (rest := [.ref x0]) kJ5_parentOf q1722 q1723 dJ5_fixAfterInsertion_139 rfl rfl (ct_J5_parentOf g hst N q99 r1 _ e102) (Nat.le_of_ble_eq_true rfl) (Nat.le_of_ble_eq_true rfl) (fun v9 h9 z9 y9 => ?_)
  obtain ⟨rfl, rfl⟩ := y9
  refine aw_st (st' := [va_rf q101.1, .ref x0]) rfl ?_
  replace hq := obind hq
  obtain ⟨q103, e104, hq⟩ := hq
  refine aw_callS (Y2 := YJ5_parentOf) (As := [va_rf q101.1]) (rest := [.ref x0]) kJ5_parentOf q1722 q1723 dJ5_fixAfterInsertion_142 rfl rfl (ct_J5_parentOf g hst N q101.2 q101.1 _ e104) (Nat.le_of_ble_eq_true rfl) (Nat.le_of_ble_eq_true rfl) (fun v9 h9 z9 y9 => ?_)
  obtain ⟨rfl, rfl⟩ := y9
  refine aw_st (st' := [va_rf q103.1, .ref x0]) rfl ?_
  replace hq := cond_t hq
  obtain ⟨z105, hq⟩ := hq
  obtain ⟨fs9, ha9⟩ := clB1 z105
  replace hq := obind hq
  obtain ⟨q106, e107, hq⟩ := hq
  refine aw_callV (Y2 := YJ5_rotateRight) (As := [va_rf q103.1]) (rest := []) (r := (RJ5, TJ5, 9)) kJ5_rotateRight ha9 rfl rfl q1741 q1743 qs30 dJ5_fixAfterInsertion_145 rfl rfl (ct_J5_rotateRight g hst N q103.2 x0 q103.1 _ e107) (Nat.le_of_ble_eq_true rfl) (Nat.le_of_ble_eq_true rfl) (fun v9 h9 z9 y9 => ?_)
  obtain ⟨rfl, y9⟩ := y9
  rw [y9]
  refine aw_st (st' := []) rfl ?_
  exact p_x_J5_fixAfterInsertion_148 g hst N _ _ hK5 hK258 q106 x0 r1 r2 _ hq
def x_J5_fixAfterInsertion_5 (g : AG) (N : Nat) (K258 : AH → Nat → Option Nat → Option AH) : Nat → AH → Nat → Option Nat → Option AH
  | 0, _, _, _ => none
  | n9 + 1, h, x0, r1 =>
  ocase r1 (K258 h x0 (none)) (fun a5 => (rdR h x0 [(14, 3)]).bind fun o6 => if (some a5) = o6 then (K258 h x0 (some a5)) else ((rdR h a5 [(15, 4)]).bind fun o9 => (o9).bind fun a11 => (rdI h a11 [(15, 5)]).bind fun i13 => if i13 = 0 then ((x_J5_parentOf g N h (some a5)).bind fun q16 => (x_J5_parentOf g N q16.2 (some a5)).bind fun q18 => (x_J5_parentOf g N q18.2 q18.1).bind fun q20 => (x_J5_leftOf g N q20.2 q20.1).bind fun q22 => if q16.1 = q22.1 then ((x_J5_parentOf g N q22.2 (some a5)).bind fun q77 => (x_J5_parentOf g N q77.2 q77.1).bind fun q79 => (x_J5_rightOf g N q79.2 q79.1).bind fun q81 => (x_J5_colorOf g N q81.2 q81.1).bind fun q83 => if q83.1 = 0 then ((x_J5_parentOf g N q83.2 (some a5)).bind fun q113 => (x_J5_setColor g N q113.2 q113.1 (1 : Int32)).bind fun q115 => (x_J5_setColor g N q115 q81.1 (1 : Int32)).bind fun q117 => (x_J5_parentOf g N q117 (some a5)).bind fun q119 => (x_J5_parentOf g N q119.2 q119.1).bind fun q121 => (x_J5_setColor g N q121.2 q121.1 (0 : Int32)).bind fun q123 => (x_J5_parentOf g N q123 (some a5)).bind fun q125 => (x_J5_parentOf g N q125.2 q125.1).bind fun q127 => x_J5_fixAfterInsertion_148 g N (fun h x0 r1 => x_J5_fixAfterInsertion_5 g N K258 n9 h x0 r1) K258 q127.2 x0 q127.1 q81.1) else ((x_J5_parentOf g N q83.2 (some a5)).bind fun q86 => (x_J5_rightOf g N q86.2 q86.1).bind fun q88 => if (some a5) = q88.1 then ((x_J5_parentOf g N q88.2 (some a5)).bind fun q108 => bif clB q108.2 x0 [14] then ((x_J5_rotateLeft g N q108.2 x0 q108.1).bind fun q111 => x_J5_fixAfterInsertion_118 g N (fun h x0 r1 => x_J5_fixAfterInsertion_5 g N K258 n9 h x0 r1) K258 q111 x0 q108.1 q81.1) else none) else (x_J5_fixAfterInsertion_118 g N (fun h x0 r1 => x_J5_fixAfterInsertion_5 g N K258 n9 h x0 r1) K258 q88.2 x0 (some a5) q81.1))) else ((x_J5_parentOf g N q22.2 (some a5)).bind fun q25 => (x_J5_parentOf g N q25.2 q25.1).bind fun q27 => (x_J5_leftOf g N q27.2 q27.1).bind fun q29 => (x_J5_colorOf g N q29.2 q29.1).bind fun q31 => if q31.1 = 0 then ((x_J5_parentOf g N q31.2 (some a5)).bind fun q61 => (x_J5_setColor g N q61.2 q61.1 (1 : Int32)).bind fun q63 => (x_J5_setColor g N q63 q29.1 (1 : Int32)).bind fun q65 => (x_J5_parentOf g N q65 (some a5)).bind fun q67 => (x_J5_parentOf g N q67.2 q67.1).bind fun q69 => (x_J5_setColor g N q69.2 q69.1 (0 : Int32)).bind fun q71 => (x_J5_parentOf g N q71 (some a5)).bind fun q73 => (x_J5_parentOf g N q73.2 q73.1).bind fun q75 => x_J5_fixAfterInsertion_255 g N (fun h x0 r1 => x_J5_fixAfterInsertion_5 g N K258 n9 h x0 r1) K258 q75.2 x0 q75.1 q29.1) else ((x_J5_parentOf g N q31.2 (some a5)).bind fun q34 => (x_J5_leftOf g N q34.2 q34.1).bind fun q36 => if (some a5) = q36.1 then ((x_J5_parentOf g N q36.2 (some a5)).bind fun q56 => bif clB q56.2 x0 [14] then ((x_J5_rotateRight g N q56.2 x0 q56.1).bind fun q59 => x_J5_fixAfterInsertion_225 g N (fun h x0 r1 => x_J5_fixAfterInsertion_5 g N K258 n9 h x0 r1) K258 q59 x0 q56.1 q29.1) else none) else (x_J5_fixAfterInsertion_225 g N (fun h x0 r1 => x_J5_fixAfterInsertion_5 g N K258 n9 h x0 r1) K258 q36.2 x0 (some a5) q29.1)))) else (K258 h x0 (some a5))))
theorem p_x_J5_fixAfterInsertion_5 (g : AG) (hst : (gL g).stackTraces = false) (N : Nat) (K258 : AH → Nat → Option Nat → Option AH) (hK258 : ∀ (h : AH) (x0 : Nat) (r1 : Option Nat) (q : AH), K258 h x0 r1 = some q → AW g YJ5_fixAfterInsertion 2 (xV q) h [some (.ref x0), some (va_rf r1), none] 258 []) : ∀ (n9 : Nat) (h : AH) (x0 : Nat) (r1 : Option Nat) (q : AH), x_J5_fixAfterInsertion_5 g N K258 n9 h x0 r1 = some q → AW g YJ5_fixAfterInsertion 2 (xV q) h [some (.ref x0), some (va_rf r1), none] 5 [] := by
  intro n9
  induction n9 with
  | zero =>
    intro h x0 r1 q hq
    cases hq
  | succ n9 ih =>
    intro h x0 r1 q hq
    rw [x_J5_fixAfterInsertion_5] at hq
    refine aw_aload_n (i := 1) dJ5_fixAfterInsertion_5 rfl rfl (aIsR_rf _) ?_
    rcases r1 with _ | a5
    · replace hq := ocase_n hq
      refine xw_ifnullN (tgt := 258) dJ5_fixAfterInsertion_6 (by decide) ?_
      exact hK258 h x0 (none) _ hq
    · replace hq := ocase_s hq
      refine xw_ifnullS (tgt := 258) dJ5_fixAfterInsertion_6 (by decide) ?_
      refine aw_aload_n (i := 1) dJ5_fixAfterInsertion_9 rfl rfl trivial ?_
      refine aw_aload_n (i := 0) dJ5_fixAfterInsertion_10 rfl rfl trivial ?_
      replace hq := obind hq
      obtain ⟨o6, e7, hq⟩ := hq
      refine xw_getR e7 fJ5_101 dJ5_fixAfterInsertion_11 ?_
      refine xw_acmp_eq (v := (some a5)) (w := o6) (tgt := 258) dJ5_fixAfterInsertion_14 (by decide) (fun c8 => ?_) (fun c8 => ?_)
      · rw [if_pos c8] at hq
        exact hK258 h x0 (some a5) _ hq
      · rw [if_neg c8] at hq
        refine aw_aload_n (i := 1) dJ5_fixAfterInsertion_17 rfl rfl trivial ?_
        replace hq := obind hq
        obtain ⟨o9, e10, hq⟩ := hq
        refine xw_getR e10 fJ5_124 dJ5_fixAfterInsertion_18 ?_
        replace hq := obind hq
        obtain ⟨a11, e12, hq⟩ := hq
        subst e12
        replace hq := obind hq
        obtain ⟨i13, e14, hq⟩ := hq
        refine xw_getI e14 fJ5_290 dJ5_fixAfterInsertion_21 ?_
        refine aw_if_ne (tgt := 258) dJ5_fixAfterInsertion_24 (by decide) (fun c15 => ?_) (fun c15 => ?_)
        · rw [if_neg c15] at hq
          exact hK258 h x0 (some a5) _ hq
        · rw [if_pos c15] at hq
          refine aw_aload_n (i := 1) dJ5_fixAfterInsertion_27 rfl rfl trivial ?_
          replace hq := obind hq
          obtain ⟨q16, e17, hq⟩ := hq
          refine aw_callS (Y2 := YJ5_parentOf) (As := [.ref a5]) (rest := []) kJ5_parentOf q1722 q1723 dJ5_fixAfterInsertion_28 rfl rfl (ct_J5_parentOf g hst N h (some a5) _ e17) (Nat.le_of_ble_eq_true rfl) (Nat.le_of_ble_eq_true rfl) (fun v9 h9 z9 y9 => ?_)
          obtain ⟨rfl, rfl⟩ := y9
          refine aw_st (st' := [va_rf q16.1]) rfl ?_
          refine aw_aload_n (i := 1) dJ5_fixAfterInsertion_31 rfl rfl trivial ?_
          replace hq := obind hq
          obtain ⟨q18, e19, hq⟩ := hq
          refine aw_callS (Y2 := YJ5_parentOf) (As := [.ref a5]) (rest := [va_rf q16.1]) kJ5_parentOf q1722 q1723 dJ5_fixAfterInsertion_32 rfl rfl (ct_J5_parentOf g hst N q16.2 (some a5) _ e19) (Nat.le_of_ble_eq_true rfl) (by simp only [List.map_cons, List.map_nil, List.sum_cons, List.sum_nil, cat_rf]; exact Nat.le_of_ble_eq_true rfl) (fun v9 h9 z9 y9 => ?_)
          obtain ⟨rfl, rfl⟩ := y9
          refine aw_st (st' := [va_rf q18.1, va_rf q16.1]) rfl ?_
          replace hq := obind hq
          obtain ⟨q20, e21, hq⟩ := hq
          refine aw_callS (Y2 := YJ5_parentOf) (As := [va_rf q18.1]) (rest := [va_rf q16.1]) kJ5_parentOf q1722 q1723 dJ5_fixAfterInsertion_35 rfl rfl (ct_J5_parentOf g hst N q18.2 q18.1 _ e21) (Nat.le_of_ble_eq_true rfl) (by simp only [List.map_cons, List.map_nil, List.sum_cons, List.sum_nil, cat_rf]; exact Nat.le_of_ble_eq_true rfl) (fun v9 h9 z9 y9 => ?_)
          obtain ⟨rfl, rfl⟩ := y9
          refine aw_st (st' := [va_rf q20.1, va_rf q16.1]) rfl ?_
          replace hq := obind hq
          obtain ⟨q22, e23, hq⟩ := hq
          refine aw_callS (Y2 := YJ5_leftOf) (As := [va_rf q20.1]) (rest := [va_rf q16.1]) kJ5_leftOf q1725 q1726 dJ5_fixAfterInsertion_38 rfl rfl (ct_J5_leftOf g hst N q20.2 q20.1 _ e23) (Nat.le_of_ble_eq_true rfl) (by simp only [List.map_cons, List.map_nil, List.sum_cons, List.sum_nil, cat_rf]; exact Nat.le_of_ble_eq_true rfl) (fun v9 h9 z9 y9 => ?_)
          obtain ⟨rfl, rfl⟩ := y9
          refine aw_st (st' := [va_rf q22.1, va_rf q16.1]) rfl ?_
          refine xw_acmp_ne (v := q16.1) (w := q22.1) (tgt := 151) dJ5_fixAfterInsertion_41 (by decide) (fun c24 => ?_) (fun c24 => ?_)
          · rw [if_neg c24] at hq
            refine aw_aload_n (i := 1) dJ5_fixAfterInsertion_151 rfl rfl trivial ?_
            replace hq := obind hq
            obtain ⟨q25, e26, hq⟩ := hq
            refine aw_callS (Y2 := YJ5_parentOf) (As := [.ref a5]) (rest := []) kJ5_parentOf q1722 q1723 dJ5_fixAfterInsertion_152 rfl rfl (ct_J5_parentOf g hst N q22.2 (some a5) _ e26) (Nat.le_of_ble_eq_true rfl) (Nat.le_of_ble_eq_true rfl) (fun v9 h9 z9 y9 => ?_)
            obtain ⟨rfl, rfl⟩ := y9
            refine aw_st (st' := [va_rf q25.1]) rfl ?_
            replace hq := obind hq
            obtain ⟨q27, e28, hq⟩ := hq
            refine aw_callS (Y2 := YJ5_parentOf) (As := [va_rf q25.1]) (rest := []) kJ5_parentOf q1722 q1723 dJ5_fixAfterInsertion_155 rfl rfl (ct_J5_parentOf g hst N q25.2 q25.1 _ e28) (Nat.le_of_ble_eq_true rfl) (Nat.le_of_ble_eq_true rfl) (fun v9 h9 z9 y9 => ?_)
            obtain ⟨rfl, rfl⟩ := y9
            refine aw_st (st' := [va_rf q27.1]) rfl ?_
            replace hq := obind hq
            obtain ⟨q29, e30, hq⟩ := hq
            refine aw_callS (Y2 := YJ5_leftOf) (As := [va_rf q27.1]) (rest := []) kJ5_leftOf q1725 q1726 dJ5_fixAfterInsertion_158 rfl rfl (ct_J5_leftOf g hst N q27.2 q27.1 _ e30) (Nat.le_of_ble_eq_true rfl) (Nat.le_of_ble_eq_true rfl) (fun v9 h9 z9 y9 => ?_)
            obtain ⟨rfl, rfl⟩ := y9
            refine aw_st (st' := [va_rf q29.1]) rfl ?_
            refine aw_astore_n (i := 2) (loc' := [some (.ref x0), some (.ref a5), some (va_rf q29.1)]) dJ5_fixAfterInsertion_161 rfl (Nat.le_of_ble_eq_true rfl) (aIsR_rf _) rfl ?_
            refine aw_aload_n (i := 2) dJ5_fixAfterInsertion_162 rfl rfl (aIsR_rf _) ?_
            replace hq := obind hq
            obtain ⟨q31, e32, hq⟩ := hq
            refine aw_callS (Y2 := YJ5_colorOf) (As := [va_rf q29.1]) (rest := []) kJ5_colorOf q1731 q1732 dJ5_fixAfterInsertion_163 rfl rfl (ct_J5_colorOf g hst N q29.2 q29.1 _ e32) (Nat.le_of_ble_eq_true rfl) (Nat.le_of_ble_eq_true rfl) (fun v9 h9 z9 y9 => ?_)
            obtain ⟨rfl, rfl⟩ := y9
            refine aw_st (st' := [.int q31.1]) rfl ?_
            refine aw_if_ne (tgt := 204) dJ5_fixAfterInsertion_166 (by decide) (fun c33 => ?_) (fun c33 => ?_)
            · rw [if_neg c33] at hq
              refine aw_aload_n (i := 1) dJ5_fixAfterInsertion_204 rfl rfl trivial ?_
              refine aw_aload_n (i := 1) dJ5_fixAfterInsertion_205 rfl rfl trivial ?_
              replace hq := obind hq
              obtain ⟨q34, e35, hq⟩ := hq
              refine aw_callS (Y2 := YJ5_parentOf) (As := [.ref a5]) (rest := [.ref a5]) kJ5_parentOf q1722 q1723 dJ5_fixAfterInsertion_206 rfl rfl (ct_J5_parentOf g hst N q31.2 (some a5) _ e35) (Nat.le_of_ble_eq_true rfl) (Nat.le_of_ble_eq_true rfl) (fun v9 h9 z9 y9 => ?_)
              obtain ⟨rfl, rfl⟩ := y9
              refine aw_st (st' := [va_rf q34.1, .ref a5]) rfl ?_
              replace hq := obind hq
              obtain ⟨q36, e37, hq⟩ := hq
              refine aw_callS (Y2 := YJ5_leftOf) (As := [va_rf q34.1]) (rest := [.ref a5]) kJ5_leftOf q1725 q1726 dJ5_fixAfterInsertion_209 rfl rfl (ct_J5_leftOf g hst N q34.2 q34.1 _ e37) (Nat.le_of_ble_eq_true rfl) (Nat.le_of_ble_eq_true rfl) (fun v9 h9 z9 y9 => ?_)
              obtain ⟨rfl, rfl⟩ := y9
              refine aw_st (st' := [va_rf q36.1, .ref a5]) rfl ?_
              refine xw_acmp_ne (v := (some a5)) (w := q36.1) (tgt := 225) dJ5_fixAfterInsertion_212 (by decide) (fun c38 => ?_) (fun c38 => ?_)
              · rw [if_neg c38] at hq
                exact p_x_J5_fixAfterInsertion_225 g hst N _ _ ih hK258 q36.2 x0 (some a5) q29.1 _ hq
              · rw [if_pos c38] at hq
                refine aw_aload_n (i := 1) dJ5_fixAfterInsertion_215 rfl rfl trivial ?_
                replace hq := obind hq
                obtain ⟨q56, e57, hq⟩ := hq
                refine aw_callS (Y2 := YJ5_parentOf) (As := [.ref a5]) (rest := []) kJ5_parentOf q1722 q1723 dJ5_fixAfterInsertion_216 rfl rfl (ct_J5_parentOf g hst N q36.2 (some a5) _ e57) (Nat.le_of_ble_eq_true rfl) (Nat.le_of_ble_eq_true rfl) (fun v9 h9 z9 y9 => ?_)
                obtain ⟨rfl, rfl⟩ := y9
                refine aw_st (st' := [va_rf q56.1]) rfl ?_
                refine aw_astore_n (i := 1) (loc' := [some (.ref x0), some (va_rf q56.1), some (va_rf q29.1)]) dJ5_fixAfterInsertion_219 rfl (Nat.le_of_ble_eq_true rfl) (aIsR_rf _) rfl ?_
                refine aw_aload_n (i := 0) dJ5_fixAfterInsertion_220 rfl rfl trivial ?_
                refine aw_aload_n (i := 1) dJ5_fixAfterInsertion_221 rfl rfl (aIsR_rf _) ?_
                replace hq := cond_t hq
                obtain ⟨z58, hq⟩ := hq
                obtain ⟨fs9, ha9⟩ := clB1 z58
                replace hq := obind hq
                obtain ⟨q59, e60, hq⟩ := hq
                refine aw_callV (Y2 := YJ5_rotateRight) (As := [va_rf q56.1]) (rest := []) (r := (RJ5, TJ5, 9)) kJ5_rotateRight ha9 rfl rfl q1741 q1743 qs30 dJ5_fixAfterInsertion_222 rfl rfl (ct_J5_rotateRight g hst N q56.2 x0 q56.1 _ e60) (Nat.le_of_ble_eq_true rfl) (Nat.le_of_ble_eq_true rfl) (fun v9 h9 z9 y9 => ?_)
                obtain ⟨rfl, y9⟩ := y9
                rw [y9]
                refine aw_st (st' := []) rfl ?_
                exact p_x_J5_fixAfterInsertion_225 g hst N _ _ ih hK258 q59 x0 q56.1 q29.1 _ hq
            · rw [if_pos c33] at hq
              refine aw_aload_n (i := 1) dJ5_fixAfterInsertion_169 rfl rfl trivial ?_
              replace hq := obind hq
              obtain ⟨q61, e62, hq⟩ := hq
              refine aw_callS (Y2 := YJ5_parentOf) (As := [.ref a5]) (rest := []) kJ5_parentOf q1722 q1723 dJ5_fixAfterInsertion_170 rfl rfl (ct_J5_parentOf g hst N q31.2 (some a5) _ e62) (Nat.le_of_ble_eq_true rfl) (Nat.le_of_ble_eq_true rfl) (fun v9 h9 z9 y9 => ?_)
              obtain ⟨rfl, rfl⟩ := y9
              refine aw_st (st' := [va_rf q61.1]) rfl ?_
              refine aw_iconst (v := 1) dJ5_fixAfterInsertion_173 (by decide) ?_
              replace hq := obind hq
              obtain ⟨q63, e64, hq⟩ := hq
              refine aw_callS (Y2 := YJ5_setColor) (As := [va_rf q61.1, .int (1 : Int32)]) (rest := []) kJ5_setColor q1734 q1735 dJ5_fixAfterInsertion_174 rfl rfl (ct_J5_setColor g hst N q61.2 q61.1 (1 : Int32) _ e64) (Nat.le_of_ble_eq_true rfl) (Nat.le_of_ble_eq_true rfl) (fun v9 h9 z9 y9 => ?_)
              obtain ⟨rfl, y9⟩ := y9
              rw [y9]
              refine aw_st (st' := []) rfl ?_
              refine aw_aload_n (i := 2) dJ5_fixAfterInsertion_177 rfl rfl (aIsR_rf _) ?_
              refine aw_iconst (v := 1) dJ5_fixAfterInsertion_178 (by decide) ?_
              replace hq := obind hq
              obtain ⟨q65, e66, hq⟩ := hq
              refine aw_callS (Y2 := YJ5_setColor) (As := [va_rf q29.1, .int (1 : Int32)]) (rest := []) kJ5_setColor q1734 q1735 dJ5_fixAfterInsertion_179 rfl rfl (ct_J5_setColor g hst N q63 q29.1 (1 : Int32) _ e66) (Nat.le_of_ble_eq_true rfl) (Nat.le_of_ble_eq_true rfl) (fun v9 h9 z9 y9 => ?_)
              obtain ⟨rfl, y9⟩ := y9
              rw [y9]
              refine aw_st (st' := []) rfl ?_
              refine aw_aload_n (i := 1) dJ5_fixAfterInsertion_182 rfl rfl trivial ?_
              replace hq := obind hq
              obtain ⟨q67, e68, hq⟩ := hq
              refine aw_callS (Y2 := YJ5_parentOf) (As := [.ref a5]) (rest := []) kJ5_parentOf q1722 q1723 dJ5_fixAfterInsertion_183 rfl rfl (ct_J5_parentOf g hst N q65 (some a5) _ e68) (Nat.le_of_ble_eq_true rfl) (Nat.le_of_ble_eq_true rfl) (fun v9 h9 z9 y9 => ?_)
              obtain ⟨rfl, rfl⟩ := y9
              refine aw_st (st' := [va_rf q67.1]) rfl ?_
              replace hq := obind hq
              obtain ⟨q69, e70, hq⟩ := hq
              refine aw_callS (Y2 := YJ5_parentOf) (As := [va_rf q67.1]) (rest := []) kJ5_parentOf q1722 q1723 dJ5_fixAfterInsertion_186 rfl rfl (ct_J5_parentOf g hst N q67.2 q67.1 _ e70) (Nat.le_of_ble_eq_true rfl) (Nat.le_of_ble_eq_true rfl) (fun v9 h9 z9 y9 => ?_)
              obtain ⟨rfl, rfl⟩ := y9
              refine aw_st (st' := [va_rf q69.1]) rfl ?_
              refine aw_iconst (v := 0) dJ5_fixAfterInsertion_189 (by decide) ?_
              replace hq := obind hq
              obtain ⟨q71, e72, hq⟩ := hq
              refine aw_callS (Y2 := YJ5_setColor) (As := [va_rf q69.1, .int (0 : Int32)]) (rest := []) kJ5_setColor q1734 q1735 dJ5_fixAfterInsertion_190 rfl rfl (ct_J5_setColor g hst N q69.2 q69.1 (0 : Int32) _ e72) (Nat.le_of_ble_eq_true rfl) (Nat.le_of_ble_eq_true rfl) (fun v9 h9 z9 y9 => ?_)
              obtain ⟨rfl, y9⟩ := y9
              rw [y9]
              refine aw_st (st' := []) rfl ?_
              refine aw_aload_n (i := 1) dJ5_fixAfterInsertion_193 rfl rfl trivial ?_
              replace hq := obind hq
              obtain ⟨q73, e74, hq⟩ := hq
              refine aw_callS (Y2 := YJ5_parentOf) (As := [.ref a5]) (rest := []) kJ5_parentOf q1722 q1723 dJ5_fixAfterInsertion_194 rfl rfl (ct_J5_parentOf g hst N q71 (some a5) _ e74) (Nat.le_of_ble_eq_true rfl) (Nat.le_of_ble_eq_true rfl) (fun v9 h9 z9 y9 => ?_)
              obtain ⟨rfl, rfl⟩ := y9
              refine aw_st (st' := [va_rf q73.1]) rfl ?_
              replace hq := obind hq
              obtain ⟨q75, e76, hq⟩ := hq
              refine aw_callS (Y2 := YJ5_parentOf) (As := [va_rf q73.1]) (rest := []) kJ5_parentOf q1722 q1723 dJ5_fixAfterInsertion_197 rfl rfl (ct_J5_parentOf g hst N q73.2 q73.1 _ e76) (Nat.le_of_ble_eq_true rfl) (Nat.le_of_ble_eq_true rfl) (fun v9 h9 z9 y9 => ?_)
              obtain ⟨rfl, rfl⟩ := y9
              refine aw_st (st' := [va_rf q75.1]) rfl ?_
              refine aw_astore_n (i := 1) (loc' := [some (.ref x0), some (va_rf q75.1), some (va_rf q29.1)]) dJ5_fixAfterInsertion_200 rfl (Nat.le_of_ble_eq_true rfl) (aIsR_rf _) rfl ?_
              refine aw_goto (tgt := 255) dJ5_fixAfterInsertion_201 (by decide) ?_
              exact p_x_J5_fixAfterInsertion_255 g hst N _ _ ih hK258 q75.2 x0 q75.1 q29.1 _ hq
          · rw [if_pos c24] at hq
            refine aw_aload_n (i := 1) dJ5_fixAfterInsertion_44 rfl rfl trivial ?_
            replace hq := obind hq
            obtain ⟨q77, e78, hq⟩ := hq
            refine aw_callS (Y2 := YJ5_parentOf) (As := [.ref a5]) (rest := []) kJ5_parentOf q1722 q1723 dJ5_fixAfterInsertion_45 rfl rfl (ct_J5_parentOf g hst N q22.2 (some a5) _ e78) (Nat.le_of_ble_eq_true rfl) (Nat.le_of_ble_eq_true rfl) (fun v9 h9 z9 y9 => ?_)
            obtain ⟨rfl, rfl⟩ := y9
            refine aw_st (st' := [va_rf q77.1]) rfl ?_
            replace hq := obind hq
            obtain ⟨q79, e80, hq⟩ := hq
            refine aw_callS (Y2 := YJ5_parentOf) (As := [va_rf q77.1]) (rest := []) kJ5_parentOf q1722 q1723 dJ5_fixAfterInsertion_48 rfl rfl (ct_J5_parentOf g hst N q77.2 q77.1 _ e80) (Nat.le_of_ble_eq_true rfl) (Nat.le_of_ble_eq_true rfl) (fun v9 h9 z9 y9 => ?_)
            obtain ⟨rfl, rfl⟩ := y9
            refine aw_st (st' := [va_rf q79.1]) rfl ?_
            replace hq := obind hq
            obtain ⟨q81, e82, hq⟩ := hq
            refine aw_callS (Y2 := YJ5_rightOf) (As := [va_rf q79.1]) (rest := []) kJ5_rightOf q1728 q1729 dJ5_fixAfterInsertion_51 rfl rfl (ct_J5_rightOf g hst N q79.2 q79.1 _ e82) (Nat.le_of_ble_eq_true rfl) (Nat.le_of_ble_eq_true rfl) (fun v9 h9 z9 y9 => ?_)
            obtain ⟨rfl, rfl⟩ := y9
            refine aw_st (st' := [va_rf q81.1]) rfl ?_
            refine aw_astore_n (i := 2) (loc' := [some (.ref x0), some (.ref a5), some (va_rf q81.1)]) dJ5_fixAfterInsertion_54 rfl (Nat.le_of_ble_eq_true rfl) (aIsR_rf _) rfl ?_
            refine aw_aload_n (i := 2) dJ5_fixAfterInsertion_55 rfl rfl (aIsR_rf _) ?_
            replace hq := obind hq
            obtain ⟨q83, e84, hq⟩ := hq
            refine aw_callS (Y2 := YJ5_colorOf) (As := [va_rf q81.1]) (rest := []) kJ5_colorOf q1731 q1732 dJ5_fixAfterInsertion_56 rfl rfl (ct_J5_colorOf g hst N q81.2 q81.1 _ e84) (Nat.le_of_ble_eq_true rfl) (Nat.le_of_ble_eq_true rfl) (fun v9 h9 z9 y9 => ?_)
            obtain ⟨rfl, rfl⟩ := y9
            refine aw_st (st' := [.int q83.1]) rfl ?_
            refine aw_if_ne (tgt := 97) dJ5_fixAfterInsertion_59 (by decide) (fun c85 => ?_) (fun c85 => ?_)
            · rw [if_neg c85] at hq
              refine aw_aload_n (i := 1) dJ5_fixAfterInsertion_97 rfl rfl trivial ?_
              refine aw_aload_n (i := 1) dJ5_fixAfterInsertion_98 rfl rfl trivial ?_
              replace hq := obind hq
              obtain ⟨q86, e87, hq⟩ := hq
              refine aw_callS (Y2 := YJ5_parentOf) (As := [.ref a5]) (rest := [.ref a5]) kJ5_parentOf q1722 q1723 dJ5_fixAfterInsertion_99 rfl rfl (ct_J5_parentOf g hst N q83.2 (some a5) _ e87) (Nat.le_of_ble_eq_true rfl) (Nat.le_of_ble_eq_true rfl) (fun v9 h9 z9 y9 => ?_)
              obtain ⟨rfl, rfl⟩ := y9
              refine aw_st (st' := [va_rf q86.1, .ref a5]) rfl ?_
              replace hq := obind hq
              obtain ⟨q88, e89, hq⟩ := hq
              refine aw_callS (Y2 := YJ5_rightOf) (As := [va_rf q86.1]) (rest := [.ref a5]) kJ5_rightOf q1728 q1729 dJ5_fixAfterInsertion_102 rfl rfl (ct_J5_rightOf g hst N q86.2 q86.1 _ e89) (Nat.le_of_ble_eq_true rfl) (Nat.le_of_ble_eq_true rfl) (fun v9 h9 z9 y9 => ?_)
              obtain ⟨rfl, rfl⟩ := y9
              refine aw_st (st' := [va_rf q88.1, .ref a5]) rfl ?_
              refine xw_acmp_ne (v := (some a5)) (w := q88.1) (tgt := 118) dJ5_fixAfterInsertion_105 (by decide) (fun c90 => ?_) (fun c90 => ?_)
              · rw [if_neg c90] at hq
                exact p_x_J5_fixAfterInsertion_118 g hst N _ _ ih hK258 q88.2 x0 (some a5) q81.1 _ hq
              · rw [if_pos c90] at hq
                refine aw_aload_n (i := 1) dJ5_fixAfterInsertion_108 rfl rfl trivial ?_
                replace hq := obind hq
                obtain ⟨q108, e109, hq⟩ := hq
                refine aw_callS (Y2 := YJ5_parentOf) (As := [.ref a5]) (rest := []) kJ5_parentOf q1722 q1723 dJ5_fixAfterInsertion_109 rfl rfl (ct_J5_parentOf g hst N q88.2 (some a5) _ e109) (Nat.le_of_ble_eq_true rfl) (Nat.le_of_ble_eq_true rfl) (fun v9 h9 z9 y9 => ?_)
                obtain ⟨rfl, rfl⟩ := y9
                refine aw_st (st' := [va_rf q108.1]) rfl ?_
                refine aw_astore_n (i := 1) (loc' := [some (.ref x0), some (va_rf q108.1), some (va_rf q81.1)]) dJ5_fixAfterInsertion_112 rfl (Nat.le_of_ble_eq_true rfl) (aIsR_rf _) rfl ?_
                refine aw_aload_n (i := 0) dJ5_fixAfterInsertion_113 rfl rfl trivial ?_
                refine aw_aload_n (i := 1) dJ5_fixAfterInsertion_114 rfl rfl (aIsR_rf _) ?_
                replace hq := cond_t hq
                obtain ⟨z110, hq⟩ := hq
                obtain ⟨fs9, ha9⟩ := clB1 z110
                replace hq := obind hq
                obtain ⟨q111, e112, hq⟩ := hq
                refine aw_callV (Y2 := YJ5_rotateLeft) (As := [va_rf q108.1]) (rest := []) (r := (RJ5, TJ5, 9)) kJ5_rotateLeft ha9 rfl rfl q1737 q1739 qs29 dJ5_fixAfterInsertion_115 rfl rfl (ct_J5_rotateLeft g hst N q108.2 x0 q108.1 _ e112) (Nat.le_of_ble_eq_true rfl) (Nat.le_of_ble_eq_true rfl) (fun v9 h9 z9 y9 => ?_)
                obtain ⟨rfl, y9⟩ := y9
                rw [y9]
                refine aw_st (st' := []) rfl ?_
                exact p_x_J5_fixAfterInsertion_118 g hst N _ _ ih hK258 q111 x0 q108.1 q81.1 _ hq
            · rw [if_pos c85] at hq
              refine aw_aload_n (i := 1) dJ5_fixAfterInsertion_62 rfl rfl trivial ?_
              replace hq := obind hq
              obtain ⟨q113, e114, hq⟩ := hq
              refine aw_callS (Y2 := YJ5_parentOf) (As := [.ref a5]) (rest := []) kJ5_parentOf q1722 q1723 dJ5_fixAfterInsertion_63 rfl rfl (ct_J5_parentOf g hst N q83.2 (some a5) _ e114) (Nat.le_of_ble_eq_true rfl) (Nat.le_of_ble_eq_true rfl) (fun v9 h9 z9 y9 => ?_)
              obtain ⟨rfl, rfl⟩ := y9
              refine aw_st (st' := [va_rf q113.1]) rfl ?_
              refine aw_iconst (v := 1) dJ5_fixAfterInsertion_66 (by decide) ?_
              replace hq := obind hq
              obtain ⟨q115, e116, hq⟩ := hq
              refine aw_callS (Y2 := YJ5_setColor) (As := [va_rf q113.1, .int (1 : Int32)]) (rest := []) kJ5_setColor q1734 q1735 dJ5_fixAfterInsertion_67 rfl rfl (ct_J5_setColor g hst N q113.2 q113.1 (1 : Int32) _ e116) (Nat.le_of_ble_eq_true rfl) (Nat.le_of_ble_eq_true rfl) (fun v9 h9 z9 y9 => ?_)
              obtain ⟨rfl, y9⟩ := y9
              rw [y9]
              refine aw_st (st' := []) rfl ?_
              refine aw_aload_n (i := 2) dJ5_fixAfterInsertion_70 rfl rfl (aIsR_rf _) ?_
              refine aw_iconst (v := 1) dJ5_fixAfterInsertion_71 (by decide) ?_
              replace hq := obind hq
              obtain ⟨q117, e118, hq⟩ := hq
              refine aw_callS (Y2 := YJ5_setColor) (As := [va_rf q81.1, .int (1 : Int32)]) (rest := []) kJ5_setColor q1734 q1735 dJ5_fixAfterInsertion_72 rfl rfl (ct_J5_setColor g hst N q115 q81.1 (1 : Int32) _ e118) (Nat.le_of_ble_eq_true rfl) (Nat.le_of_ble_eq_true rfl) (fun v9 h9 z9 y9 => ?_)
              obtain ⟨rfl, y9⟩ := y9
              rw [y9]
              refine aw_st (st' := []) rfl ?_
              refine aw_aload_n (i := 1) dJ5_fixAfterInsertion_75 rfl rfl trivial ?_
              replace hq := obind hq
              obtain ⟨q119, e120, hq⟩ := hq
              refine aw_callS (Y2 := YJ5_parentOf) (As := [.ref a5]) (rest := []) kJ5_parentOf q1722 q1723 dJ5_fixAfterInsertion_76 rfl rfl (ct_J5_parentOf g hst N q117 (some a5) _ e120) (Nat.le_of_ble_eq_true rfl) (Nat.le_of_ble_eq_true rfl) (fun v9 h9 z9 y9 => ?_)
              obtain ⟨rfl, rfl⟩ := y9
              refine aw_st (st' := [va_rf q119.1]) rfl ?_
              replace hq := obind hq
              obtain ⟨q121, e122, hq⟩ := hq
              refine aw_callS (Y2 := YJ5_parentOf) (As := [va_rf q119.1]) (rest := []) kJ5_parentOf q1722 q1723 dJ5_fixAfterInsertion_79 rfl rfl (ct_J5_parentOf g hst N q119.2 q119.1 _ e122) (Nat.le_of_ble_eq_true rfl) (Nat.le_of_ble_eq_true rfl) (fun v9 h9 z9 y9 => ?_)
              obtain ⟨rfl, rfl⟩ := y9
              refine aw_st (st' := [va_rf q121.1]) rfl ?_
              refine aw_iconst (v := 0) dJ5_fixAfterInsertion_82 (by decide) ?_
              replace hq := obind hq
              obtain ⟨q123, e124, hq⟩ := hq
              refine aw_callS (Y2 := YJ5_setColor) (As := [va_rf q121.1, .int (0 : Int32)]) (rest := []) kJ5_setColor q1734 q1735 dJ5_fixAfterInsertion_83 rfl rfl (ct_J5_setColor g hst N q121.2 q121.1 (0 : Int32) _ e124) (Nat.le_of_ble_eq_true rfl) (Nat.le_of_ble_eq_true rfl) (fun v9 h9 z9 y9 => ?_)
              obtain ⟨rfl, y9⟩ := y9
              rw [y9]
              refine aw_st (st' := []) rfl ?_
              refine aw_aload_n (i := 1) dJ5_fixAfterInsertion_86 rfl rfl trivial ?_
              replace hq := obind hq
              obtain ⟨q125, e126, hq⟩ := hq
              refine aw_callS (Y2 := YJ5_parentOf) (As := [.ref a5]) (rest := []) kJ5_parentOf q1722 q1723 dJ5_fixAfterInsertion_87 rfl rfl (ct_J5_parentOf g hst N q123 (some a5) _ e126) (Nat.le_of_ble_eq_true rfl) (Nat.le_of_ble_eq_true rfl) (fun v9 h9 z9 y9 => ?_)
              obtain ⟨rfl, rfl⟩ := y9
              refine aw_st (st' := [va_rf q125.1]) rfl ?_
              replace hq := obind hq
              obtain ⟨q127, e128, hq⟩ := hq
              refine aw_callS (Y2 := YJ5_parentOf) (As := [va_rf q125.1]) (rest := []) kJ5_parentOf q1722 q1723 dJ5_fixAfterInsertion_90 rfl rfl (ct_J5_parentOf g hst N q125.2 q125.1 _ e128) (Nat.le_of_ble_eq_true rfl) (Nat.le_of_ble_eq_true rfl) (fun v9 h9 z9 y9 => ?_)
              obtain ⟨rfl, rfl⟩ := y9
              refine aw_st (st' := [va_rf q127.1]) rfl ?_
              refine aw_astore_n (i := 1) (loc' := [some (.ref x0), some (va_rf q127.1), some (va_rf q81.1)]) dJ5_fixAfterInsertion_93 rfl (Nat.le_of_ble_eq_true rfl) (aIsR_rf _) rfl ?_
              refine aw_goto (tgt := 148) dJ5_fixAfterInsertion_94 (by decide) ?_
              exact p_x_J5_fixAfterInsertion_148 g hst N _ _ ih hK258 q127.2 x0 q127.1 q81.1 _ hq
def x_J5_fixAfterInsertion_258 (g : AG) (N : Nat) (h : AH) (x0 : Nat) (r1 : Option Nat) : Option AH :=
  (rdR h x0 [(14, 3)]).bind fun o129 => (o129).bind fun a131 => (wrV g h a131 [(15, 5)] (.int (1 : Int32))).bind fun h133 => some h133
theorem p_x_J5_fixAfterInsertion_258 (g : AG) (hst : (gL g).stackTraces = false) (N : Nat) : ∀ (h : AH) (x0 : Nat) (r1 : Option Nat) (q : AH), x_J5_fixAfterInsertion_258 g N h x0 r1 = some q → AW g YJ5_fixAfterInsertion 2 (xV q) h [some (.ref x0), some (va_rf r1), none] 258 [] := by
  intro h x0 r1 q hq
  unfold x_J5_fixAfterInsertion_258 at hq
  refine aw_aload_n (i := 0) dJ5_fixAfterInsertion_258 rfl rfl trivial ?_
  replace hq := obind hq
  obtain ⟨o129, e130, hq⟩ := hq
  refine xw_getR e130 fJ5_101 dJ5_fixAfterInsertion_259 ?_
  refine aw_iconst (v := 1) dJ5_fixAfterInsertion_262 (by decide) ?_
  replace hq := obind hq
  obtain ⟨a131, e132, hq⟩ := hq
  subst e132
  replace hq := obind hq
  obtain ⟨h133, e134, hq⟩ := hq
  refine xw_put e134 fJ5_290 tJ30_5 (isb_ok (by decide)) dJ5_fixAfterInsertion_263 ?_
  cases hq
  exact aw_vret dJ5_fixAfterInsertion_266 rfl ⟨rfl, rfl⟩
def x_J5_fixAfterInsertion (g : AG) (N : Nat) (h : AH) (x0 : Nat) (r1 : Option Nat) : Option AH :=
  (r1).bind fun a1 => (wrV g h a1 [(15, 5)] (.int (0 : Int32))).bind fun h3 => x_J5_fixAfterInsertion_5 g N (fun h x0 r1 => x_J5_fixAfterInsertion_258 g N  h x0 r1) N h3 x0 (some a1)
theorem ct_J5_fixAfterInsertion (g : AG) (hst : (gL g).stackTraces = false) (N : Nat) : ∀ (h : AH) (x0 : Nat) (r1 : Option Nat) (q : AH), x_J5_fixAfterInsertion g N h x0 r1 = some q → CT g YJ5_fixAfterInsertion 2 [.ref x0, va_rf r1] h (xV q) := by
  intro h x0 r1 q hq
  refine CT.of rfl (by decide +kernel) (loc := [some (.ref x0), some (va_rf r1), none]) (by first | exact Nat.le_of_ble_eq_true rfl | (simp only [lgl_rf, lgl_i, lgl_j, lgl_ref, lgl_nil]; exact Nat.le_of_ble_eq_true rfl)) (by first | rfl | (simp only [aent_rf, aent_i, aent_j, aent_ref, aent_nil]; rfl)) ?_
  unfold x_J5_fixAfterInsertion at hq
  refine aw_aload_n (i := 1) dJ5_fixAfterInsertion_0 rfl rfl (aIsR_rf _) ?_
  refine aw_iconst (v := 0) dJ5_fixAfterInsertion_1 (by decide) ?_
  replace hq := obind hq
  obtain ⟨a1, e2, hq⟩ := hq
  subst e2
  replace hq := obind hq
  obtain ⟨h3, e4, hq⟩ := hq
  refine xw_put e4 fJ5_290 tJ30_5 (isb_ok (by decide)) dJ5_fixAfterInsertion_2 ?_
  refine p_x_J5_fixAfterInsertion_5 g hst N _ ?_ N h3 x0 (some a1) _ hq
  · intro h x0 r1 q hq
    exact p_x_J5_fixAfterInsertion_258 g hst N   h x0 r1 _ hq
theorem dfJ30 : ∀ j, j < 6 → defaultValue (tyJ30 j) = vp_V [.null, .null, .null, .null, .null, .int 0] j := by decide +kernel
theorem fJ5_7 : ∀ q ∈ ([(14, 4)] : List (Nat × Nat)), aFl RJ5 7 q.1 q.2 := by
  intro q hq
  simp only [List.mem_cons, List.not_mem_nil, or_false] at hq
  subst hq
  exact aFl.of (RJ5, TJ5, 9) rfl (Nat.le_of_ble_eq_true rfl) q283
theorem tJ5_4 : ∀ q ∈ ([(14, 4)] : List (Nat × Nat)), aFt q.1 q.2 false .int := by
  intro q hq
  simp only [List.mem_cons, List.not_mem_nil, or_false] at hq
  subst hq
  exact ⟨(RJ5, TJ5, 9), tyJ5, Nat.le_of_ble_eq_true rfl, rfl, Nat.le_of_ble_eq_true rfl, okJ5, rfl, rfl⟩
theorem fJ5_13 : ∀ q ∈ ([(14, 5)] : List (Nat × Nat)), aFl RJ5 13 q.1 q.2 := by
  intro q hq
  simp only [List.mem_cons, List.not_mem_nil, or_false] at hq
  subst hq
  exact aFl.of (RJ5, TJ5, 9) rfl (Nat.le_of_ble_eq_true rfl) q284
theorem tJ5_5 : ∀ q ∈ ([(14, 5)] : List (Nat × Nat)), aFt q.1 q.2 false .int := by
  intro q hq
  simp only [List.mem_cons, List.not_mem_nil, or_false] at hq
  subst hq
  exact ⟨(RJ5, TJ5, 9), tyJ5, Nat.le_of_ble_eq_true rfl, rfl, Nat.le_of_ble_eq_true rfl, okJ5, rfl, rfl⟩
abbrev YJ5_addEntry : YC := (yJ5_addEntry, cJ5_addEntry, 6, none, [])
theorem kJ5_addEntry : aMk YJ5_addEntry 4 := ⟨rfl, q1717, q124, ⟨by decide +kernel, by decide +kernel, by decide +kernel⟩, Nat.le_of_ble_eq_true rfl⟩
def x_J5_addEntry_32 (g : AG) (N : Nat) (h : AH) (x0 : Nat) (r1 : Option Nat) (r2 : Option Nat) (r3 : Option Nat) (x4 : Int32) (r5 : Option Nat) : Option AH :=
  bif clB h x0 [14] then ((x_J5_fixAfterInsertion g N h x0 r5).bind fun q11 => (rdI q11 x0 [(14, 4)]).bind fun i13 => (wrV g q11 x0 [(14, 4)] (.int (i13 + (1 : Int32)))).bind fun h15 => (rdI h15 x0 [(14, 5)]).bind fun i17 => (wrV g h15 x0 [(14, 5)] (.int (i17 + (1 : Int32)))).bind fun h19 => some h19) else none
theorem p_x_J5_addEntry_32 (g : AG) (hst : (gL g).stackTraces = false) (N : Nat) : ∀ (h : AH) (x0 : Nat) (r1 : Option Nat) (r2 : Option Nat) (r3 : Option Nat) (x4 : Int32) (r5 : Option Nat) (q : AH), x_J5_addEntry_32 g N h x0 r1 r2 r3 x4 r5 = some q → AW g YJ5_addEntry 4 (xV q) h [some (.ref x0), some (va_rf r1), some (va_rf r2), some (va_rf r3), some (.int x4), some (va_rf r5)] 32 [] := by
  intro h x0 r1 r2 r3 x4 r5 q hq
  unfold x_J5_addEntry_32 at hq
  refine aw_aload_n (i := 0) dJ5_addEntry_32 rfl rfl trivial ?_
  refine aw_aload dJ5_addEntry_33 rfl (aIsR_rf _) ?_
  replace hq := cond_t hq
  obtain ⟨z10, hq⟩ := hq
  obtain ⟨fs9, ha9⟩ := clB1 z10
  replace hq := obind hq
  obtain ⟨q11, e12, hq⟩ := hq
  refine aw_callV (Y2 := YJ5_fixAfterInsertion) (As := [va_rf r5]) (rest := []) (r := (RJ5, TJ5, 9)) kJ5_fixAfterInsertion ha9 rfl rfl q1718 q1720 qs28 dJ5_addEntry_35 rfl rfl (ct_J5_fixAfterInsertion g hst N h x0 r5 _ e12) (Nat.le_of_ble_eq_true rfl) (Nat.le_of_ble_eq_true rfl) (fun v9 h9 z9 y9 => ?_)
  obtain ⟨rfl, y9⟩ := y9
  rw [y9]
  refine aw_st (st' := []) rfl ?_
  refine aw_aload_n (i := 0) dJ5_addEntry_38 rfl rfl trivial ?_
  refine aw_dup dJ5_addEntry_39 rfl ?_
  replace hq := obind hq
  obtain ⟨i13, e14, hq⟩ := hq
  refine xw_getI e14 fJ5_7 dJ5_addEntry_40 ?_
  refine aw_iconst (v := 1) dJ5_addEntry_43 (by decide) ?_
  refine aw_iadd dJ5_addEntry_44 ?_
  replace hq := obind hq
  obtain ⟨h15, e16, hq⟩ := hq
  refine xw_put e16 fJ5_7 tJ5_4 ⟨rfl, rfl⟩ dJ5_addEntry_45 ?_
  refine aw_aload_n (i := 0) dJ5_addEntry_48 rfl rfl trivial ?_
  refine aw_dup dJ5_addEntry_49 rfl ?_
  replace hq := obind hq
  obtain ⟨i17, e18, hq⟩ := hq
  refine xw_getI e18 fJ5_13 dJ5_addEntry_50 ?_
  refine aw_iconst (v := 1) dJ5_addEntry_53 (by decide) ?_
  refine aw_iadd dJ5_addEntry_54 ?_
  replace hq := obind hq
  obtain ⟨h19, e20, hq⟩ := hq
  refine xw_put e20 fJ5_13 tJ5_5 ⟨rfl, rfl⟩ dJ5_addEntry_55 ?_
  cases hq
  exact aw_vret dJ5_addEntry_58 rfl ⟨rfl, rfl⟩
def x_J5_addEntry (g : AG) (N : Nat) (h : AH) (x0 : Nat) (r1 : Option Nat) (r2 : Option Nat) (r3 : Option Nat) (x4 : Int32) : Option AH :=
  (mkO g h 6 15 [.null, .null, .null, .null, .null, .int 0]).bind fun h1 => (x_J30_init g N h1 h.2.1 r1 r2 r3).bind fun q3 => if x4 = 0 then ((r3).bind fun a6 => (wrV g q3 a6 [(15, 3)] (.ref h.2.1)).bind fun h8 => x_J5_addEntry_32 g N  h8 x0 r1 r2 (some a6) x4 (some h.2.1)) else ((r3).bind fun a21 => (wrV g q3 a21 [(15, 2)] (.ref h.2.1)).bind fun h23 => x_J5_addEntry_32 g N  h23 x0 r1 r2 (some a21) x4 (some h.2.1))
theorem ct_J5_addEntry (g : AG) (hst : (gL g).stackTraces = false) (N : Nat) : ∀ (h : AH) (x0 : Nat) (r1 : Option Nat) (r2 : Option Nat) (r3 : Option Nat) (x4 : Int32) (q : AH), x_J5_addEntry g N h x0 r1 r2 r3 x4 = some q → CT g YJ5_addEntry 4 [.ref x0, va_rf r1, va_rf r2, va_rf r3, .int x4] h (xV q) := by
  intro h x0 r1 r2 r3 x4 q hq
  refine CT.of rfl (by decide +kernel) (loc := [some (.ref x0), some (va_rf r1), some (va_rf r2), some (va_rf r3), some (.int x4), none]) (by first | exact Nat.le_of_ble_eq_true rfl | (simp only [lgl_rf, lgl_i, lgl_j, lgl_ref, lgl_nil]; exact Nat.le_of_ble_eq_true rfl)) (by first | rfl | (simp only [aent_rf, aent_i, aent_j, aent_ref, aent_nil]; rfl)) ?_
  unfold x_J5_addEntry at hq
  replace hq := obind hq
  obtain ⟨h1, e2, hq⟩ := hq
  refine xw_new (r := (RJ30, TJ30, 6)) e2 q1685 q1686 q157 (by decide) rfl okJ30 rfl dfJ30 dJ5_addEntry_0 ?_
  refine aw_dup dJ5_addEntry_3 rfl ?_
  refine aw_aload_n (i := 1) dJ5_addEntry_4 rfl rfl (aIsR_rf _) ?_
  refine aw_aload_n (i := 2) dJ5_addEntry_5 rfl rfl (aIsR_rf _) ?_
  refine aw_aload_n (i := 3) dJ5_addEntry_6 rfl rfl (aIsR_rf _) ?_
  replace hq := obind hq
  obtain ⟨q3, e4, hq⟩ := hq
  refine aw_callI (Y2 := YJ30_init) (As := [va_rf r1, va_rf r2, va_rf r3]) (rest := [.ref h.2.1]) (b := h.2.1) kJ30_init rfl rfl q1687 q1688 dJ5_addEntry_7 rfl rfl (ct_J30_init g hst N h1 h.2.1 r1 r2 r3 _ e4) (Nat.le_of_ble_eq_true rfl) (Nat.le_of_ble_eq_true rfl) (fun v9 h9 z9 y9 => ?_)
  obtain ⟨rfl, y9⟩ := y9
  rw [y9]
  refine aw_st (st' := [.ref h.2.1]) rfl ?_
  refine aw_astore (loc' := [some (.ref x0), some (va_rf r1), some (va_rf r2), some (va_rf r3), some (.int x4), some (.ref h.2.1)]) dJ5_addEntry_10 (Nat.le_of_ble_eq_true rfl) trivial rfl ?_
  refine aw_iload dJ5_addEntry_12 rfl ?_
  refine aw_if_eq (tgt := 26) dJ5_addEntry_14 (by decide) (fun c5 => ?_) (fun c5 => ?_)
  · rw [if_pos c5] at hq
    refine aw_aload_n (i := 3) dJ5_addEntry_26 rfl rfl (aIsR_rf _) ?_
    refine aw_aload dJ5_addEntry_27 rfl trivial ?_
    replace hq := obind hq
    obtain ⟨a6, e7, hq⟩ := hq
    subst e7
    replace hq := obind hq
    obtain ⟨h8, e9, hq⟩ := hq
    refine xw_put e9 fJ5_114 tJ30_3 (fits_rf _ (some h.2.1)) dJ5_addEntry_29 ?_
    exact p_x_J5_addEntry_32 g hst N   h8 x0 r1 r2 (some a6) x4 (some h.2.1) _ hq
  · rw [if_neg c5] at hq
    refine aw_aload_n (i := 3) dJ5_addEntry_17 rfl rfl (aIsR_rf _) ?_
    refine aw_aload dJ5_addEntry_18 rfl trivial ?_
    replace hq := obind hq
    obtain ⟨a21, e22, hq⟩ := hq
    subst e22
    replace hq := obind hq
    obtain ⟨h23, e24, hq⟩ := hq
    refine xw_put e24 fJ5_111 tJ30_2 (fits_rf _ (some h.2.1)) dJ5_addEntry_20 ?_
    refine aw_goto (tgt := 32) dJ5_addEntry_23 (by decide) ?_
    exact p_x_J5_addEntry_32 g hst N   h23 x0 r1 r2 (some a21) x4 (some h.2.1) _ hq
theorem fJ5_16 : ∀ q ∈ ([(14, 2)] : List (Nat × Nat)), aFl RJ5 16 q.1 q.2 := by
  intro q hq
  simp only [List.mem_cons, List.not_mem_nil, or_false] at hq
  subst hq
  exact aFl.of (RJ5, TJ5, 9) rfl (Nat.le_of_ble_eq_true rfl) q281
abbrev YJ5_compare : YC := (yJ5_compare, cJ5_compare, 3, (some .int), [])
theorem kJ5_compare : aMk YJ5_compare 2 := ⟨rfl, q1684, q124, ⟨by decide +kernel, by decide +kernel, by decide +kernel⟩, Nat.le_of_ble_eq_true rfl⟩
def x_J5_compare (g : AG) (N : Nat) (h : AH) (x0 : Nat) (r1 : Option Nat) (r2 : Option Nat) : Option (Int32 × AH) :=
  (rdR h x0 [(14, 2)]).bind fun o1 => ocase o1 (bif casB h r1 [16, 17, 18, 19] then ((r1).bind fun a5 => bif clB h a5 [18] then ((x_J21_compareTo g N h a5 r2).bind fun q8 => some (q8.1, q8.2)) else none) else none) (fun a3 => (rdR h x0 [(14, 2)]).bind fun o10 => none)
theorem ct_J5_compare (g : AG) (hst : (gL g).stackTraces = false) (N : Nat) : ∀ (h : AH) (x0 : Nat) (r1 : Option Nat) (r2 : Option Nat) (q : (Int32 × AH)), x_J5_compare g N h x0 r1 r2 = some q → CT g YJ5_compare 4 [.ref x0, va_rf r1, va_rf r2] h (xI q) := by
  intro h x0 r1 r2 q hq
  refine CT.of rfl (by decide +kernel) (loc := [some (.ref x0), some (va_rf r1), some (va_rf r2)]) (by first | exact Nat.le_of_ble_eq_true rfl | (simp only [lgl_rf, lgl_i, lgl_j, lgl_ref, lgl_nil]; exact Nat.le_of_ble_eq_true rfl)) (by first | rfl | (simp only [aent_rf, aent_i, aent_j, aent_ref, aent_nil]; rfl)) ?_
  unfold x_J5_compare at hq
  refine aw_aload_n (i := 0) dJ5_compare_0 rfl rfl trivial ?_
  replace hq := obind hq
  obtain ⟨o1, e2, hq⟩ := hq
  refine xw_getR e2 fJ5_16 dJ5_compare_1 ?_
  rcases o1 with _ | a3
  · replace hq := ocase_n hq
    refine xw_ifnonN (tgt := 20) dJ5_compare_4 (by decide) ?_
    refine aw_aload_n (i := 1) dJ5_compare_7 rfl rfl (aIsR_rf _) ?_
    replace hq := cond_t hq
    obtain ⟨z4, hq⟩ := hq
    refine xw_cast (r := r1) z4 q1516 casjava_lang_Comparable dJ5_compare_8 ?_
    refine aw_aload_n (i := 2) dJ5_compare_11 rfl rfl (aIsR_rf _) ?_
    replace hq := obind hq
    obtain ⟨a5, e6, hq⟩ := hq
    subst e6
    replace hq := cond_t hq
    obtain ⟨z7, hq⟩ := hq
    obtain ⟨fs9, ha9⟩ := clB1 z7
    replace hq := obind hq
    obtain ⟨q8, e9, hq⟩ := hq
    refine aw_callF (Y2 := YJ21_compareTo) (As := [va_rf r2]) (rest := []) (r := (RJ21, TJ21, 1)) (x := ⟨"java/lang/Comparable", "compareTo", "(Ljava/lang/Object;)I"⟩) kJ21_compareTo ha9 rfl (by decide) (by decide) ⟨by decide +kernel, by decide +kernel, by decide +kernel⟩ q1518 q1309 q1307 dJ5_compare_12 rfl rfl (ct_J21_compareTo g hst N h a5 r2 _ e9) (Nat.le_of_ble_eq_true rfl) (Nat.le_of_ble_eq_true rfl) (fun v9 h9 z9 y9 => ?_)
    obtain ⟨rfl, rfl⟩ := y9
    refine aw_st (st' := [.int q8.1]) rfl ?_
    refine aw_goto (tgt := 31) dJ5_compare_17 (by decide) ?_
    cases hq
    exact aw_ireturn dJ5_compare_31 rfl rfl ⟨rfl, rfl⟩
  · replace hq := ocase_s hq
    refine xw_ifnonS (tgt := 20) dJ5_compare_4 (by decide) ?_
    refine aw_aload_n (i := 0) dJ5_compare_20 rfl rfl trivial ?_
    replace hq := obind hq
    obtain ⟨o10, e11, hq⟩ := hq
    refine xw_getR e11 fJ5_16 dJ5_compare_21 ?_
    refine aw_aload_n (i := 1) dJ5_compare_24 rfl rfl (aIsR_rf _) ?_
    refine aw_aload_n (i := 2) dJ5_compare_25 rfl rfl (aIsR_rf _) ?_
    cases hq
abbrev YJ5_addEntryToEmptyMap : YC := (yJ5_addEntryToEmptyMap, cJ5_addEntryToEmptyMap, 3, none, [])
theorem kJ5_addEntryToEmptyMap : aMk YJ5_addEntryToEmptyMap 2 := ⟨rfl, q1680, q124, ⟨by decide +kernel, by decide +kernel, by decide +kernel⟩, Nat.le_of_ble_eq_true rfl⟩
def x_J5_addEntryToEmptyMap (g : AG) (N : Nat) (h : AH) (x0 : Nat) (r1 : Option Nat) (r2 : Option Nat) : Option AH :=
  bif clB h x0 [14] then ((x_J5_compare g N h x0 r1 r1).bind fun q2 => (mkO g q2.2 6 15 [.null, .null, .null, .null, .null, .int 0]).bind fun h4 => (x_J30_init g N h4 q2.2.2.1 r1 r2 (none)).bind fun q6 => (wrV g q6 x0 [(14, 3)] (.ref q2.2.2.1)).bind fun h8 => (wrV g h8 x0 [(14, 4)] (.int (1 : Int32))).bind fun h10 => (rdI h10 x0 [(14, 5)]).bind fun i12 => (wrV g h10 x0 [(14, 5)] (.int (i12 + (1 : Int32)))).bind fun h14 => some h14) else none
theorem ct_J5_addEntryToEmptyMap (g : AG) (hst : (gL g).stackTraces = false) (N : Nat) : ∀ (h : AH) (x0 : Nat) (r1 : Option Nat) (r2 : Option Nat) (q : AH), x_J5_addEntryToEmptyMap g N h x0 r1 r2 = some q → CT g YJ5_addEntryToEmptyMap 5 [.ref x0, va_rf r1, va_rf r2] h (xV q) := by
  intro h x0 r1 r2 q hq
  refine CT.of rfl (by decide +kernel) (loc := [some (.ref x0), some (va_rf r1), some (va_rf r2)]) (by first | exact Nat.le_of_ble_eq_true rfl | (simp only [lgl_rf, lgl_i, lgl_j, lgl_ref, lgl_nil]; exact Nat.le_of_ble_eq_true rfl)) (by first | rfl | (simp only [aent_rf, aent_i, aent_j, aent_ref, aent_nil]; rfl)) ?_
  unfold x_J5_addEntryToEmptyMap at hq
  refine aw_aload_n (i := 0) dJ5_addEntryToEmptyMap_0 rfl rfl trivial ?_
  refine aw_aload_n (i := 1) dJ5_addEntryToEmptyMap_1 rfl rfl (aIsR_rf _) ?_
  refine aw_aload_n (i := 1) dJ5_addEntryToEmptyMap_2 rfl rfl (aIsR_rf _) ?_
  replace hq := cond_t hq
  obtain ⟨z1, hq⟩ := hq
  obtain ⟨fs9, ha9⟩ := clB1 z1
  replace hq := obind hq
  obtain ⟨q2, e3, hq⟩ := hq
  refine aw_callV (Y2 := YJ5_compare) (As := [va_rf r1, va_rf r1]) (rest := []) (r := (RJ5, TJ5, 9)) kJ5_compare ha9 rfl rfl q1681 q1682 q1683 dJ5_addEntryToEmptyMap_3 rfl rfl (ct_J5_compare g hst N h x0 r1 r1 _ e3) (Nat.le_of_ble_eq_true rfl) (Nat.le_of_ble_eq_true rfl) (fun v9 h9 z9 y9 => ?_)
  obtain ⟨rfl, rfl⟩ := y9
  refine aw_st (st' := [.int q2.1]) rfl ?_
  refine aw_pop dJ5_addEntryToEmptyMap_6 rfl ?_
  refine aw_aload_n (i := 0) dJ5_addEntryToEmptyMap_7 rfl rfl trivial ?_
  replace hq := obind hq
  obtain ⟨h4, e5, hq⟩ := hq
  refine xw_new (r := (RJ30, TJ30, 6)) e5 q1685 q1686 q157 (by decide) rfl okJ30 rfl dfJ30 dJ5_addEntryToEmptyMap_8 ?_
  refine aw_dup dJ5_addEntryToEmptyMap_11 rfl ?_
  refine aw_aload_n (i := 1) dJ5_addEntryToEmptyMap_12 rfl rfl (aIsR_rf _) ?_
  refine aw_aload_n (i := 2) dJ5_addEntryToEmptyMap_13 rfl rfl (aIsR_rf _) ?_
  refine aw_null dJ5_addEntryToEmptyMap_14 ?_
  replace hq := obind hq
  obtain ⟨q6, e7, hq⟩ := hq
  refine aw_callI (Y2 := YJ30_init) (As := [va_rf r1, va_rf r2, .null]) (rest := [.ref q2.2.2.1, .ref x0]) (b := q2.2.2.1) kJ30_init rfl rfl q1687 q1688 dJ5_addEntryToEmptyMap_15 rfl rfl (ct_J30_init g hst N h4 q2.2.2.1 r1 r2 (none) _ e7) (Nat.le_of_ble_eq_true rfl) (Nat.le_of_ble_eq_true rfl) (fun v9 h9 z9 y9 => ?_)
  obtain ⟨rfl, y9⟩ := y9
  rw [y9]
  refine aw_st (st' := [.ref q2.2.2.1, .ref x0]) rfl ?_
  replace hq := obind hq
  obtain ⟨h8, e9, hq⟩ := hq
  refine xw_put e9 fJ5_101 tJ5_3 (fits_rf _ (some q2.2.2.1)) dJ5_addEntryToEmptyMap_18 ?_
  refine aw_aload_n (i := 0) dJ5_addEntryToEmptyMap_21 rfl rfl trivial ?_
  refine aw_iconst (v := 1) dJ5_addEntryToEmptyMap_22 (by decide) ?_
  replace hq := obind hq
  obtain ⟨h10, e11, hq⟩ := hq
  refine xw_put e11 fJ5_7 tJ5_4 ⟨rfl, rfl⟩ dJ5_addEntryToEmptyMap_23 ?_
  refine aw_aload_n (i := 0) dJ5_addEntryToEmptyMap_26 rfl rfl trivial ?_
  refine aw_dup dJ5_addEntryToEmptyMap_27 rfl ?_
  replace hq := obind hq
  obtain ⟨i12, e13, hq⟩ := hq
  refine xw_getI e13 fJ5_13 dJ5_addEntryToEmptyMap_28 ?_
  refine aw_iconst (v := 1) dJ5_addEntryToEmptyMap_31 (by decide) ?_
  refine aw_iadd dJ5_addEntryToEmptyMap_32 ?_
  replace hq := obind hq
  obtain ⟨h14, e15, hq⟩ := hq
  refine xw_put e15 fJ5_13 tJ5_5 ⟨rfl, rfl⟩ dJ5_addEntryToEmptyMap_33 ?_
  cases hq
  exact aw_vret dJ5_addEntryToEmptyMap_36 rfl ⟨rfl, rfl⟩
abbrev YJ5_clear : YC := (yJ5_clear, cJ5_clear, 1, none, [])
theorem kJ5_clear : aMk YJ5_clear 0 := ⟨rfl, q1834, q124, ⟨by decide +kernel, by decide +kernel, by decide +kernel⟩, Nat.le_of_ble_eq_true rfl⟩
def x_J5_clear (g : AG) (N : Nat) (h : AH) (x0 : Nat) : Option AH :=
  (rdI h x0 [(14, 5)]).bind fun i1 => (wrV g h x0 [(14, 5)] (.int (i1 + (1 : Int32)))).bind fun h3 => (wrV g h3 x0 [(14, 4)] (.int (0 : Int32))).bind fun h5 => (wrV g h5 x0 [(14, 3)] (.null)).bind fun h7 => some h7
theorem ct_J5_clear (g : AG) (hst : (gL g).stackTraces = false) (N : Nat) : ∀ (h : AH) (x0 : Nat) (q : AH), x_J5_clear g N h x0 = some q → CT g YJ5_clear 1 [.ref x0] h (xV q) := by
  intro h x0 q hq
  refine CT.of rfl (by decide +kernel) (loc := [some (.ref x0)]) (by first | exact Nat.le_of_ble_eq_true rfl | (simp only [lgl_rf, lgl_i, lgl_j, lgl_ref, lgl_nil]; exact Nat.le_of_ble_eq_true rfl)) (by first | rfl | (simp only [aent_rf, aent_i, aent_j, aent_ref, aent_nil]; rfl)) ?_
  unfold x_J5_clear at hq
  refine aw_aload_n (i := 0) dJ5_clear_0 rfl rfl trivial ?_
  refine aw_dup dJ5_clear_1 rfl ?_
  replace hq := obind hq
  obtain ⟨i1, e2, hq⟩ := hq
  refine xw_getI e2 fJ5_13 dJ5_clear_2 ?_
  refine aw_iconst (v := 1) dJ5_clear_5 (by decide) ?_
  refine aw_iadd dJ5_clear_6 ?_
  replace hq := obind hq
  obtain ⟨h3, e4, hq⟩ := hq
  refine xw_put e4 fJ5_13 tJ5_5 ⟨rfl, rfl⟩ dJ5_clear_7 ?_
  refine aw_aload_n (i := 0) dJ5_clear_10 rfl rfl trivial ?_
  refine aw_iconst (v := 0) dJ5_clear_11 (by decide) ?_
  replace hq := obind hq
  obtain ⟨h5, e6, hq⟩ := hq
  refine xw_put e6 fJ5_7 tJ5_4 ⟨rfl, rfl⟩ dJ5_clear_12 ?_
  refine aw_aload_n (i := 0) dJ5_clear_15 rfl rfl trivial ?_
  refine aw_null dJ5_clear_16 ?_
  replace hq := obind hq
  obtain ⟨h7, e8, hq⟩ := hq
  refine xw_put e8 fJ5_101 tJ5_3 (fits_rf _ (none)) dJ5_clear_17 ?_
  cases hq
  exact aw_vret dJ5_clear_20 rfl ⟨rfl, rfl⟩
