/-! THE COMPONENT AND THE JDK as functions of the heap, and their contracts: printed by wip gen/dec2.py -/
set_option maxRecDepth 100000
abbrev YJ5_fixAfterDeletion : YC := (yJ5_fixAfterDeletion, cJ5_fixAfterDeletion, 3, none, [])
theorem kJ5_fixAfterDeletion : aMk YJ5_fixAfterDeletion 1 := ⟨rfl, q1822, q124, ⟨by decide +kernel, by decide +kernel, by decide +kernel⟩, Nat.le_of_ble_eq_true rfl⟩
def x_J5_fixAfterDeletion_342 (g : AG) (N : Nat) (K0 : AH → Nat → Option Nat → Option AH) (K345 : AH → Nat → Option Nat → Option AH) (h : AH) (x0 : Nat) (r1 : Option Nat) (r2 : Option Nat) : Option AH :=
  K0 h x0 r1
theorem p_x_J5_fixAfterDeletion_342 (g : AG) (hst : (gL g).stackTraces = false) (N : Nat) (K0 : AH → Nat → Option Nat → Option AH) (K345 : AH → Nat → Option Nat → Option AH) (hK0 : ∀ (h : AH) (x0 : Nat) (r1 : Option Nat) (q : AH), K0 h x0 r1 = some q → AW g YJ5_fixAfterDeletion 2 (xV q) h [some (.ref x0), some (va_rf r1), none] 0 []) (hK345 : ∀ (h : AH) (x0 : Nat) (r1 : Option Nat) (q : AH), K345 h x0 r1 = some q → AW g YJ5_fixAfterDeletion 2 (xV q) h [some (.ref x0), some (va_rf r1), none] 345 []) : ∀ (h : AH) (x0 : Nat) (r1 : Option Nat) (r2 : Option Nat) (q : AH), x_J5_fixAfterDeletion_342 g N K0 K345 h x0 r1 r2 = some q → AW g YJ5_fixAfterDeletion 2 (xV q) h [some (.ref x0), some (va_rf r1), some (va_rf r2)] 342 [] := by
  intro h x0 r1 r2 q hq
  unfold x_J5_fixAfterDeletion_342 at hq
  refine aw_goto (tgt := 0) dJ5_fixAfterDeletion_342 (by decide) ?_
  refine aw_subl (loc' := [some (.ref x0), some (va_rf r1), none]) ⟨Or.inr rfl, Or.inr rfl, Or.inl rfl, trivial⟩ ?_
  exact hK0 h x0 r1 _ hq
def x_J5_fixAfterDeletion_302 (g : AG) (N : Nat) (K0 : AH → Nat → Option Nat → Option AH) (K345 : AH → Nat → Option Nat → Option AH) (h : AH) (x0 : Nat) (r1 : Option Nat) (r2 : Option Nat) : Option AH :=
  (x_J5_parentOf g N h r1).bind fun q29 => (x_J5_colorOf g N q29.2 q29.1).bind fun q31 => (x_J5_setColor g N q31.2 r2 q31.1).bind fun q33 => (x_J5_parentOf g N q33 r1).bind fun q35 => (x_J5_setColor g N q35.2 q35.1 (1 : Int32)).bind fun q37 => (x_J5_leftOf g N q37 r2).bind fun q39 => (x_J5_setColor g N q39.2 q39.1 (1 : Int32)).bind fun q41 => (x_J5_parentOf g N q41 r1).bind fun q43 => bif clB q43.2 x0 [14] then ((x_J5_rotateRight g N q43.2 x0 q43.1).bind fun q46 => (rdR q46 x0 [(14, 3)]).bind fun o48 => x_J5_fixAfterDeletion_342 g N K0 K345 q46 x0 o48 r2) else none
theorem p_x_J5_fixAfterDeletion_302 (g : AG) (hst : (gL g).stackTraces = false) (N : Nat) (K0 : AH → Nat → Option Nat → Option AH) (K345 : AH → Nat → Option Nat → Option AH) (hK0 : ∀ (h : AH) (x0 : Nat) (r1 : Option Nat) (q : AH), K0 h x0 r1 = some q → AW g YJ5_fixAfterDeletion 2 (xV q) h [some (.ref x0), some (va_rf r1), none] 0 []) (hK345 : ∀ (h : AH) (x0 : Nat) (r1 : Option Nat) (q : AH), K345 h x0 r1 = some q → AW g YJ5_fixAfterDeletion 2 (xV q) h [some (.ref x0), some (va_rf r1), none] 345 []) : ∀ (h : AH) (x0 : Nat) (r1 : Option Nat) (r2 : Option Nat) (q : AH), x_J5_fixAfterDeletion_302 g N K0 K345 h x0 r1 r2 = some q → AW g YJ5_fixAfterDeletion 2 (xV q) h [some (.ref x0), some (va_rf r1), some (va_rf r2)] 302 [] := by
  intro h x0 r1 r2 q hq
  unfold x_J5_fixAfterDeletion_302 at hq
  refine aw_aload_n (i := 2) dJ5_fixAfterDeletion_302 rfl rfl (aIsR_rf _) ?_
  refine aw_aload_n (i := 1) dJ5_fixAfterDeletion_303 rfl rfl (aIsR_rf _) ?_
  replace hq := obind hq
  obtain ⟨q29, e30, hq⟩ := hq
  refine aw_callS (Y2 := YJ5_parentOf) (As := [va_rf r1]) (rest := [va_rf r2]) kJ5_parentOf q1722 q1723 dJ5_fixAfterDeletion_304 rfl rfl (ct_J5_parentOf g hst N h r1 _ e30) (Nat.le_of_ble_eq_true rfl) (by simp only [List.map_cons, List.map_nil, List.sum_cons, List.sum_nil, cat_rf]; exact Nat.le_of_ble_eq_true rfl) (fun v9 h9 z9 y9 => ?_)
  obtain ⟨rfl, rfl⟩ := y9
  refine aw_st (st' := [va_rf q29.1, va_rf r2]) rfl ?_
  replace hq := obind hq
  obtain ⟨q31, e32, hq⟩ := hq
  refine aw_callS (Y2 := YJ5_colorOf) (As := [va_rf q29.1]) (rest := [va_rf r2]) kJ5_colorOf q1731 q1732 dJ5_fixAfterDeletion_307 rfl rfl (ct_J5_colorOf g hst N q29.2 q29.1 _ e32) (Nat.le_of_ble_eq_true rfl) (by simp only [List.map_cons, List.map_nil, List.sum_cons, List.sum_nil, cat_rf]; exact Nat.le_of_ble_eq_true rfl) (fun v9 h9 z9 y9 => ?_)
  obtain ⟨rfl, rfl⟩ := y9
  refine aw_st (st' := [.int q31.1, va_rf r2]) rfl ?_
  replace hq := obind hq
  obtain ⟨q33, e34, hq⟩ := hq
  refine aw_callS (Y2 := YJ5_setColor) (As := [va_rf r2, .int q31.1]) (rest := []) kJ5_setColor q1734 q1735 dJ5_fixAfterDeletion_310 rfl rfl (ct_J5_setColor g hst N q31.2 r2 q31.1 _ e34) (Nat.le_of_ble_eq_true rfl) (Nat.le_of_ble_eq_true rfl) (fun v9 h9 z9 y9 => ?_)
  obtain ⟨rfl, y9⟩ := y9
  rw [y9]
  refine aw_st (st' := []) rfl ?_
  refine aw_aload_n (i := 1) dJ5_fixAfterDeletion_313 rfl rfl (aIsR_rf _) ?_
  replace hq := obind hq
  obtain ⟨q35, e36, hq⟩ := hq
  refine aw_callS (Y2 := YJ5_parentOf) (As := [va_rf r1]) (rest := []) kJ5_parentOf q1722 q1723 dJ5_fixAfterDeletion_314 rfl rfl (ct_J5_parentOf g hst N q33 r1 _ e36) (Nat.le_of_ble_eq_true rfl) (Nat.le_of_ble_eq_true rfl) (fun v9 h9 z9 y9 => ?_)
  obtain ⟨rfl, rfl⟩ := y9
  refine aw_st (st' := [va_rf q35.1]) rfl ?_
  refine aw_iconst (v := 1) dJ5_fixAfterDeletion_317 (by decide) ?_
  replace hq := obind hq
  obtain ⟨q37, e38, hq⟩ := hq
  refine aw_callS (Y2 := YJ5_setColor) (As := [va_rf q35.1, .int (1 : Int32)]) (rest := []) kJ5_setColor q1734 q1735 dJ5_fixAfterDeletion_318 rfl rfl (ct_J5_setColor g hst N q35.2 q35.1 (1 : Int32) _ e38) (Nat.le_of_ble_eq_true rfl) (Nat.le_of_ble_eq_true rfl) (fun v9 h9 z9 y9 => ?_)
  obtain ⟨rfl, y9⟩ := y9
  rw [y9]
  refine aw_st (st' := []) rfl ?_
  refine aw_aload_n (i := 2) dJ5_fixAfterDeletion_321 rfl rfl (aIsR_rf _) ?_
  replace hq := obind hq
  obtain ⟨q39, e40, hq⟩ := hq
  refine aw_callS (Y2 := YJ5_leftOf) (As := [va_rf r2]) (rest := []) kJ5_leftOf q1725 q1726 dJ5_fixAfterDeletion_322 rfl rfl (ct_J5_leftOf g hst N q37 r2 _ e40) (Nat.le_of_ble_eq_true rfl) (Nat.le_of_ble_eq_true rfl) (fun v9 h9 z9 y9 => ?_)
  obtain ⟨rfl, rfl⟩ := y9
  refine aw_st (st' := [va_rf q39.1]) rfl ?_
  refine aw_iconst (v := 1) dJ5_fixAfterDeletion_325 (by decide) ?_
  replace hq := obind hq
  obtain ⟨q41, e42, hq⟩ := hq
  refine aw_callS (Y2 := YJ5_setColor) (As := [va_rf q39.1, .int (1 : Int32)]) (rest := []) kJ5_setColor q1734 q1735 dJ5_fixAfterDeletion_326 rfl rfl (ct_J5_setColor g hst N q39.2 q39.1 (1 : Int32) _ e42) (Nat.le_of_ble_eq_true rfl) (Nat.le_of_ble_eq_true rfl) (fun v9 h9 z9 y9 => ?_)
  obtain ⟨rfl, y9⟩ := y9
  rw [y9]
  refine aw_st (st' := []) rfl ?_
  refine aw_aload_n (i := 0) dJ5_fixAfterDeletion_329 rfl rfl trivial ?_
  refine aw_aload_n (i := 1) dJ5_fixAfterDeletion_330 rfl rfl (aIsR_rf _) ?_
  replace hq := obind hq
  obtain ⟨q43, e44, hq⟩ := hq
  refine aw_callS (Y2 := YJ5_parentOf) (As := [va_rf r1]) (rest := [.ref x0]) kJ5_parentOf q1722 q1723 dJ5_fixAfterDeletion_331 rfl rfl (ct_J5_parentOf g hst N q41 r1 _ e44) (Nat.le_of_ble_eq_true rfl) (Nat.le_of_ble_eq_true rfl) (fun v9 h9 z9 y9 => ?_)
  obtain ⟨rfl, rfl⟩ := y9
  refine aw_st (st' := [va_rf q43.1, .ref x0]) rfl ?_
  replace hq := cond_t hq
  obtain ⟨z45, hq⟩ := hq
  obtain ⟨fs9, ha9⟩ := clB1 z45
  replace hq := obind hq
  obtain ⟨q46, e47, hq⟩ := hq
  refine aw_callV (Y2 := YJ5_rotateRight) (As := [va_rf q43.1]) (rest := []) (r := (RJ5, TJ5, 9)) kJ5_rotateRight ha9 rfl rfl q1741 q1743 qs30 dJ5_fixAfterDeletion_334 rfl rfl (ct_J5_rotateRight g hst N q43.2 x0 q43.1 _ e47) (Nat.le_of_ble_eq_true rfl) (Nat.le_of_ble_eq_true rfl) (fun v9 h9 z9 y9 => ?_)
  obtain ⟨rfl, y9⟩ := y9
  rw [y9]
  refine aw_st (st' := []) rfl ?_
  refine aw_aload_n (i := 0) dJ5_fixAfterDeletion_337 rfl rfl trivial ?_
  replace hq := obind hq
  obtain ⟨o48, e49, hq⟩ := hq
  refine xw_getR e49 fJ5_101 dJ5_fixAfterDeletion_338 ?_
  refine aw_astore_n (i := 1) (loc' := [some (.ref x0), some (va_rf o48), some (va_rf r2)]) dJ5_fixAfterDeletion_341 rfl (Nat.le_of_ble_eq_true rfl) (aIsR_rf _) rfl ?_
  exact p_x_J5_fixAfterDeletion_342 g hst N _ _ hK0 hK345 q46 x0 o48 r2 _ hq
def x_J5_fixAfterDeletion_265 (g : AG) (N : Nat) (K0 : AH → Nat → Option Nat → Option AH) (K345 : AH → Nat → Option Nat → Option AH) (h : AH) (x0 : Nat) (r1 : Option Nat) (r2 : Option Nat) : Option AH :=
  (x_J5_leftOf g N h r2).bind fun q24 => (x_J5_colorOf g N q24.2 q24.1).bind fun q26 => if q26.1 = (1 : Int32) then ((x_J5_rightOf g N q26.2 r2).bind fun q50 => (x_J5_setColor g N q50.2 q50.1 (1 : Int32)).bind fun q52 => (x_J5_setColor g N q52 r2 (0 : Int32)).bind fun q54 => bif clB q54 x0 [14] then ((x_J5_rotateLeft g N q54 x0 r2).bind fun q57 => (x_J5_parentOf g N q57 r1).bind fun q59 => (x_J5_leftOf g N q59.2 q59.1).bind fun q61 => x_J5_fixAfterDeletion_302 g N K0 K345 q61.2 x0 r1 q61.1) else none) else (x_J5_fixAfterDeletion_302 g N K0 K345 q26.2 x0 r1 r2)
theorem p_x_J5_fixAfterDeletion_265 (g : AG) (hst : (gL g).stackTraces = false) (N : Nat) (K0 : AH → Nat → Option Nat → Option AH) (K345 : AH → Nat → Option Nat → Option AH) (hK0 : ∀ (h : AH) (x0 : Nat) (r1 : Option Nat) (q : AH), K0 h x0 r1 = some q → AW g YJ5_fixAfterDeletion 2 (xV q) h [some (.ref x0), some (va_rf r1), none] 0 []) (hK345 : ∀ (h : AH) (x0 : Nat) (r1 : Option Nat) (q : AH), K345 h x0 r1 = some q → AW g YJ5_fixAfterDeletion 2 (xV q) h [some (.ref x0), some (va_rf r1), none] 345 []) : ∀ (h : AH) (x0 : Nat) (r1 : Option Nat) (r2 : Option Nat) (q : AH), x_J5_fixAfterDeletion_265 g N K0 K345 h x0 r1 r2 = some q → AW g YJ5_fixAfterDeletion 2 (xV q) h [some (.ref x0), some (va_rf r1), some (va_rf r2)] 265 [] := by
  intro h x0 r1 r2 q hq
  unfold x_J5_fixAfterDeletion_265 at hq
  refine aw_aload_n (i := 2) dJ5_fixAfterDeletion_265 rfl rfl (aIsR_rf _) ?_
  replace hq := obind hq
  obtain ⟨q24, e25, hq⟩ := hq
  refine aw_callS (Y2 := YJ5_leftOf) (As := [va_rf r2]) (rest := []) kJ5_leftOf q1725 q1726 dJ5_fixAfterDeletion_266 rfl rfl (ct_J5_leftOf g hst N h r2 _ e25) (Nat.le_of_ble_eq_true rfl) (Nat.le_of_ble_eq_true rfl) (fun v9 h9 z9 y9 => ?_)
  obtain ⟨rfl, rfl⟩ := y9
  refine aw_st (st' := [va_rf q24.1]) rfl ?_
  replace hq := obind hq
  obtain ⟨q26, e27, hq⟩ := hq
  refine aw_callS (Y2 := YJ5_colorOf) (As := [va_rf q24.1]) (rest := []) kJ5_colorOf q1731 q1732 dJ5_fixAfterDeletion_269 rfl rfl (ct_J5_colorOf g hst N q24.2 q24.1 _ e27) (Nat.le_of_ble_eq_true rfl) (Nat.le_of_ble_eq_true rfl) (fun v9 h9 z9 y9 => ?_)
  obtain ⟨rfl, rfl⟩ := y9
  refine aw_st (st' := [.int q26.1]) rfl ?_
  refine aw_iconst (v := 1) dJ5_fixAfterDeletion_272 (by decide) ?_
  refine aw_icmp_ne (tgt := 302) dJ5_fixAfterDeletion_273 (by decide) (fun c28 => ?_) (fun c28 => ?_)
  · rw [if_neg c28] at hq
    exact p_x_J5_fixAfterDeletion_302 g hst N _ _ hK0 hK345 q26.2 x0 r1 r2 _ hq
  · rw [if_pos c28] at hq
    refine aw_aload_n (i := 2) dJ5_fixAfterDeletion_276 rfl rfl (aIsR_rf _) ?_
    replace hq := obind hq
    obtain ⟨q50, e51, hq⟩ := hq
    refine aw_callS (Y2 := YJ5_rightOf) (As := [va_rf r2]) (rest := []) kJ5_rightOf q1728 q1729 dJ5_fixAfterDeletion_277 rfl rfl (ct_J5_rightOf g hst N q26.2 r2 _ e51) (Nat.le_of_ble_eq_true rfl) (Nat.le_of_ble_eq_true rfl) (fun v9 h9 z9 y9 => ?_)
    obtain ⟨rfl, rfl⟩ := y9
    refine aw_st (st' := [va_rf q50.1]) rfl ?_
    refine aw_iconst (v := 1) dJ5_fixAfterDeletion_280 (by decide) ?_
    replace hq := obind hq
    obtain ⟨q52, e53, hq⟩ := hq
    refine aw_callS (Y2 := YJ5_setColor) (As := [va_rf q50.1, .int (1 : Int32)]) (rest := []) kJ5_setColor q1734 q1735 dJ5_fixAfterDeletion_281 rfl rfl (ct_J5_setColor g hst N q50.2 q50.1 (1 : Int32) _ e53) (Nat.le_of_ble_eq_true rfl) (Nat.le_of_ble_eq_true rfl) (fun v9 h9 z9 y9 => ?_)
    obtain ⟨rfl, y9⟩ := y9
    rw [y9]
    refine aw_st (st' := []) rfl ?_
    refine aw_aload_n (i := 2) dJ5_fixAfterDeletion_284 rfl rfl (aIsR_rf _) ?_
    refine aw_iconst (v := 0) dJ5_fixAfterDeletion_285 (by decide) ?_
    replace hq := obind hq
    obtain ⟨q54, e55, hq⟩ := hq
    refine aw_callS (Y2 := YJ5_setColor) (As := [va_rf r2, .int (0 : Int32)]) (rest := []) kJ5_setColor q1734 q1735 dJ5_fixAfterDeletion_286 rfl rfl (ct_J5_setColor g hst N q52 r2 (0 : Int32) _ e55) (Nat.le_of_ble_eq_true rfl) (Nat.le_of_ble_eq_true rfl) (fun v9 h9 z9 y9 => ?_)
    obtain ⟨rfl, y9⟩ := y9
    rw [y9]
    refine aw_st (st' := []) rfl ?_
    refine aw_aload_n (i := 0) dJ5_fixAfterDeletion_289 rfl rfl trivial ?_
    refine aw_aload_n (i := 2) dJ5_fixAfterDeletion_290 rfl rfl (aIsR_rf _) ?_
    replace hq := cond_t hq
    obtain ⟨z56, hq⟩ := hq
    obtain ⟨fs9, ha9⟩ := clB1 z56
    replace hq := obind hq
    obtain ⟨q57, e58, hq⟩ := hq
    refine aw_callV (Y2 := YJ5_rotateLeft) (As := [va_rf r2]) (rest := []) (r := (RJ5, TJ5, 9)) kJ5_rotateLeft ha9 rfl rfl q1737 q1739 qs29 dJ5_fixAfterDeletion_291 rfl rfl (ct_J5_rotateLeft g hst N q54 x0 r2 _ e58) (Nat.le_of_ble_eq_true rfl) (Nat.le_of_ble_eq_true rfl) (fun v9 h9 z9 y9 => ?_)
    obtain ⟨rfl, y9⟩ := y9
    rw [y9]
    refine aw_st (st' := []) rfl ?_
    refine aw_aload_n (i := 1) dJ5_fixAfterDeletion_294 rfl rfl (aIsR_rf _) ?_
    replace hq := obind hq
    obtain ⟨q59, e60, hq⟩ := hq
    refine aw_callS (Y2 := YJ5_parentOf) (As := [va_rf r1]) (rest := []) kJ5_parentOf q1722 q1723 dJ5_fixAfterDeletion_295 rfl rfl (ct_J5_parentOf g hst N q57 r1 _ e60) (Nat.le_of_ble_eq_true rfl) (Nat.le_of_ble_eq_true rfl) (fun v9 h9 z9 y9 => ?_)
    obtain ⟨rfl, rfl⟩ := y9
    refine aw_st (st' := [va_rf q59.1]) rfl ?_
    replace hq := obind hq
    obtain ⟨q61, e62, hq⟩ := hq
    refine aw_callS (Y2 := YJ5_leftOf) (As := [va_rf q59.1]) (rest := []) kJ5_leftOf q1725 q1726 dJ5_fixAfterDeletion_298 rfl rfl (ct_J5_leftOf g hst N q59.2 q59.1 _ e62) (Nat.le_of_ble_eq_true rfl) (Nat.le_of_ble_eq_true rfl) (fun v9 h9 z9 y9 => ?_)
    obtain ⟨rfl, rfl⟩ := y9
    refine aw_st (st' := [va_rf q61.1]) rfl ?_
    refine aw_astore_n (i := 2) (loc' := [some (.ref x0), some (va_rf r1), some (va_rf q61.1)]) dJ5_fixAfterDeletion_301 rfl (Nat.le_of_ble_eq_true rfl) (aIsR_rf _) (aset1_rf rfl) ?_
    exact p_x_J5_fixAfterDeletion_302 g hst N _ _ hK0 hK345 q61.2 x0 r1 q61.1 _ hq
def x_J5_fixAfterDeletion_230 (g : AG) (N : Nat) (K0 : AH → Nat → Option Nat → Option AH) (K345 : AH → Nat → Option Nat → Option AH) (h : AH) (x0 : Nat) (r1 : Option Nat) (r2 : Option Nat) : Option AH :=
  (x_J5_rightOf g N h r2).bind fun q19 => (x_J5_colorOf g N q19.2 q19.1).bind fun q21 => if q21.1 = (1 : Int32) then ((x_J5_leftOf g N q21.2 r2).bind fun q63 => (x_J5_colorOf g N q63.2 q63.1).bind fun q65 => if q65.1 = (1 : Int32) then ((x_J5_setColor g N q65.2 r2 (0 : Int32)).bind fun q68 => (x_J5_parentOf g N q68 r1).bind fun q70 => x_J5_fixAfterDeletion_342 g N K0 K345 q70.2 x0 q70.1 r2) else (x_J5_fixAfterDeletion_265 g N K0 K345 q65.2 x0 r1 r2)) else (x_J5_fixAfterDeletion_265 g N K0 K345 q21.2 x0 r1 r2)
theorem p_x_J5_fixAfterDeletion_230 (g : AG) (hst : (gL g).stackTraces = false) (N : Nat) (K0 : AH → Nat → Option Nat → Option AH) (K345 : AH → Nat → Option Nat → Option AH) (hK0 : ∀ (h : AH) (x0 : Nat) (r1 : Option Nat) (q : AH), K0 h x0 r1 = some q → AW g YJ5_fixAfterDeletion 2 (xV q) h [some (.ref x0), some (va_rf r1), none] 0 []) (hK345 : ∀ (h : AH) (x0 : Nat) (r1 : Option Nat) (q : AH), K345 h x0 r1 = some q → AW g YJ5_fixAfterDeletion 2 (xV q) h [some (.ref x0), some (va_rf r1), none] 345 []) : ∀ (h : AH) (x0 : Nat) (r1 : Option Nat) (r2 : Option Nat) (q : AH), x_J5_fixAfterDeletion_230 g N K0 K345 h x0 r1 r2 = some q → AW g YJ5_fixAfterDeletion 2 (xV q) h [some (.ref x0), some (va_rf r1), some (va_rf r2)] 230 [] := by
  intro h x0 r1 r2 q hq
  unfold x_J5_fixAfterDeletion_230 at hq
  refine aw_aload_n (i := 2) dJ5_fixAfterDeletion_230 rfl rfl (aIsR_rf _) ?_
  replace hq := obind hq
  obtain ⟨q19, e20, hq⟩ := hq
  refine aw_callS (Y2 := YJ5_rightOf) (As := [va_rf r2]) (rest := []) kJ5_rightOf q1728 q1729 dJ5_fixAfterDeletion_231 rfl rfl (ct_J5_rightOf g hst N h r2 _ e20) (Nat.le_of_ble_eq_true rfl) (Nat.le_of_ble_eq_true rfl) (fun v9 h9 z9 y9 => ?_)
  obtain ⟨rfl, rfl⟩ := y9
  refine aw_st (st' := [va_rf q19.1]) rfl ?_
  replace hq := obind hq
  obtain ⟨q21, e22, hq⟩ := hq
  refine aw_callS (Y2 := YJ5_colorOf) (As := [va_rf q19.1]) (rest := []) kJ5_colorOf q1731 q1732 dJ5_fixAfterDeletion_234 rfl rfl (ct_J5_colorOf g hst N q19.2 q19.1 _ e22) (Nat.le_of_ble_eq_true rfl) (Nat.le_of_ble_eq_true rfl) (fun v9 h9 z9 y9 => ?_)
  obtain ⟨rfl, rfl⟩ := y9
  refine aw_st (st' := [.int q21.1]) rfl ?_
  refine aw_iconst (v := 1) dJ5_fixAfterDeletion_237 (by decide) ?_
  refine aw_icmp_ne (tgt := 265) dJ5_fixAfterDeletion_238 (by decide) (fun c23 => ?_) (fun c23 => ?_)
  · rw [if_neg c23] at hq
    exact p_x_J5_fixAfterDeletion_265 g hst N _ _ hK0 hK345 q21.2 x0 r1 r2 _ hq
  · rw [if_pos c23] at hq
    refine aw_aload_n (i := 2) dJ5_fixAfterDeletion_241 rfl rfl (aIsR_rf _) ?_
    replace hq := obind hq
    obtain ⟨q63, e64, hq⟩ := hq
    refine aw_callS (Y2 := YJ5_leftOf) (As := [va_rf r2]) (rest := []) kJ5_leftOf q1725 q1726 dJ5_fixAfterDeletion_242 rfl rfl (ct_J5_leftOf g hst N q21.2 r2 _ e64) (Nat.le_of_ble_eq_true rfl) (Nat.le_of_ble_eq_true rfl) (fun v9 h9 z9 y9 => ?_)
    obtain ⟨rfl, rfl⟩ := y9
    refine aw_st (st' := [va_rf q63.1]) rfl ?_
    replace hq := obind hq
    obtain ⟨q65, e66, hq⟩ := hq
    refine aw_callS (Y2 := YJ5_colorOf) (As := [va_rf q63.1]) (rest := []) kJ5_colorOf q1731 q1732 dJ5_fixAfterDeletion_245 rfl rfl (ct_J5_colorOf g hst N q63.2 q63.1 _ e66) (Nat.le_of_ble_eq_true rfl) (Nat.le_of_ble_eq_true rfl) (fun v9 h9 z9 y9 => ?_)
    obtain ⟨rfl, rfl⟩ := y9
    refine aw_st (st' := [.int q65.1]) rfl ?_
    refine aw_iconst (v := 1) dJ5_fixAfterDeletion_248 (by decide) ?_
    refine aw_icmp_ne (tgt := 265) dJ5_fixAfterDeletion_249 (by decide) (fun c67 => ?_) (fun c67 => ?_)
    · rw [if_neg c67] at hq
      exact p_x_J5_fixAfterDeletion_265 g hst N _ _ hK0 hK345 q65.2 x0 r1 r2 _ hq
    · rw [if_pos c67] at hq
      refine aw_aload_n (i := 2) dJ5_fixAfterDeletion_252 rfl rfl (aIsR_rf _) ?_
      refine aw_iconst (v := 0) dJ5_fixAfterDeletion_253 (by decide) ?_
      replace hq := obind hq
      obtain ⟨q68, e69, hq⟩ := hq
      refine aw_callS (Y2 := YJ5_setColor) (As := [va_rf r2, .int (0 : Int32)]) (rest := []) kJ5_setColor q1734 q1735 dJ5_fixAfterDeletion_254 rfl rfl (ct_J5_setColor g hst N q65.2 r2 (0 : Int32) _ e69) (Nat.le_of_ble_eq_true rfl) (Nat.le_of_ble_eq_true rfl) (fun v9 h9 z9 y9 => ?_)
      obtain ⟨rfl, y9⟩ := y9
      rw [y9]
      refine aw_st (st' := []) rfl ?_
      refine aw_aload_n (i := 1) dJ5_fixAfterDeletion_257 rfl rfl (aIsR_rf _) ?_
      replace hq := obind hq
      obtain ⟨q70, e71, hq⟩ := hq
      refine aw_callS (Y2 := YJ5_parentOf) (As := [va_rf r1]) (rest := []) kJ5_parentOf q1722 q1723 dJ5_fixAfterDeletion_258 rfl rfl (ct_J5_parentOf g hst N q68 r1 _ e71) (Nat.le_of_ble_eq_true rfl) (Nat.le_of_ble_eq_true rfl) (fun v9 h9 z9 y9 => ?_)
      obtain ⟨rfl, rfl⟩ := y9
      refine aw_st (st' := [va_rf q70.1]) rfl ?_
      refine aw_astore_n (i := 1) (loc' := [some (.ref x0), some (va_rf q70.1), some (va_rf r2)]) dJ5_fixAfterDeletion_261 rfl (Nat.le_of_ble_eq_true rfl) (aIsR_rf _) rfl ?_
      refine aw_goto (tgt := 342) dJ5_fixAfterDeletion_262 (by decide) ?_
      exact p_x_J5_fixAfterDeletion_342 g hst N _ _ hK0 hK345 q70.2 x0 q70.1 r2 _ hq
def x_J5_fixAfterDeletion_183 (g : AG) (N : Nat) (K0 : AH → Nat → Option Nat → Option AH) (K345 : AH → Nat → Option Nat → Option AH) (h : AH) (x0 : Nat) (r1 : Option Nat) (r2 : Option Nat) : Option AH :=
  K0 h x0 r1
theorem p_x_J5_fixAfterDeletion_183 (g : AG) (hst : (gL g).stackTraces = false) (N : Nat) (K0 : AH → Nat → Option Nat → Option AH) (K345 : AH → Nat → Option Nat → Option AH) (hK0 : ∀ (h : AH) (x0 : Nat) (r1 : Option Nat) (q : AH), K0 h x0 r1 = some q → AW g YJ5_fixAfterDeletion 2 (xV q) h [some (.ref x0), some (va_rf r1), none] 0 []) (hK345 : ∀ (h : AH) (x0 : Nat) (r1 : Option Nat) (q : AH), K345 h x0 r1 = some q → AW g YJ5_fixAfterDeletion 2 (xV q) h [some (.ref x0), some (va_rf r1), none] 345 []) : ∀ (h : AH) (x0 : Nat) (r1 : Option Nat) (r2 : Option Nat) (q : AH), x_J5_fixAfterDeletion_183 g N K0 K345 h x0 r1 r2 = some q → AW g YJ5_fixAfterDeletion 2 (xV q) h [some (.ref x0), some (va_rf r1), some (va_rf r2)] 183 [] := by
  intro h x0 r1 r2 q hq
  unfold x_J5_fixAfterDeletion_183 at hq
  refine aw_goto (tgt := 0) dJ5_fixAfterDeletion_183 (by decide) ?_
  refine aw_subl (loc' := [some (.ref x0), some (va_rf r1), none]) ⟨Or.inr rfl, Or.inr rfl, Or.inl rfl, trivial⟩ ?_
  exact hK0 h x0 r1 _ hq
def x_J5_fixAfterDeletion_143 (g : AG) (N : Nat) (K0 : AH → Nat → Option Nat → Option AH) (K345 : AH → Nat → Option Nat → Option AH) (h : AH) (x0 : Nat) (r1 : Option Nat) (r2 : Option Nat) : Option AH :=
  (x_J5_parentOf g N h r1).bind fun q104 => (x_J5_colorOf g N q104.2 q104.1).bind fun q106 => (x_J5_setColor g N q106.2 r2 q106.1).bind fun q108 => (x_J5_parentOf g N q108 r1).bind fun q110 => (x_J5_setColor g N q110.2 q110.1 (1 : Int32)).bind fun q112 => (x_J5_rightOf g N q112 r2).bind fun q114 => (x_J5_setColor g N q114.2 q114.1 (1 : Int32)).bind fun q116 => (x_J5_parentOf g N q116 r1).bind fun q118 => bif clB q118.2 x0 [14] then ((x_J5_rotateLeft g N q118.2 x0 q118.1).bind fun q121 => (rdR q121 x0 [(14, 3)]).bind fun o123 => x_J5_fixAfterDeletion_183 g N K0 K345 q121 x0 o123 r2) else none
theorem p_x_J5_fixAfterDeletion_143 (g : AG) (hst : (gL g).stackTraces = false) (N : Nat) (K0 : AH → Nat → Option Nat → Option AH) (K345 : AH → Nat → Option Nat → Option AH) (hK0 : ∀ (h : AH) (x0 : Nat) (r1 : Option Nat) (q : AH), K0 h x0 r1 = some q → AW g YJ5_fixAfterDeletion 2 (xV q) h [some (.ref x0), some (va_rf r1), none] 0 []) (hK345 : ∀ (h : AH) (x0 : Nat) (r1 : Option Nat) (q : AH), K345 h x0 r1 = some q → AW g YJ5_fixAfterDeletion 2 (xV q) h [some (.ref x0), some (va_rf r1), none] 345 []) : ∀ (h : AH) (x0 : Nat) (r1 : Option Nat) (r2 : Option Nat) (q : AH), x_J5_fixAfterDeletion_143 g N K0 K345 h x0 r1 r2 = some q → AW g YJ5_fixAfterDeletion 2 (xV q) h [some (.ref x0), some (va_rf r1), some (va_rf r2)] 143 [] := by
  intro h x0 r1 r2 q hq
  unfold x_J5_fixAfterDeletion_143 at hq
  refine aw_aload_n (i := 2) dJ5_fixAfterDeletion_143 rfl rfl (aIsR_rf _) ?_
  refine aw_aload_n (i := 1) dJ5_fixAfterDeletion_144 rfl rfl (aIsR_rf _) ?_
  replace hq := obind hq
  obtain ⟨q104, e105, hq⟩ := hq
  refine aw_callS (Y2 := YJ5_parentOf) (As := [va_rf r1]) (rest := [va_rf r2]) kJ5_parentOf q1722 q1723 dJ5_fixAfterDeletion_145 rfl rfl (ct_J5_parentOf g hst N h r1 _ e105) (Nat.le_of_ble_eq_true rfl) (by simp only [List.map_cons, List.map_nil, List.sum_cons, List.sum_nil, cat_rf]; exact Nat.le_of_ble_eq_true rfl) (fun v9 h9 z9 y9 => ?_)
  obtain ⟨rfl, rfl⟩ := y9
  refine aw_st (st' := [va_rf q104.1, va_rf r2]) rfl ?_
  replace hq := obind hq
  obtain ⟨q106, e107, hq⟩ := hq
  refine aw_callS (Y2 := YJ5_colorOf) (As := [va_rf q104.1]) (rest := [va_rf r2]) kJ5_colorOf q1731 q1732 dJ5_fixAfterDeletion_148 rfl rfl (ct_J5_colorOf g hst N q104.2 q104.1 _ e107) (Nat.le_of_ble_eq_true rfl) (by simp only [List.map_cons, List.map_nil, List.sum_cons, List.sum_nil, cat_rf]; exact Nat.le_of_ble_eq_true rfl) (fun v9 h9 z9 y9 => ?_)
  obtain ⟨rfl, rfl⟩ := y9
  refine aw_st (st' := [.int q106.1, va_rf r2]) rfl ?_
  replace hq := obind hq
  obtain ⟨q108, e109, hq⟩ := hq
  refine aw_callS (Y2 := YJ5_setColor) (As := [va_rf r2, .int q106.1]) (rest := []) kJ5_setColor q1734 q1735 dJ5_fixAfterDeletion_151 rfl rfl (ct_J5_setColor g hst N q106.2 r2 q106.1 _ e109) (Nat.le_of_ble_eq_true rfl) (Nat.le_of_ble_eq_true rfl) (fun v9 h9 z9 y9 => ?_)
  obtain ⟨rfl, y9⟩ := y9
  rw [y9]
  refine aw_st (st' := []) rfl ?_
  refine aw_aload_n (i := 1) dJ5_fixAfterDeletion_154 rfl rfl (aIsR_rf _) ?_
  replace hq := obind hq
  obtain ⟨q110, e111, hq⟩ := hq
  refine aw_callS (Y2 := YJ5_parentOf) (As := [va_rf r1]) (rest := []) kJ5_parentOf q1722 q1723 dJ5_fixAfterDeletion_155 rfl rfl (ct_J5_parentOf g hst N q108 r1 _ e111) (Nat.le_of_ble_eq_true rfl) (Nat.le_of_ble_eq_true rfl) (fun v9 h9 z9 y9 => ?_)
  obtain ⟨rfl, rfl⟩ := y9
  refine aw_st (st' := [va_rf q110.1]) rfl ?_
  refine aw_iconst (v := 1) dJ5_fixAfterDeletion_158 (by decide) ?_
  replace hq := obind hq
  obtain ⟨q112, e113, hq⟩ := hq
  refine aw_callS (Y2 := YJ5_setColor) (As := [va_rf q110.1, .int (1 : Int32)]) (rest := []) kJ5_setColor q1734 q1735 dJ5_fixAfterDeletion_159 rfl rfl (ct_J5_setColor g hst N q110.2 q110.1 (1 : Int32) _ e113) (Nat.le_of_ble_eq_true rfl) (Nat.le_of_ble_eq_true rfl) (fun v9 h9 z9 y9 => ?_)
  obtain ⟨rfl, y9⟩ := y9
  rw [y9]
  refine aw_st (st' := []) rfl ?_
  refine aw_aload_n (i := 2) dJ5_fixAfterDeletion_162 rfl rfl (aIsR_rf _) ?_
  replace hq := obind hq
  obtain ⟨q114, e115, hq⟩ := hq
  refine aw_callS (Y2 := YJ5_rightOf) (As := [va_rf r2]) (rest := []) kJ5_rightOf q1728 q1729 dJ5_fixAfterDeletion_163 rfl rfl (ct_J5_rightOf g hst N q112 r2 _ e115) (Nat.le_of_ble_eq_true rfl) (Nat.le_of_ble_eq_true rfl) (fun v9 h9 z9 y9 => ?_)
  obtain ⟨rfl, rfl⟩ := y9
  refine aw_st (st' := [va_rf q114.1]) rfl ?_
  refine aw_iconst (v := 1) dJ5_fixAfterDeletion_166 (by decide) ?_
  replace hq := obind hq
  obtain ⟨q116, e117, hq⟩ := hq
  refine aw_callS (Y2 := YJ5_setColor) (As := [va_rf q114.1, .int (1 : Int32)]) (rest := []) kJ5_setColor q1734 q1735 dJ5_fixAfterDeletion_167 rfl rfl (ct_J5_setColor g hst N q114.2 q114.1 (1 : Int32) _ e117) (Nat.le_of_ble_eq_true rfl) (Nat.le_of_ble_eq_true rfl) (fun v9 h9 z9 y9 => ?_)
  obtain ⟨rfl, y9⟩ := y9
  rw [y9]
  refine aw_st (st' := []) rfl ?_
  refine aw_aload_n (i := 0) dJ5_fixAfterDeletion_170 rfl rfl trivial ?_
  refine aw_aload_n (i := 1) dJ5_fixAfterDeletion_171 rfl rfl (aIsR_rf _) ?_
  replace hq := obind hq
  obtain ⟨q118, e119, hq⟩ := hq
  refine aw_callS (Y2 := YJ5_parentOf) (As := [va_rf r1]) (rest := [.ref x0]) kJ5_parentOf q1722 q1723 dJ5_fixAfterDeletion_172 rfl rfl (ct_J5_parentOf g hst N q116 r1 _ e119) (Nat.le_of_ble_eq_true rfl) (Nat.le_of_ble_eq_true rfl) (fun v9 h9 z9 y9 => ?_)
  obtain ⟨rfl, rfl⟩ := y9
  refine aw_st (st' := [va_rf q118.1, .ref x0]) rfl ?_
  replace hq := cond_t hq
  obtain ⟨z120, hq⟩ := hq
  obtain ⟨fs9, ha9⟩ := clB1 z120
  replace hq := obind hq
  obtain ⟨q121, e122, hq⟩ := hq
  refine aw_callV (Y2 := YJ5_rotateLeft) (As := [va_rf q118.1]) (rest := []) (r := (RJ5, TJ5, 9)) kJ5_rotateLeft ha9 rfl rfl q1737 q1739 qs29 dJ5_fixAfterDeletion_175 rfl rfl (ct_J5_rotateLeft g hst N q118.2 x0 q118.1 _ e122) (Nat.le_of_ble_eq_true rfl) (Nat.le_of_ble_eq_true rfl) (fun v9 h9 z9 y9 => ?_)
  obtain ⟨rfl, y9⟩ := y9
  rw [y9]
  refine aw_st (st' := []) rfl ?_
  refine aw_aload_n (i := 0) dJ5_fixAfterDeletion_178 rfl rfl trivial ?_
  replace hq := obind hq
  obtain ⟨o123, e124, hq⟩ := hq
  refine xw_getR e124 fJ5_101 dJ5_fixAfterDeletion_179 ?_
  refine aw_astore_n (i := 1) (loc' := [some (.ref x0), some (va_rf o123), some (va_rf r2)]) dJ5_fixAfterDeletion_182 rfl (Nat.le_of_ble_eq_true rfl) (aIsR_rf _) rfl ?_
  exact p_x_J5_fixAfterDeletion_183 g hst N _ _ hK0 hK345 q121 x0 o123 r2 _ hq
def x_J5_fixAfterDeletion_106 (g : AG) (N : Nat) (K0 : AH → Nat → Option Nat → Option AH) (K345 : AH → Nat → Option Nat → Option AH) (h : AH) (x0 : Nat) (r1 : Option Nat) (r2 : Option Nat) : Option AH :=
  (x_J5_rightOf g N h r2).bind fun q99 => (x_J5_colorOf g N q99.2 q99.1).bind fun q101 => if q101.1 = (1 : Int32) then ((x_J5_leftOf g N q101.2 r2).bind fun q125 => (x_J5_setColor g N q125.2 q125.1 (1 : Int32)).bind fun q127 => (x_J5_setColor g N q127 r2 (0 : Int32)).bind fun q129 => bif clB q129 x0 [14] then ((x_J5_rotateRight g N q129 x0 r2).bind fun q132 => (x_J5_parentOf g N q132 r1).bind fun q134 => (x_J5_rightOf g N q134.2 q134.1).bind fun q136 => x_J5_fixAfterDeletion_143 g N K0 K345 q136.2 x0 r1 q136.1) else none) else (x_J5_fixAfterDeletion_143 g N K0 K345 q101.2 x0 r1 r2)
theorem p_x_J5_fixAfterDeletion_106 (g : AG) (hst : (gL g).stackTraces = false) (N : Nat) (K0 : AH → Nat → Option Nat → Option AH) (K345 : AH → Nat → Option Nat → Option AH) (hK0 : ∀ (h : AH) (x0 : Nat) (r1 : Option Nat) (q : AH), K0 h x0 r1 = some q → AW g YJ5_fixAfterDeletion 2 (xV q) h [some (.ref x0), some (va_rf r1), none] 0 []) (hK345 : ∀ (h : AH) (x0 : Nat) (r1 : Option Nat) (q : AH), K345 h x0 r1 = some q → AW g YJ5_fixAfterDeletion 2 (xV q) h [some (.ref x0), some (va_rf r1), none] 345 []) : ∀ (h : AH) (x0 : Nat) (r1 : Option Nat) (r2 : Option Nat) (q : AH), x_J5_fixAfterDeletion_106 g N K0 K345 h x0 r1 r2 = some q → AW g YJ5_fixAfterDeletion 2 (xV q) h [some (.ref x0), some (va_rf r1), some (va_rf r2)] 106 [] := by
  intro h x0 r1 r2 q hq
  unfold x_J5_fixAfterDeletion_106 at hq
  refine aw_aload_n (i := 2) dJ5_fixAfterDeletion_106 rfl rfl (aIsR_rf _) ?_
  replace hq := obind hq
  obtain ⟨q99, e100, hq⟩ := hq
  refine aw_callS (Y2 := YJ5_rightOf) (As := [va_rf r2]) (rest := []) kJ5_rightOf q1728 q1729 dJ5_fixAfterDeletion_107 rfl rfl (ct_J5_rightOf g hst N h r2 _ e100) (Nat.le_of_ble_eq_true rfl) (Nat.le_of_ble_eq_true rfl) (fun v9 h9 z9 y9 => ?_)
  obtain ⟨rfl, rfl⟩ := y9
  refine aw_st (st' := [va_rf q99.1]) rfl ?_
  replace hq := obind hq
  obtain ⟨q101, e102, hq⟩ := hq
  refine aw_callS (Y2 := YJ5_colorOf) (As := [va_rf q99.1]) (rest := []) kJ5_colorOf q1731 q1732 dJ5_fixAfterDeletion_110 rfl rfl (ct_J5_colorOf g hst N q99.2 q99.1 _ e102) (Nat.le_of_ble_eq_true rfl) (Nat.le_of_ble_eq_true rfl) (fun v9 h9 z9 y9 => ?_)
  obtain ⟨rfl, rfl⟩ := y9
  refine aw_st (st' := [.int q101.1]) rfl ?_
  refine aw_iconst (v := 1) dJ5_fixAfterDeletion_113 (by decide) ?_
  refine aw_icmp_ne (tgt := 143) dJ5_fixAfterDeletion_114 (by decide) (fun c103 => ?_) (fun c103 => ?_)
  · rw [if_neg c103] at hq
    exact p_x_J5_fixAfterDeletion_143 g hst N _ _ hK0 hK345 q101.2 x0 r1 r2 _ hq
  · rw [if_pos c103] at hq
    refine aw_aload_n (i := 2) dJ5_fixAfterDeletion_117 rfl rfl (aIsR_rf _) ?_
    replace hq := obind hq
    obtain ⟨q125, e126, hq⟩ := hq
    refine aw_callS (Y2 := YJ5_leftOf) (As := [va_rf r2]) (rest := []) kJ5_leftOf q1725 q1726 dJ5_fixAfterDeletion_118 rfl rfl (ct_J5_leftOf g hst N q101.2 r2 _ e126) (Nat.le_of_ble_eq_true rfl) (Nat.le_of_ble_eq_true rfl) (fun v9 h9 z9 y9 => ?_)
    obtain ⟨rfl, rfl⟩ := y9
    refine aw_st (st' := [va_rf q125.1]) rfl ?_
    refine aw_iconst (v := 1) dJ5_fixAfterDeletion_121 (by decide) ?_
    replace hq := obind hq
    obtain ⟨q127, e128, hq⟩ := hq
    refine aw_callS (Y2 := YJ5_setColor) (As := [va_rf q125.1, .int (1 : Int32)]) (rest := []) kJ5_setColor q1734 q1735 dJ5_fixAfterDeletion_122 rfl rfl (ct_J5_setColor g hst N q125.2 q125.1 (1 : Int32) _ e128) (Nat.le_of_ble_eq_true rfl) (Nat.le_of_ble_eq_true rfl) (fun v9 h9 z9 y9 => ?_)
    obtain ⟨rfl, y9⟩ := y9
    rw [y9]
    refine aw_st (st' := []) rfl ?_
    refine aw_aload_n (i := 2) dJ5_fixAfterDeletion_125 rfl rfl (aIsR_rf _) ?_
    refine aw_iconst (v := 0) dJ5_fixAfterDeletion_126 (by decide) ?_
    replace hq := obind hq
    obtain ⟨q129, e130, hq⟩ := hq
    refine aw_callS (Y2 := YJ5_setColor) (As := [va_rf r2, .int (0 : Int32)]) (rest := []) kJ5_setColor q1734 q1735 dJ5_fixAfterDeletion_127 rfl rfl (ct_J5_setColor g hst N q127 r2 (0 : Int32) _ e130) (Nat.le_of_ble_eq_true rfl) (Nat.le_of_ble_eq_true rfl) (fun v9 h9 z9 y9 => ?_)
    obtain ⟨rfl, y9⟩ := y9
    rw [y9]
    refine aw_st (st' := []) rfl ?_
    refine aw_aload_n (i := 0) dJ5_fixAfterDeletion_130 rfl rfl trivial ?_
    refine aw_aload_n (i := 2) dJ5_fixAfterDeletion_131 rfl rfl (aIsR_rf _) ?_
    replace hq := cond_t hq
    obtain ⟨z131, hq⟩ := hq
    obtain ⟨fs9, ha9⟩ := clB1 z131
    replace hq := obind hq
    obtain ⟨q132, e133, hq⟩ := hq
    refine aw_callV (Y2 := YJ5_rotateRight) (As := [va_rf r2]) (rest := []) (r := (RJ5, TJ5, 9)) kJ5_rotateRight ha9 rfl rfl q1741 q1743 qs30 dJ5_fixAfterDeletion_132 rfl rfl (ct_J5_rotateRight g hst N q129 x0 r2 _ e133) (Nat.le_of_ble_eq_true rfl) (Nat.le_of_ble_eq_true rfl) (fun v9 h9 z9 y9 => ?_)
    obtain ⟨rfl, y9⟩ := y9
    rw [y9]
    refine aw_st (st' := []) rfl ?_
    refine aw_aload_n (i := 1) dJ5_fixAfterDeletion_135 rfl rfl (aIsR_rf _) ?_
    replace hq := obind hq
    obtain ⟨q134, e135, hq⟩ := hq
    refine aw_callS (Y2 := YJ5_parentOf) (As := [va_rf r1]) (rest := []) kJ5_parentOf q1722 q1723 dJ5_fixAfterDeletion_136 rfl rfl (ct_J5_parentOf g hst N q132 r1 _ e135) (Nat.le_of_ble_eq_true rfl) (Nat.le_of_ble_eq_true rfl) (fun v9 h9 z9 y9 => ?_)
    obtain ⟨rfl, rfl⟩ := y9
    refine aw_st (st' := [va_rf q134.1]) rfl ?_
    replace hq := obind hq
    obtain ⟨q136, e137, hq⟩ := hq
    refine aw_callS (Y2 := YJ5_rightOf) (As := [va_rf q134.1]) (rest := []) kJ5_rightOf q1728 q1729 dJ5_fixAfterDeletion_139 rfl rfl (ct_J5_rightOf g hst N q134.2 q134.1 _ e137) (Nat.le_of_ble_eq_true rfl) (Nat.le_of_ble_eq_true rfl) (fun v9 h9 z9 y9 => ?_)
    obtain ⟨rfl, rfl⟩ := y9
    refine aw_st (st' := [va_rf q136.1]) rfl ?_
    refine aw_astore_n (i := 2) (loc' := [some (.ref x0), some (va_rf r1), some (va_rf q136.1)]) dJ5_fixAfterDeletion_142 rfl (Nat.le_of_ble_eq_true rfl) (aIsR_rf _) (aset1_rf rfl) ?_
    exact p_x_J5_fixAfterDeletion_143 g hst N _ _ hK0 hK345 q136.2 x0 r1 q136.1 _ hq
def x_J5_fixAfterDeletion_71 (g : AG) (N : Nat) (K0 : AH → Nat → Option Nat → Option AH) (K345 : AH → Nat → Option Nat → Option AH) (h : AH) (x0 : Nat) (r1 : Option Nat) (r2 : Option Nat) : Option AH :=
  (x_J5_leftOf g N h r2).bind fun q94 => (x_J5_colorOf g N q94.2 q94.1).bind fun q96 => if q96.1 = (1 : Int32) then ((x_J5_rightOf g N q96.2 r2).bind fun q138 => (x_J5_colorOf g N q138.2 q138.1).bind fun q140 => if q140.1 = (1 : Int32) then ((x_J5_setColor g N q140.2 r2 (0 : Int32)).bind fun q143 => (x_J5_parentOf g N q143 r1).bind fun q145 => x_J5_fixAfterDeletion_183 g N K0 K345 q145.2 x0 q145.1 r2) else (x_J5_fixAfterDeletion_106 g N K0 K345 q140.2 x0 r1 r2)) else (x_J5_fixAfterDeletion_106 g N K0 K345 q96.2 x0 r1 r2)
theorem p_x_J5_fixAfterDeletion_71 (g : AG) (hst : (gL g).stackTraces = false) (N : Nat) (K0 : AH → Nat → Option Nat → Option AH) (K345 : AH → Nat → Option Nat → Option AH) (hK0 : ∀ (h : AH) (x0 : Nat) (r1 : Option Nat) (q : AH), K0 h x0 r1 = some q → AW g YJ5_fixAfterDeletion 2 (xV q) h [some (.ref x0), some (va_rf r1), none] 0 []) (hK345 : ∀ (h : AH) (x0 : Nat) (r1 : Option Nat) (q : AH), K345 h x0 r1 = some q → AW g YJ5_fixAfterDeletion 2 (xV q) h [some (.ref x0), some (va_rf r1), none] 345 []) : ∀ (h : AH) (x0 : Nat) (r1 : Option Nat) (r2 : Option Nat) (q : AH), x_J5_fixAfterDeletion_71 g N K0 K345 h x0 r1 r2 = some q → AW g YJ5_fixAfterDeletion 2 (xV q) h [some (.ref x0), some (va_rf r1), some (va_rf r2)] 71 [] := by
  intro h x0 r1 r2 q hq
  unfold x_J5_fixAfterDeletion_71 at hq
  refine aw_aload_n (i := 2) dJ5_fixAfterDeletion_71 rfl rfl (aIsR_rf _) ?_
  replace hq := obind hq
  obtain ⟨q94, e95, hq⟩ := hq
  refine aw_callS (Y2 := YJ5_leftOf) (As := [va_rf r2]) (rest := []) kJ5_leftOf q1725 q1726 dJ5_fixAfterDeletion_72 rfl rfl (ct_J5_leftOf g hst N h r2 _ e95) (Nat.le_of_ble_eq_true rfl) (Nat.le_of_ble_eq_true rfl) (fun v9 h9 z9 y9 => ?_)
  obtain ⟨rfl, rfl⟩ := y9
  refine aw_st (st' := [va_rf q94.1]) rfl ?_
  replace hq := obind hq
  obtain ⟨q96, e97, hq⟩ := hq
  refine aw_callS (Y2 := YJ5_colorOf) (As := [va_rf q94.1]) (rest := []) kJ5_colorOf q1731 q1732 dJ5_fixAfterDeletion_75 rfl rfl (ct_J5_colorOf g hst N q94.2 q94.1 _ e97) (Nat.le_of_ble_eq_true rfl) (Nat.le_of_ble_eq_true rfl) (fun v9 h9 z9 y9 => ?_)
  obtain ⟨rfl, rfl⟩ := y9
  refine aw_st (st' := [.int q96.1]) rfl ?_
  refine aw_iconst (v := 1) dJ5_fixAfterDeletion_78 (by decide) ?_
  refine aw_icmp_ne (tgt := 106) dJ5_fixAfterDeletion_79 (by decide) (fun c98 => ?_) (fun c98 => ?_)
  · rw [if_neg c98] at hq
    exact p_x_J5_fixAfterDeletion_106 g hst N _ _ hK0 hK345 q96.2 x0 r1 r2 _ hq
  · rw [if_pos c98] at hq
    refine aw_aload_n (i := 2) dJ5_fixAfterDeletion_82 rfl rfl (aIsR_rf _) ?_
    replace hq := obind hq
    obtain ⟨q138, e139, hq⟩ := hq
    refine aw_callS (Y2 := YJ5_rightOf) (As := [va_rf r2]) (rest := []) kJ5_rightOf q1728 q1729 dJ5_fixAfterDeletion_83 rfl rfl (ct_J5_rightOf g hst N q96.2 r2 _ e139) (Nat.le_of_ble_eq_true rfl) (Nat.le_of_ble_eq_true rfl) (fun v9 h9 z9 y9 => ?_)
    obtain ⟨rfl, rfl⟩ := y9
    refine aw_st (st' := [va_rf q138.1]) rfl ?_
    replace hq := obind hq
    obtain ⟨q140, e141, hq⟩ := hq
    refine aw_callS (Y2 := YJ5_colorOf) (As := [va_rf q138.1]) (rest := []) kJ5_colorOf q1731 q1732 dJ5_fixAfterDeletion_86 rfl rfl (ct_J5_colorOf g hst N q138.2 q138.1 _ e141) (Nat.le_of_ble_eq_true rfl) (Nat.le_of_ble_eq_true rfl) (fun v9 h9 z9 y9 => ?_)
    obtain ⟨rfl, rfl⟩ := y9
    refine aw_st (st' := [.int q140.1]) rfl ?_
    refine aw_iconst (v := 1) dJ5_fixAfterDeletion_89 (by decide) ?_
    refine aw_icmp_ne (tgt := 106) dJ5_fixAfterDeletion_90 (by decide) (fun c142 => ?_) (fun c142 => ?_)
    · rw [if_neg c142] at hq
      exact p_x_J5_fixAfterDeletion_106 g hst N _ _ hK0 hK345 q140.2 x0 r1 r2 _ hq
    · rw [if_pos c142] at hq
      refine aw_aload_n (i := 2) dJ5_fixAfterDeletion_93 rfl rfl (aIsR_rf _) ?_
      refine aw_iconst (v := 0) dJ5_fixAfterDeletion_94 (by decide) ?_
      replace hq := obind hq
      obtain ⟨q143, e144, hq⟩ := hq
      refine aw_callS (Y2 := YJ5_setColor) (As := [va_rf r2, .int (0 : Int32)]) (rest := []) kJ5_setColor q1734 q1735 dJ5_fixAfterDeletion_95 rfl rfl (ct_J5_setColor g hst N q140.2 r2 (0 : Int32) _ e144) (Nat.le_of_ble_eq_true rfl) (Nat.le_of_ble_eq_true rfl) (fun v9 h9 z9 y9 => ?_)
      obtain ⟨rfl, y9⟩ := y9
      rw [y9]
      refine aw_st (st' := []) rfl ?_
      refine aw_aload_n (i := 1) dJ5_fixAfterDeletion_98 rfl rfl (aIsR_rf _) ?_
      replace hq := obind hq
      obtain ⟨q145, e146, hq⟩ := hq
      refine aw_callS (Y2 := YJ5_parentOf) (As := [va_rf r1]) (rest := []) kJ5_parentOf q1722 q1723 dJ5_fixAfterDeletion_99 rfl rfl (ct_J5_parentOf g hst N q143 r1 _ e146) (Nat.le_of_ble_eq_true rfl) (Nat.le_of_ble_eq_true rfl) (fun v9 h9 z9 y9 => ?_)
      obtain ⟨rfl, rfl⟩ := y9
      refine aw_st (st' := [va_rf q145.1]) rfl ?_
      refine aw_astore_n (i := 1) (loc' := [some (.ref x0), some (va_rf q145.1), some (va_rf r2)]) dJ5_fixAfterDeletion_102 rfl (Nat.le_of_ble_eq_true rfl) (aIsR_rf _) rfl ?_
      refine aw_goto (tgt := 183) dJ5_fixAfterDeletion_103 (by decide) ?_
      exact p_x_J5_fixAfterDeletion_183 g hst N _ _ hK0 hK345 q145.2 x0 q145.1 r2 _ hq
def x_J5_fixAfterDeletion_0 (g : AG) (N : Nat) (K345 : AH → Nat → Option Nat → Option AH) : Nat → AH → Nat → Option Nat → Option AH
  | 0, _, _, _ => none
  | n9 + 1, h, x0, r1 =>
  (rdR h x0 [(14, 3)]).bind fun o1 => if r1 = o1 then (K345 h x0 r1) else ((x_J5_colorOf g N h r1).bind fun q4 => if q4.1 = (1 : Int32) then ((x_J5_parentOf g N q4.2 r1).bind fun q7 => (x_J5_leftOf g N q7.2 q7.1).bind fun q9 => if r1 = q9.1 then ((x_J5_parentOf g N q9.2 r1).bind fun q87 => (x_J5_rightOf g N q87.2 q87.1).bind fun q89 => (x_J5_colorOf g N q89.2 q89.1).bind fun q91 => if q91.1 = 0 then ((x_J5_setColor g N q91.2 q89.1 (1 : Int32)).bind fun q147 => (x_J5_parentOf g N q147 r1).bind fun q149 => (x_J5_setColor g N q149.2 q149.1 (0 : Int32)).bind fun q151 => (x_J5_parentOf g N q151 r1).bind fun q153 => bif clB q153.2 x0 [14] then ((x_J5_rotateLeft g N q153.2 x0 q153.1).bind fun q156 => (x_J5_parentOf g N q156 r1).bind fun q158 => (x_J5_rightOf g N q158.2 q158.1).bind fun q160 => x_J5_fixAfterDeletion_71 g N (fun h x0 r1 => x_J5_fixAfterDeletion_0 g N K345 n9 h x0 r1) K345 q160.2 x0 r1 q160.1) else none) else (x_J5_fixAfterDeletion_71 g N (fun h x0 r1 => x_J5_fixAfterDeletion_0 g N K345 n9 h x0 r1) K345 q91.2 x0 r1 q89.1)) else ((x_J5_parentOf g N q9.2 r1).bind fun q12 => (x_J5_leftOf g N q12.2 q12.1).bind fun q14 => (x_J5_colorOf g N q14.2 q14.1).bind fun q16 => if q16.1 = 0 then ((x_J5_setColor g N q16.2 q14.1 (1 : Int32)).bind fun q72 => (x_J5_parentOf g N q72 r1).bind fun q74 => (x_J5_setColor g N q74.2 q74.1 (0 : Int32)).bind fun q76 => (x_J5_parentOf g N q76 r1).bind fun q78 => bif clB q78.2 x0 [14] then ((x_J5_rotateRight g N q78.2 x0 q78.1).bind fun q81 => (x_J5_parentOf g N q81 r1).bind fun q83 => (x_J5_leftOf g N q83.2 q83.1).bind fun q85 => x_J5_fixAfterDeletion_230 g N (fun h x0 r1 => x_J5_fixAfterDeletion_0 g N K345 n9 h x0 r1) K345 q85.2 x0 r1 q85.1) else none) else (x_J5_fixAfterDeletion_230 g N (fun h x0 r1 => x_J5_fixAfterDeletion_0 g N K345 n9 h x0 r1) K345 q16.2 x0 r1 q14.1))) else (K345 q4.2 x0 r1))
theorem p_x_J5_fixAfterDeletion_0 (g : AG) (hst : (gL g).stackTraces = false) (N : Nat) (K345 : AH → Nat → Option Nat → Option AH) (hK345 : ∀ (h : AH) (x0 : Nat) (r1 : Option Nat) (q : AH), K345 h x0 r1 = some q → AW g YJ5_fixAfterDeletion 2 (xV q) h [some (.ref x0), some (va_rf r1), none] 345 []) : ∀ (n9 : Nat) (h : AH) (x0 : Nat) (r1 : Option Nat) (q : AH), x_J5_fixAfterDeletion_0 g N K345 n9 h x0 r1 = some q → AW g YJ5_fixAfterDeletion 2 (xV q) h [some (.ref x0), some (va_rf r1), none] 0 [] := by
  intro n9
  induction n9 with
  | zero =>
    intro h x0 r1 q hq
    cases hq
  | succ n9 ih =>
    intro h x0 r1 q hq
    rw [x_J5_fixAfterDeletion_0] at hq
    refine aw_aload_n (i := 1) dJ5_fixAfterDeletion_0 rfl rfl (aIsR_rf _) ?_
    refine aw_aload_n (i := 0) dJ5_fixAfterDeletion_1 rfl rfl trivial ?_
    replace hq := obind hq
    obtain ⟨o1, e2, hq⟩ := hq
    refine xw_getR e2 fJ5_101 dJ5_fixAfterDeletion_2 ?_
    refine xw_acmp_eq (v := r1) (w := o1) (tgt := 345) dJ5_fixAfterDeletion_5 (by decide) (fun c3 => ?_) (fun c3 => ?_)
    · rw [if_pos c3] at hq
      exact hK345 h x0 r1 _ hq
    · rw [if_neg c3] at hq
      refine aw_aload_n (i := 1) dJ5_fixAfterDeletion_8 rfl rfl (aIsR_rf _) ?_
      replace hq := obind hq
      obtain ⟨q4, e5, hq⟩ := hq
      refine aw_callS (Y2 := YJ5_colorOf) (As := [va_rf r1]) (rest := []) kJ5_colorOf q1731 q1732 dJ5_fixAfterDeletion_9 rfl rfl (ct_J5_colorOf g hst N h r1 _ e5) (Nat.le_of_ble_eq_true rfl) (Nat.le_of_ble_eq_true rfl) (fun v9 h9 z9 y9 => ?_)
      obtain ⟨rfl, rfl⟩ := y9
      refine aw_st (st' := [.int q4.1]) rfl ?_
      refine aw_iconst (v := 1) dJ5_fixAfterDeletion_12 (by decide) ?_
      refine aw_icmp_ne (tgt := 345) dJ5_fixAfterDeletion_13 (by decide) (fun c6 => ?_) (fun c6 => ?_)
      · rw [if_neg c6] at hq
        exact hK345 q4.2 x0 r1 _ hq
      · rw [if_pos c6] at hq
        refine aw_aload_n (i := 1) dJ5_fixAfterDeletion_16 rfl rfl (aIsR_rf _) ?_
        refine aw_aload_n (i := 1) dJ5_fixAfterDeletion_17 rfl rfl (aIsR_rf _) ?_
        replace hq := obind hq
        obtain ⟨q7, e8, hq⟩ := hq
        refine aw_callS (Y2 := YJ5_parentOf) (As := [va_rf r1]) (rest := [va_rf r1]) kJ5_parentOf q1722 q1723 dJ5_fixAfterDeletion_18 rfl rfl (ct_J5_parentOf g hst N q4.2 r1 _ e8) (Nat.le_of_ble_eq_true rfl) (by simp only [List.map_cons, List.map_nil, List.sum_cons, List.sum_nil, cat_rf]; exact Nat.le_of_ble_eq_true rfl) (fun v9 h9 z9 y9 => ?_)
        obtain ⟨rfl, rfl⟩ := y9
        refine aw_st (st' := [va_rf q7.1, va_rf r1]) rfl ?_
        replace hq := obind hq
        obtain ⟨q9, e10, hq⟩ := hq
        refine aw_callS (Y2 := YJ5_leftOf) (As := [va_rf q7.1]) (rest := [va_rf r1]) kJ5_leftOf q1725 q1726 dJ5_fixAfterDeletion_21 rfl rfl (ct_J5_leftOf g hst N q7.2 q7.1 _ e10) (Nat.le_of_ble_eq_true rfl) (by simp only [List.map_cons, List.map_nil, List.sum_cons, List.sum_nil, cat_rf]; exact Nat.le_of_ble_eq_true rfl) (fun v9 h9 z9 y9 => ?_)
        obtain ⟨rfl, rfl⟩ := y9
        refine aw_st (st' := [va_rf q9.1, va_rf r1]) rfl ?_
        refine xw_acmp_ne (v := r1) (w := q9.1) (tgt := 186) dJ5_fixAfterDeletion_24 (by decide) (fun c11 => ?_) (fun c11 => ?_)
        · rw [if_neg c11] at hq
          refine aw_aload_n (i := 1) dJ5_fixAfterDeletion_186 rfl rfl (aIsR_rf _) ?_
          replace hq := obind hq
          obtain ⟨q12, e13, hq⟩ := hq
          refine aw_callS (Y2 := YJ5_parentOf) (As := [va_rf r1]) (rest := []) kJ5_parentOf q1722 q1723 dJ5_fixAfterDeletion_187 rfl rfl (ct_J5_parentOf g hst N q9.2 r1 _ e13) (Nat.le_of_ble_eq_true rfl) (Nat.le_of_ble_eq_true rfl) (fun v9 h9 z9 y9 => ?_)
          obtain ⟨rfl, rfl⟩ := y9
          refine aw_st (st' := [va_rf q12.1]) rfl ?_
          replace hq := obind hq
          obtain ⟨q14, e15, hq⟩ := hq
          refine aw_callS (Y2 := YJ5_leftOf) (As := [va_rf q12.1]) (rest := []) kJ5_leftOf q1725 q1726 dJ5_fixAfterDeletion_190 rfl rfl (ct_J5_leftOf g hst N q12.2 q12.1 _ e15) (Nat.le_of_ble_eq_true rfl) (Nat.le_of_ble_eq_true rfl) (fun v9 h9 z9 y9 => ?_)
          obtain ⟨rfl, rfl⟩ := y9
          refine aw_st (st' := [va_rf q14.1]) rfl ?_
          refine aw_astore_n (i := 2) (loc' := [some (.ref x0), some (va_rf r1), some (va_rf q14.1)]) dJ5_fixAfterDeletion_193 rfl (Nat.le_of_ble_eq_true rfl) (aIsR_rf _) (aset1_rf rfl) ?_
          refine aw_aload_n (i := 2) dJ5_fixAfterDeletion_194 rfl rfl (aIsR_rf _) ?_
          replace hq := obind hq
          obtain ⟨q16, e17, hq⟩ := hq
          refine aw_callS (Y2 := YJ5_colorOf) (As := [va_rf q14.1]) (rest := []) kJ5_colorOf q1731 q1732 dJ5_fixAfterDeletion_195 rfl rfl (ct_J5_colorOf g hst N q14.2 q14.1 _ e17) (Nat.le_of_ble_eq_true rfl) (Nat.le_of_ble_eq_true rfl) (fun v9 h9 z9 y9 => ?_)
          obtain ⟨rfl, rfl⟩ := y9
          refine aw_st (st' := [.int q16.1]) rfl ?_
          refine aw_if_ne (tgt := 230) dJ5_fixAfterDeletion_198 (by decide) (fun c18 => ?_) (fun c18 => ?_)
          · rw [if_neg c18] at hq
            exact p_x_J5_fixAfterDeletion_230 g hst N _ _ ih hK345 q16.2 x0 r1 q14.1 _ hq
          · rw [if_pos c18] at hq
            refine aw_aload_n (i := 2) dJ5_fixAfterDeletion_201 rfl rfl (aIsR_rf _) ?_
            refine aw_iconst (v := 1) dJ5_fixAfterDeletion_202 (by decide) ?_
            replace hq := obind hq
            obtain ⟨q72, e73, hq⟩ := hq
            refine aw_callS (Y2 := YJ5_setColor) (As := [va_rf q14.1, .int (1 : Int32)]) (rest := []) kJ5_setColor q1734 q1735 dJ5_fixAfterDeletion_203 rfl rfl (ct_J5_setColor g hst N q16.2 q14.1 (1 : Int32) _ e73) (Nat.le_of_ble_eq_true rfl) (Nat.le_of_ble_eq_true rfl) (fun v9 h9 z9 y9 => ?_)
            obtain ⟨rfl, y9⟩ := y9
            rw [y9]
            refine aw_st (st' := []) rfl ?_
            refine aw_aload_n (i := 1) dJ5_fixAfterDeletion_206 rfl rfl (aIsR_rf _) ?_
            replace hq := obind hq
            obtain ⟨q74, e75, hq⟩ := hq
            refine aw_callS (Y2 := YJ5_parentOf) (As := [va_rf r1]) (rest := []) kJ5_parentOf q1722 q1723 dJ5_fixAfterDeletion_207 rfl rfl (ct_J5_parentOf g hst N q72 r1 _ e75) (Nat.le_of_ble_eq_true rfl) (Nat.le_of_ble_eq_true rfl) (fun v9 h9 z9 y9 => ?_)
            obtain ⟨rfl, rfl⟩ := y9
            refine aw_st (st' := [va_rf q74.1]) rfl ?_
            refine aw_iconst (v := 0) dJ5_fixAfterDeletion_210 (by decide) ?_
            replace hq := obind hq
            obtain ⟨q76, e77, hq⟩ := hq
            refine aw_callS (Y2 := YJ5_setColor) (As := [va_rf q74.1, .int (0 : Int32)]) (rest := []) kJ5_setColor q1734 q1735 dJ5_fixAfterDeletion_211 rfl rfl (ct_J5_setColor g hst N q74.2 q74.1 (0 : Int32) _ e77) (Nat.le_of_ble_eq_true rfl) (Nat.le_of_ble_eq_true rfl) (fun v9 h9 z9 y9 => ?_)
            obtain ⟨rfl, y9⟩ := y9
            rw [y9]
            refine aw_st (st' := []) rfl ?_
            refine aw_aload_n (i := 0) dJ5_fixAfterDeletion_214 rfl rfl trivial ?_
            refine aw_aload_n (i := 1) dJ5_fixAfterDeletion_215 rfl rfl (aIsR_rf _) ?_
            replace hq := obind hq
            obtain ⟨q78, e79, hq⟩ := hq
            refine aw_callS (Y2 := YJ5_parentOf) (As := [va_rf r1]) (rest := [.ref x0]) kJ5_parentOf q1722 q1723 dJ5_fixAfterDeletion_216 rfl rfl (ct_J5_parentOf g hst N q76 r1 _ e79) (Nat.le_of_ble_eq_true rfl) (Nat.le_of_ble_eq_true rfl) (fun v9 h9 z9 y9 => ?_)
            obtain ⟨rfl, rfl⟩ := y9
            refine aw_st (st' := [va_rf q78.1, .ref x0]) rfl ?_
            replace hq := cond_t hq
            obtain ⟨z80, hq⟩ := hq
            obtain ⟨fs9, ha9⟩ := clB1 z80
            replace hq := obind hq
            obtain ⟨q81, e82, hq⟩ := hq
            refine aw_callV (Y2 := YJ5_rotateRight) (As := [va_rf q78.1]) (rest := []) (r := (RJ5, TJ5, 9)) kJ5_rotateRight ha9 rfl rfl q1741 q1743 qs30 dJ5_fixAfterDeletion_219 rfl rfl (ct_J5_rotateRight g hst N q78.2 x0 q78.1 _ e82) (Nat.le_of_ble_eq_true rfl) (Nat.le_of_ble_eq_true rfl) (fun v9 h9 z9 y9 => ?_)
            obtain ⟨rfl, y9⟩ := y9
            rw [y9]
            refine aw_st (st' := []) rfl ?_
            refine aw_aload_n (i := 1) dJ5_fixAfterDeletion_222 rfl rfl (aIsR_rf _) ?_
            replace hq := obind hq
            obtain ⟨q83, e84, hq⟩ := hq
            refine aw_callS (Y2 := YJ5_parentOf) (As := [va_rf r1]) (rest := []) kJ5_parentOf q1722 q1723 dJ5_fixAfterDeletion_223 rfl rfl (ct_J5_parentOf g hst N q81 r1 _ e84) (Nat.le_of_ble_eq_true rfl) (Nat.le_of_ble_eq_true rfl) (fun v9 h9 z9 y9 => ?_)
            obtain ⟨rfl, rfl⟩ := y9
            refine aw_st (st' := [va_rf q83.1]) rfl ?_
            replace hq := obind hq
            obtain ⟨q85, e86, hq⟩ := hq
            refine aw_callS (Y2 := YJ5_leftOf) (As := [va_rf q83.1]) (rest := []) kJ5_leftOf q1725 q1726 dJ5_fixAfterDeletion_226 rfl rfl (ct_J5_leftOf g hst N q83.2 q83.1 _ e86) (Nat.le_of_ble_eq_true rfl) (Nat.le_of_ble_eq_true rfl) (fun v9 h9 z9 y9 => ?_)
            obtain ⟨rfl, rfl⟩ := y9
            refine aw_st (st' := [va_rf q85.1]) rfl ?_
            refine aw_astore_n (i := 2) (loc' := [some (.ref x0), some (va_rf r1), some (va_rf q85.1)]) dJ5_fixAfterDeletion_229 rfl (Nat.le_of_ble_eq_true rfl) (aIsR_rf _) (aset1_rf rfl) ?_
            exact p_x_J5_fixAfterDeletion_230 g hst N _ _ ih hK345 q85.2 x0 r1 q85.1 _ hq
        · rw [if_pos c11] at hq
          refine aw_aload_n (i := 1) dJ5_fixAfterDeletion_27 rfl rfl (aIsR_rf _) ?_
          replace hq := obind hq
          obtain ⟨q87, e88, hq⟩ := hq
          refine aw_callS (Y2 := YJ5_parentOf) (As := [va_rf r1]) (rest := []) kJ5_parentOf q1722 q1723 dJ5_fixAfterDeletion_28 rfl rfl (ct_J5_parentOf g hst N q9.2 r1 _ e88) (Nat.le_of_ble_eq_true rfl) (Nat.le_of_ble_eq_true rfl) (fun v9 h9 z9 y9 => ?_)
          obtain ⟨rfl, rfl⟩ := y9
          refine aw_st (st' := [va_rf q87.1]) rfl ?_
          replace hq := obind hq
          obtain ⟨q89, e90, hq⟩ := hq
          refine aw_callS (Y2 := YJ5_rightOf) (As := [va_rf q87.1]) (rest := []) kJ5_rightOf q1728 q1729 dJ5_fixAfterDeletion_31 rfl rfl (ct_J5_rightOf g hst N q87.2 q87.1 _ e90) (Nat.le_of_ble_eq_true rfl) (Nat.le_of_ble_eq_true rfl) (fun v9 h9 z9 y9 => ?_)
          obtain ⟨rfl, rfl⟩ := y9
          refine aw_st (st' := [va_rf q89.1]) rfl ?_
          refine aw_astore_n (i := 2) (loc' := [some (.ref x0), some (va_rf r1), some (va_rf q89.1)]) dJ5_fixAfterDeletion_34 rfl (Nat.le_of_ble_eq_true rfl) (aIsR_rf _) (aset1_rf rfl) ?_
          refine aw_aload_n (i := 2) dJ5_fixAfterDeletion_35 rfl rfl (aIsR_rf _) ?_
          replace hq := obind hq
          obtain ⟨q91, e92, hq⟩ := hq
          refine aw_callS (Y2 := YJ5_colorOf) (As := [va_rf q89.1]) (rest := []) kJ5_colorOf q1731 q1732 dJ5_fixAfterDeletion_36 rfl rfl (ct_J5_colorOf g hst N q89.2 q89.1 _ e92) (Nat.le_of_ble_eq_true rfl) (Nat.le_of_ble_eq_true rfl) (fun v9 h9 z9 y9 => ?_)
          obtain ⟨rfl, rfl⟩ := y9
          refine aw_st (st' := [.int q91.1]) rfl ?_
          refine aw_if_ne (tgt := 71) dJ5_fixAfterDeletion_39 (by decide) (fun c93 => ?_) (fun c93 => ?_)
          · rw [if_neg c93] at hq
            exact p_x_J5_fixAfterDeletion_71 g hst N _ _ ih hK345 q91.2 x0 r1 q89.1 _ hq
          · rw [if_pos c93] at hq
            refine aw_aload_n (i := 2) dJ5_fixAfterDeletion_42 rfl rfl (aIsR_rf _) ?_
            refine aw_iconst (v := 1) dJ5_fixAfterDeletion_43 (by decide) ?_
            replace hq := obind hq
            obtain ⟨q147, e148, hq⟩ := hq
            refine aw_callS (Y2 := YJ5_setColor) (As := [va_rf q89.1, .int (1 : Int32)]) (rest := []) kJ5_setColor q1734 q1735 dJ5_fixAfterDeletion_44 rfl rfl (ct_J5_setColor g hst N q91.2 q89.1 (1 : Int32) _ e148) (Nat.le_of_ble_eq_true rfl) (Nat.le_of_ble_eq_true rfl) (fun v9 h9 z9 y9 => ?_)
            obtain ⟨rfl, y9⟩ := y9
            rw [y9]
            refine aw_st (st' := []) rfl ?_
            refine aw_aload_n (i := 1) dJ5_fixAfterDeletion_47 rfl rfl (aIsR_rf _) ?_
            replace hq := obind hq
            obtain ⟨q149, e150, hq⟩ := hq
            refine aw_callS (Y2 := YJ5_parentOf) (As := [va_rf r1]) (rest := []) kJ5_parentOf q1722 q1723 dJ5_fixAfterDeletion_48 rfl rfl (ct_J5_parentOf g hst N q147 r1 _ e150) (Nat.le_of_ble_eq_true rfl) (Nat.le_of_ble_eq_true rfl) (fun v9 h9 z9 y9 => ?_)
            obtain ⟨rfl, rfl⟩ := y9
            refine aw_st (st' := [va_rf q149.1]) rfl ?_
            refine aw_iconst (v := 0) dJ5_fixAfterDeletion_51 (by decide) ?_
            replace hq := obind hq
            obtain ⟨q151, e152, hq⟩ := hq
            refine aw_callS (Y2 := YJ5_setColor) (As := [va_rf q149.1, .int (0 : Int32)]) (rest := []) kJ5_setColor q1734 q1735 dJ5_fixAfterDeletion_52 rfl rfl (ct_J5_setColor g hst N q149.2 q149.1 (0 : Int32) _ e152) (Nat.le_of_ble_eq_true rfl) (Nat.le_of_ble_eq_true rfl) (fun v9 h9 z9 y9 => ?_)
            obtain ⟨rfl, y9⟩ := y9
            rw [y9]
            refine aw_st (st' := []) rfl ?_
            refine aw_aload_n (i := 0) dJ5_fixAfterDeletion_55 rfl rfl trivial ?_
            refine aw_aload_n (i := 1) dJ5_fixAfterDeletion_56 rfl rfl (aIsR_rf _) ?_
            replace hq := obind hq
            obtain ⟨q153, e154, hq⟩ := hq
            refine aw_callS (Y2 := YJ5_parentOf) (As := [va_rf r1]) (rest := [.ref x0]) kJ5_parentOf q1722 q1723 dJ5_fixAfterDeletion_57 rfl rfl (ct_J5_parentOf g hst N q151 r1 _ e154) (Nat.le_of_ble_eq_true rfl) (Nat.le_of_ble_eq_true rfl) (fun v9 h9 z9 y9 => ?_)
            obtain ⟨rfl, rfl⟩ := y9
            refine aw_st (st' := [va_rf q153.1, .ref x0]) rfl ?_
            replace hq := cond_t hq
            obtain ⟨z155, hq⟩ := hq
            obtain ⟨fs9, ha9⟩ := clB1 z155
            replace hq := obind hq
            obtain ⟨q156, e157, hq⟩ := hq
            refine aw_callV (Y2 := YJ5_rotateLeft) (As := [va_rf q153.1]) (rest := []) (r := (RJ5, TJ5, 9)) kJ5_rotateLeft ha9 rfl rfl q1737 q1739 qs29 dJ5_fixAfterDeletion_60 rfl rfl (ct_J5_rotateLeft g hst N q153.2 x0 q153.1 _ e157) (Nat.le_of_ble_eq_true rfl) (Nat.le_of_ble_eq_true rfl) (fun v9 h9 z9 y9 => ?_)
            obtain ⟨rfl, y9⟩ := y9
            rw [y9]
            refine aw_st (st' := []) rfl ?_
            refine aw_aload_n (i := 1) dJ5_fixAfterDeletion_63 rfl rfl (aIsR_rf _) ?_
            replace hq := obind hq
            obtain ⟨q158, e159, hq⟩ := hq
            refine aw_callS (Y2 := YJ5_parentOf) (As := [va_rf r1]) (rest := []) kJ5_parentOf q1722 q1723 dJ5_fixAfterDeletion_64 rfl rfl (ct_J5_parentOf g hst N q156 r1 _ e159) (Nat.le_of_ble_eq_true rfl) (Nat.le_of_ble_eq_true rfl) (fun v9 h9 z9 y9 => ?_)
            obtain ⟨rfl, rfl⟩ := y9
            refine aw_st (st' := [va_rf q158.1]) rfl ?_
            replace hq := obind hq
            obtain ⟨q160, e161, hq⟩ := hq
            refine aw_callS (Y2 := YJ5_rightOf) (As := [va_rf q158.1]) (rest := []) kJ5_rightOf q1728 q1729 dJ5_fixAfterDeletion_67 rfl rfl (ct_J5_rightOf g hst N q158.2 q158.1 _ e161) (Nat.le_of_ble_eq_true rfl) (Nat.le_of_ble_eq_true rfl) (fun v9 h9 z9 y9 => ?_)
            obtain ⟨rfl, rfl⟩ := y9
            refine aw_st (st' := [va_rf q160.1]) rfl ?_
            refine aw_astore_n (i := 2) (loc' := [some (.ref x0), some (va_rf r1), some (va_rf q160.1)]) dJ5_fixAfterDeletion_70 rfl (Nat.le_of_ble_eq_true rfl) (aIsR_rf _) (aset1_rf rfl) ?_
            exact p_x_J5_fixAfterDeletion_71 g hst N _ _ ih hK345 q160.2 x0 r1 q160.1 _ hq
def x_J5_fixAfterDeletion_345 (g : AG) (N : Nat) (h : AH) (x0 : Nat) (r1 : Option Nat) : Option AH :=
  (x_J5_setColor g N h r1 (1 : Int32)).bind fun q162 => some q162
theorem p_x_J5_fixAfterDeletion_345 (g : AG) (hst : (gL g).stackTraces = false) (N : Nat) : ∀ (h : AH) (x0 : Nat) (r1 : Option Nat) (q : AH), x_J5_fixAfterDeletion_345 g N h x0 r1 = some q → AW g YJ5_fixAfterDeletion 2 (xV q) h [some (.ref x0), some (va_rf r1), none] 345 [] := by
  intro h x0 r1 q hq
  unfold x_J5_fixAfterDeletion_345 at hq
  refine aw_aload_n (i := 1) dJ5_fixAfterDeletion_345 rfl rfl (aIsR_rf _) ?_
  refine aw_iconst (v := 1) dJ5_fixAfterDeletion_346 (by decide) ?_
  replace hq := obind hq
  obtain ⟨q162, e163, hq⟩ := hq
  refine aw_callS (Y2 := YJ5_setColor) (As := [va_rf r1, .int (1 : Int32)]) (rest := []) kJ5_setColor q1734 q1735 dJ5_fixAfterDeletion_347 rfl rfl (ct_J5_setColor g hst N h r1 (1 : Int32) _ e163) (Nat.le_of_ble_eq_true rfl) (Nat.le_of_ble_eq_true rfl) (fun v9 h9 z9 y9 => ?_)
  obtain ⟨rfl, y9⟩ := y9
  rw [y9]
  refine aw_st (st' := []) rfl ?_
  cases hq
  exact aw_vret dJ5_fixAfterDeletion_350 rfl ⟨rfl, rfl⟩
def x_J5_fixAfterDeletion (g : AG) (N : Nat) (h : AH) (x0 : Nat) (r1 : Option Nat) : Option AH :=
  x_J5_fixAfterDeletion_0 g N (fun h x0 r1 => x_J5_fixAfterDeletion_345 g N  h x0 r1) N h x0 r1
theorem ct_J5_fixAfterDeletion (g : AG) (hst : (gL g).stackTraces = false) (N : Nat) : ∀ (h : AH) (x0 : Nat) (r1 : Option Nat) (q : AH), x_J5_fixAfterDeletion g N h x0 r1 = some q → CT g YJ5_fixAfterDeletion 2 [.ref x0, va_rf r1] h (xV q) := by
  intro h x0 r1 q hq
  refine CT.of rfl (by decide +kernel) (loc := [some (.ref x0), some (va_rf r1), none]) (by first | exact Nat.le_of_ble_eq_true rfl | (simp only [lgl_rf, lgl_i, lgl_j, lgl_ref, lgl_nil]; exact Nat.le_of_ble_eq_true rfl)) (by first | rfl | (simp only [aent_rf, aent_i, aent_j, aent_ref, aent_nil]; rfl)) ?_
  unfold x_J5_fixAfterDeletion at hq
  refine p_x_J5_fixAfterDeletion_0 g hst N _ ?_ N h x0 r1 _ hq
  · intro h x0 r1 q hq
    exact p_x_J5_fixAfterDeletion_345 g hst N   h x0 r1 _ hq
