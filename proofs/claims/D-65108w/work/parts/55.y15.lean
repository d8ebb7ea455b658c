/-! THE COMPONENT AND THE JDK as functions of the heap, and their contracts: printed by wip gen/dec2.py -/
set_option maxRecDepth 100000
theorem fJ1_219 : ∀ q ∈ ([(12, 9)] : List (Nat × Nat)), aFl RJ1 219 q.1 q.2 := by
  intro q hq
  simp only [List.mem_cons, List.not_mem_nil, or_false] at hq
  subst hq
  exact aFl.of (RJ29, TJ29, 11) rfl (Nat.le_of_ble_eq_true rfl) q1630
theorem fJ1_223 : ∀ q ∈ ([(12, 5)] : List (Nat × Nat)), aFl RJ1 223 q.1 q.2 := by
  intro q hq
  simp only [List.mem_cons, List.not_mem_nil, or_false] at hq
  subst hq
  exact aFl.ofS (ref := "java/util/HashMap$TreeNode") (RJ29, TJ29, 11) rfl (Nat.le_of_ble_eq_true rfl) q1578 q1575
abbrev YJ1_treeifyBin : YC := (yJ1_treeifyBin, cJ1_treeifyBin, 9, none, [])
theorem kJ1_treeifyBin : aMk YJ1_treeifyBin 2 := ⟨rfl, q1654, q120, ⟨by decide +kernel, by decide +kernel, by decide +kernel⟩, Nat.le_of_ble_eq_true rfl⟩
def x_J1_treeifyBin_13 (g : AG) (N : Nat) (h : AH) (x0 : Nat) (r1 : Option Nat) (x2 : Int32) : Option AH :=
  bif clB h x0 [10] then ((x_J1_resize g N h x0).bind fun q3 => some q3.2) else none
theorem p_x_J1_treeifyBin_13 (g : AG) (hst : (gL g).stackTraces = false) (N : Nat) : ∀ (h : AH) (x0 : Nat) (r1 : Option Nat) (x2 : Int32) (q : AH), x_J1_treeifyBin_13 g N h x0 r1 x2 = some q → AW g YJ1_treeifyBin 13 (xV q) h [some (.ref x0), some (va_rf r1), some (.int x2), none, none, none, none, none, none] 13 [] := by
  intro h x0 r1 x2 q hq
  unfold x_J1_treeifyBin_13 at hq
  refine aw_aload_n (i := 0) dJ1_treeifyBin_13 rfl rfl trivial ?_
  replace hq := cond_t hq
  obtain ⟨z2, hq⟩ := hq
  obtain ⟨fs9, ha9⟩ := clB1 z2
  replace hq := obind hq
  obtain ⟨q3, e4, hq⟩ := hq
  refine aw_callV (Y2 := YJ1_resize) (As := []) (rest := []) (r := (RJ1, TJ1, 8)) kJ1_resize ha9 rfl rfl q1536 q1537 q1538 dJ1_treeifyBin_14 rfl rfl (ct_J1_resize g hst N h x0 _ e4) (Nat.le_of_ble_eq_true rfl) (Nat.le_of_ble_eq_true rfl) (fun v9 h9 z9 y9 => ?_)
  obtain ⟨rfl, rfl⟩ := y9
  refine aw_st (st' := [va_rf q3.1]) rfl ?_
  refine aw_pop dJ1_treeifyBin_17 (cat_rf _) ?_
  refine aw_goto (tgt := 109) dJ1_treeifyBin_18 (by decide) ?_
  cases hq
  exact aw_vret dJ1_treeifyBin_109 rfl ⟨rfl, rfl⟩
def x_J1_treeifyBin_78 (g : AG) (N : Nat) (K43 : AH → Nat → Option Nat → Int32 → Int32 → Int32 → Option Nat → Option Nat → Option Nat → Option AH) (K93 : AH → Nat → Option Nat → Int32 → Int32 → Int32 → Option Nat → Option Nat → Option Nat → Option Nat → Option AH) (h : AH) (x0 : Nat) (r1 : Option Nat) (x2 : Int32) (x3 : Int32) (x4 : Int32) (r5 : Option Nat) (r6 : Option Nat) (r7 : Option Nat) (r8 : Option Nat) : Option AH :=
  (r5).bind fun a15 => (rdR h a15 [(11, 3), (12, 5)]).bind fun o17 => ocase o17 (K93 h x0 r1 x2 x3 x4 (none) r6 r8 r8) (fun a19 => K43 h x0 r1 x2 x3 x4 (some a19) r6 r8)
theorem p_x_J1_treeifyBin_78 (g : AG) (hst : (gL g).stackTraces = false) (N : Nat) (K43 : AH → Nat → Option Nat → Int32 → Int32 → Int32 → Option Nat → Option Nat → Option Nat → Option AH) (K93 : AH → Nat → Option Nat → Int32 → Int32 → Int32 → Option Nat → Option Nat → Option Nat → Option Nat → Option AH) (hK43 : ∀ (h : AH) (x0 : Nat) (r1 : Option Nat) (x2 : Int32) (x3 : Int32) (x4 : Int32) (r5 : Option Nat) (r6 : Option Nat) (r7 : Option Nat) (q : AH), K43 h x0 r1 x2 x3 x4 r5 r6 r7 = some q → AW g YJ1_treeifyBin 13 (xV q) h [some (.ref x0), some (va_rf r1), some (.int x2), some (.int x3), some (.int x4), some (va_rf r5), some (va_rf r6), some (va_rf r7), none] 43 []) (hK93 : ∀ (h : AH) (x0 : Nat) (r1 : Option Nat) (x2 : Int32) (x3 : Int32) (x4 : Int32) (r5 : Option Nat) (r6 : Option Nat) (r7 : Option Nat) (r8 : Option Nat) (q : AH), K93 h x0 r1 x2 x3 x4 r5 r6 r7 r8 = some q → AW g YJ1_treeifyBin 13 (xV q) h [some (.ref x0), some (va_rf r1), some (.int x2), some (.int x3), some (.int x4), some (va_rf r5), some (va_rf r6), some (va_rf r7), some (va_rf r8)] 93 []) : ∀ (h : AH) (x0 : Nat) (r1 : Option Nat) (x2 : Int32) (x3 : Int32) (x4 : Int32) (r5 : Option Nat) (r6 : Option Nat) (r7 : Option Nat) (r8 : Option Nat) (q : AH), x_J1_treeifyBin_78 g N K43 K93 h x0 r1 x2 x3 x4 r5 r6 r7 r8 = some q → AW g YJ1_treeifyBin 13 (xV q) h [some (.ref x0), some (va_rf r1), some (.int x2), some (.int x3), some (.int x4), some (va_rf r5), some (va_rf r6), some (va_rf r7), some (va_rf r8)] 78 [] := by
  intro h x0 r1 x2 x3 x4 r5 r6 r7 r8 q hq
  unfold x_J1_treeifyBin_78 at hq
  refine aw_aload dJ1_treeifyBin_78 rfl (aIsR_rf _) ?_
  refine aw_astore (loc' := [some (.ref x0), some (va_rf r1), some (.int x2), some (.int x3), some (.int x4), some (va_rf r5), some (va_rf r6), some (va_rf r8), some (va_rf r8)]) dJ1_treeifyBin_80 (Nat.le_of_ble_eq_true rfl) (aIsR_rf _) (aset1_rf rfl) ?_
  refine aw_aload dJ1_treeifyBin_82 rfl (aIsR_rf _) ?_
  replace hq := obind hq
  obtain ⟨a15, e16, hq⟩ := hq
  subst e16
  replace hq := obind hq
  obtain ⟨o17, e18, hq⟩ := hq
  refine xw_getR e18 fJ1_177 dJ1_treeifyBin_84 ?_
  refine aw_dup dJ1_treeifyBin_87 (cat_rf _) ?_
  refine aw_astore (loc' := [some (.ref x0), some (va_rf r1), some (.int x2), some (.int x3), some (.int x4), some (va_rf o17), some (va_rf r6), some (va_rf r8), some (va_rf r8)]) dJ1_treeifyBin_88 (Nat.le_of_ble_eq_true rfl) (aIsR_rf _) rfl ?_
  rcases o17 with _ | a19
  · replace hq := ocase_n hq
    refine xw_ifnonN (tgt := 43) dJ1_treeifyBin_90 (by decide) ?_
    exact hK93 h x0 r1 x2 x3 x4 (none) r6 r8 r8 _ hq
  · replace hq := ocase_s hq
    refine xw_ifnonS (tgt := 43) dJ1_treeifyBin_90 (by decide) ?_
    refine aw_subl (loc' := [some (.ref x0), some (va_rf r1), some (.int x2), some (.int x3), some (.int x4), some (.ref a19), some (va_rf r6), some (va_rf r8), none]) ⟨Or.inr rfl, Or.inr rfl, Or.inr rfl, Or.inr rfl, Or.inr rfl, Or.inr rfl, Or.inr rfl, Or.inr rfl, Or.inl rfl, trivial⟩ ?_
    exact hK43 h x0 r1 x2 x3 x4 (some a19) r6 r8 _ hq
def x_J1_treeifyBin_43 (g : AG) (N : Nat) (K93 : AH → Nat → Option Nat → Int32 → Int32 → Int32 → Option Nat → Option Nat → Option Nat → Option Nat → Option AH) : Nat → AH → Nat → Option Nat → Int32 → Int32 → Int32 → Option Nat → Option Nat → Option Nat → Option AH
  | 0, _, _, _, _, _, _, _, _, _ => none
  | n9 + 1, h, x0, r1, x2, x3, x4, r5, r6, r7 =>
  bif clB h x0 [10] then ((x_J1_replacementTreeNode g N h x0 r5 (none)).bind fun q12 => ocase r7 (x_J1_treeifyBin_78 g N (fun h x0 r1 x2 x3 x4 r5 r6 r7 => x_J1_treeifyBin_43 g N K93 n9 h x0 r1 x2 x3 x4 r5 r6 r7) K93 q12.2 x0 r1 x2 x3 x4 r5 q12.1 (none) q12.1) (fun a14 => (q12.1).bind fun a20 => (wrV g q12.2 a20 [(12, 9)] (.ref a14)).bind fun h22 => (wrV g h22 a14 [(12, 5)] (.ref a20)).bind fun h24 => x_J1_treeifyBin_78 g N (fun h x0 r1 x2 x3 x4 r5 r6 r7 => x_J1_treeifyBin_43 g N K93 n9 h x0 r1 x2 x3 x4 r5 r6 r7) K93 h24 x0 r1 x2 x3 x4 r5 r6 (some a14) (some a20))) else none
theorem p_x_J1_treeifyBin_43 (g : AG) (hst : (gL g).stackTraces = false) (N : Nat) (K93 : AH → Nat → Option Nat → Int32 → Int32 → Int32 → Option Nat → Option Nat → Option Nat → Option Nat → Option AH) (hK93 : ∀ (h : AH) (x0 : Nat) (r1 : Option Nat) (x2 : Int32) (x3 : Int32) (x4 : Int32) (r5 : Option Nat) (r6 : Option Nat) (r7 : Option Nat) (r8 : Option Nat) (q : AH), K93 h x0 r1 x2 x3 x4 r5 r6 r7 r8 = some q → AW g YJ1_treeifyBin 13 (xV q) h [some (.ref x0), some (va_rf r1), some (.int x2), some (.int x3), some (.int x4), some (va_rf r5), some (va_rf r6), some (va_rf r7), some (va_rf r8)] 93 []) : ∀ (n9 : Nat) (h : AH) (x0 : Nat) (r1 : Option Nat) (x2 : Int32) (x3 : Int32) (x4 : Int32) (r5 : Option Nat) (r6 : Option Nat) (r7 : Option Nat) (q : AH), x_J1_treeifyBin_43 g N K93 n9 h x0 r1 x2 x3 x4 r5 r6 r7 = some q → AW g YJ1_treeifyBin 13 (xV q) h [some (.ref x0), some (va_rf r1), some (.int x2), some (.int x3), some (.int x4), some (va_rf r5), some (va_rf r6), some (va_rf r7), none] 43 [] := by
  intro n9
  induction n9 with
  | zero =>
    intro h x0 r1 x2 x3 x4 r5 r6 r7 q hq
    cases hq
  | succ n9 ih =>
    intro h x0 r1 x2 x3 x4 r5 r6 r7 q hq
    rw [x_J1_treeifyBin_43] at hq
    refine aw_aload_n (i := 0) dJ1_treeifyBin_43 rfl rfl trivial ?_
    refine aw_aload dJ1_treeifyBin_44 rfl (aIsR_rf _) ?_
    refine aw_null dJ1_treeifyBin_46 ?_
    replace hq := cond_t hq
    obtain ⟨z11, hq⟩ := hq
    obtain ⟨fs9, ha9⟩ := clB1 z11
    replace hq := obind hq
    obtain ⟨q12, e13, hq⟩ := hq
    refine aw_callV (Y2 := YJ1_replacementTreeNode) (As := [va_rf r5, .null]) (rest := []) (r := (RJ1, TJ1, 8)) kJ1_replacementTreeNode ha9 rfl rfl q1655 q1656 q1657 dJ1_treeifyBin_47 rfl rfl (ct_J1_replacementTreeNode g hst N h x0 r5 (none) _ e13) (Nat.le_of_ble_eq_true rfl) (Nat.le_of_ble_eq_true rfl) (fun v9 h9 z9 y9 => ?_)
    obtain ⟨rfl, rfl⟩ := y9
    refine aw_st (st' := [va_rf q12.1]) rfl ?_
    refine aw_astore (loc' := [some (.ref x0), some (va_rf r1), some (.int x2), some (.int x3), some (.int x4), some (va_rf r5), some (va_rf r6), some (va_rf r7), some (va_rf q12.1)]) dJ1_treeifyBin_50 (Nat.le_of_ble_eq_true rfl) (aIsR_rf _) (aset1_rf rfl) ?_
    refine aw_aload dJ1_treeifyBin_52 rfl (aIsR_rf _) ?_
    rcases r7 with _ | a14
    · replace hq := ocase_n hq
      refine xw_ifnonN (tgt := 64) dJ1_treeifyBin_54 (by decide) ?_
      refine aw_aload dJ1_treeifyBin_57 rfl (aIsR_rf _) ?_
      refine aw_astore (loc' := [some (.ref x0), some (va_rf r1), some (.int x2), some (.int x3), some (.int x4), some (va_rf r5), some (va_rf q12.1), some (.null), some (va_rf q12.1)]) dJ1_treeifyBin_59 (Nat.le_of_ble_eq_true rfl) (aIsR_rf _) (aset1_rf rfl) ?_
      refine aw_goto (tgt := 78) dJ1_treeifyBin_61 (by decide) ?_
      exact p_x_J1_treeifyBin_78 g hst N _ _ ih hK93 q12.2 x0 r1 x2 x3 x4 r5 q12.1 (none) q12.1 _ hq
    · replace hq := ocase_s hq
      refine xw_ifnonS (tgt := 64) dJ1_treeifyBin_54 (by decide) ?_
      refine aw_aload dJ1_treeifyBin_64 rfl (aIsR_rf _) ?_
      refine aw_aload dJ1_treeifyBin_66 rfl trivial ?_
      replace hq := obind hq
      obtain ⟨a20, e21, hq⟩ := hq
      rw [e21]
      replace hq := obind hq
      obtain ⟨h22, e23, hq⟩ := hq
      refine xw_put e23 fJ1_219 tJ29_9 (fits_rf _ (some a14)) dJ1_treeifyBin_68 ?_
      refine aw_aload dJ1_treeifyBin_71 rfl trivial ?_
      refine aw_aload dJ1_treeifyBin_73 rfl trivial ?_
      replace hq := obind hq
      obtain ⟨h24, e25, hq⟩ := hq
      refine xw_put e25 fJ1_223 tJ29_5 (fits_rf _ (some a20)) dJ1_treeifyBin_75 ?_
      exact p_x_J1_treeifyBin_78 g hst N _ _ ih hK93 h24 x0 r1 x2 x3 x4 r5 r6 (some a14) (some a20) _ hq
def x_J1_treeifyBin (g : AG) (N : Nat) (h : AH) (x0 : Nat) (r1 : Option Nat) (x2 : Int32) : Option AH :=
  ocase r1 (x_J1_treeifyBin_13 g N  h x0 (none) x2) (fun a1 => (rdN h a1).bind fun i5 => if (64 : Int32) ≤ i5 then ((rdQ h a1 ((i5 - (1 : Int32)) &&& x2)).bind fun o8 => ocase o8 (some h) (fun a10 => x_J1_treeifyBin_43 g N (fun h x0 r1 x2 x3 x4 r5 r6 r7 r8 => (r1).bind fun a26 => (wrQ g h a26 x4 r6).bind fun h28 => ocase r6 (some h28) (fun a30 => bif clB h28 a30 [12] then ((x_J29_treeify g N h28 a30 (some a26)).bind fun q32 => some q32) else none)) N h x0 (some a1) x2 i5 ((i5 - (1 : Int32)) &&& x2) (some a10) (none) (none))) else (x_J1_treeifyBin_13 g N  h x0 (some a1) x2))
theorem ct_J1_treeifyBin (g : AG) (hst : (gL g).stackTraces = false) (N : Nat) : ∀ (h : AH) (x0 : Nat) (r1 : Option Nat) (x2 : Int32) (q : AH), x_J1_treeifyBin g N h x0 r1 x2 = some q → CT g YJ1_treeifyBin 13 [.ref x0, va_rf r1, .int x2] h (xV q) := by
  intro h x0 r1 x2 q hq
  refine CT.of rfl (by decide +kernel) (loc := [some (.ref x0), some (va_rf r1), some (.int x2), none, none, none, none, none, none]) (by first | exact Nat.le_of_ble_eq_true rfl | (simp only [lgl_rf, lgl_i, lgl_j, lgl_ref, lgl_nil]; exact Nat.le_of_ble_eq_true rfl)) (by first | rfl | (simp only [aent_rf, aent_i, aent_j, aent_ref, aent_nil]; rfl)) ?_
  unfold x_J1_treeifyBin at hq
  refine aw_aload_n (i := 1) dJ1_treeifyBin_0 rfl rfl (aIsR_rf _) ?_
  rcases r1 with _ | a1
  · replace hq := ocase_n hq
    refine xw_ifnullN (tgt := 13) dJ1_treeifyBin_1 (by decide) ?_
    exact p_x_J1_treeifyBin_13 g hst N   h x0 (none) x2 _ hq
  · replace hq := ocase_s hq
    refine xw_ifnullS (tgt := 13) dJ1_treeifyBin_1 (by decide) ?_
    refine aw_aload_n (i := 1) dJ1_treeifyBin_4 rfl rfl trivial ?_
    replace hq := obind hq
    obtain ⟨i5, e6, hq⟩ := hq
    refine xw_alen e6 dJ1_treeifyBin_5 ?_
    refine aw_dup dJ1_treeifyBin_6 rfl ?_
    refine aw_istore_n (i := 3) (loc' := [some (.ref x0), some (.ref a1), some (.int x2), some (.int i5), none, none, none, none, none]) dJ1_treeifyBin_7 rfl (Nat.le_of_ble_eq_true rfl) rfl ?_
    refine aw_bipush (v := 64) dJ1_treeifyBin_8 (by decide) ?_
    refine aw_icmp_ge (tgt := 21) dJ1_treeifyBin_10 (by decide) (fun c7 => ?_) (fun c7 => ?_)
    · rw [if_pos c7] at hq
      refine aw_aload_n (i := 1) dJ1_treeifyBin_21 rfl rfl trivial ?_
      refine aw_iload_n (i := 3) dJ1_treeifyBin_22 rfl rfl ?_
      refine aw_iconst (v := 1) dJ1_treeifyBin_23 (by decide) ?_
      refine aw_isub dJ1_treeifyBin_24 ?_
      refine aw_iload_n (i := 2) dJ1_treeifyBin_25 rfl rfl ?_
      refine aw_iand dJ1_treeifyBin_26 ?_
      refine aw_dup dJ1_treeifyBin_27 rfl ?_
      refine aw_istore (loc' := [some (.ref x0), some (.ref a1), some (.int x2), some (.int i5), some (.int ((i5 - (1 : Int32)) &&& x2)), none, none, none, none]) dJ1_treeifyBin_28 (Nat.le_of_ble_eq_true rfl) rfl ?_
      replace hq := obind hq
      obtain ⟨o8, e9, hq⟩ := hq
      refine xw_aald e9 dJ1_treeifyBin_30 ?_
      refine aw_dup dJ1_treeifyBin_31 (cat_rf _) ?_
      refine aw_astore (loc' := [some (.ref x0), some (.ref a1), some (.int x2), some (.int i5), some (.int ((i5 - (1 : Int32)) &&& x2)), some (va_rf o8), none, none, none]) dJ1_treeifyBin_32 (Nat.le_of_ble_eq_true rfl) (aIsR_rf _) rfl ?_
      rcases o8 with _ | a10
      · replace hq := ocase_n hq
        refine xw_ifnullN (tgt := 109) dJ1_treeifyBin_34 (by decide) ?_
        cases hq
        exact aw_vret dJ1_treeifyBin_109 rfl ⟨rfl, rfl⟩
      · replace hq := ocase_s hq
        refine xw_ifnullS (tgt := 109) dJ1_treeifyBin_34 (by decide) ?_
        refine aw_null dJ1_treeifyBin_37 ?_
        refine aw_astore (loc' := [some (.ref x0), some (.ref a1), some (.int x2), some (.int i5), some (.int ((i5 - (1 : Int32)) &&& x2)), some (.ref a10), some (.null), none, none]) dJ1_treeifyBin_38 (Nat.le_of_ble_eq_true rfl) trivial rfl ?_
        refine aw_null dJ1_treeifyBin_40 ?_
        refine aw_astore (loc' := [some (.ref x0), some (.ref a1), some (.int x2), some (.int i5), some (.int ((i5 - (1 : Int32)) &&& x2)), some (.ref a10), some (.null), some (.null), none]) dJ1_treeifyBin_41 (Nat.le_of_ble_eq_true rfl) trivial rfl ?_
        refine p_x_J1_treeifyBin_43 g hst N _ ?_ N h x0 (some a1) x2 i5 ((i5 - (1 : Int32)) &&& x2) (some a10) (none) (none) _ hq
        · intro h x0 r1 x2 x3 x4 r5 r6 r7 r8 q hq
          refine aw_aload_n (i := 1) dJ1_treeifyBin_93 rfl rfl (aIsR_rf _) ?_
          refine aw_iload dJ1_treeifyBin_94 rfl ?_
          refine aw_aload dJ1_treeifyBin_96 rfl (aIsR_rf _) ?_
          refine aw_dup_x2 dJ1_treeifyBin_98 (cat_rf _) rfl (cat_rf _) ?_
          replace hq := obind hq
          obtain ⟨a26, e27, hq⟩ := hq
          subst e27
          replace hq := obind hq
          obtain ⟨h28, e29, hq⟩ := hq
          refine xw_aast (v := r6) e29 dJ1_treeifyBin_99 ?_
          rcases r6 with _ | a30
          · replace hq := ocase_n hq
            refine xw_ifnullN (tgt := 109) dJ1_treeifyBin_100 (by decide) ?_
            cases hq
            exact aw_vret dJ1_treeifyBin_109 rfl ⟨rfl, rfl⟩
          · replace hq := ocase_s hq
            refine xw_ifnullS (tgt := 109) dJ1_treeifyBin_100 (by decide) ?_
            refine aw_aload dJ1_treeifyBin_103 rfl trivial ?_
            refine aw_aload_n (i := 1) dJ1_treeifyBin_105 rfl rfl trivial ?_
            replace hq := cond_t hq
            obtain ⟨z31, hq⟩ := hq
            obtain ⟨fs9, ha9⟩ := clB1 z31
            replace hq := obind hq
            obtain ⟨q32, e33, hq⟩ := hq
            refine aw_callV (Y2 := YJ29_treeify) (As := [.ref a26]) (rest := []) (r := (RJ29, TJ29, 11)) kJ29_treeify ha9 rfl rfl q1659 q1589 q1590 dJ1_treeifyBin_106 rfl rfl (ct_J29_treeify g hst N h28 a30 (some a26) _ e33) (Nat.le_of_ble_eq_true rfl) (Nat.le_of_ble_eq_true rfl) (fun v9 h9 z9 y9 => ?_)
            obtain ⟨rfl, y9⟩ := y9
            rw [y9]
            refine aw_st (st' := []) rfl ?_
            cases hq
            exact aw_vret dJ1_treeifyBin_109 rfl ⟨rfl, rfl⟩
    · rw [if_neg c7] at hq
      refine aw_subl (loc' := [some (.ref x0), some (.ref a1), some (.int x2), none, none, none, none, none, none]) ⟨Or.inr rfl, Or.inr rfl, Or.inr rfl, Or.inl rfl, Or.inl rfl, Or.inl rfl, Or.inl rfl, Or.inl rfl, Or.inl rfl, trivial⟩ ?_
      exact p_x_J1_treeifyBin_13 g hst N   h x0 (some a1) x2 _ hq
