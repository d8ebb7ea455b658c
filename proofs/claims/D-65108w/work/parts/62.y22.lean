/-! THE COMPONENT AND THE JDK as functions of the heap, and their contracts: printed by wip gen/dec2.py -/
set_option maxRecDepth 100000
theorem fJ5_58 : ∀ q ∈ ([(15, 1)] : List (Nat × Nat)), aFl RJ5 58 q.1 q.2 := by
  intro q hq
  simp only [List.mem_cons, List.not_mem_nil, or_false] at hq
  subst hq
  exact aFl.of (RJ30, TJ30, 6) rfl (Nat.le_of_ble_eq_true rfl) q1694
abbrev YJ5_deleteEntry : YC := (yJ5_deleteEntry, cJ5_deleteEntry, 3, none, [])
theorem kJ5_deleteEntry : aMk YJ5_deleteEntry 1 := ⟨rfl, q1815, q124, ⟨by decide +kernel, by decide +kernel, by decide +kernel⟩, Nat.le_of_ble_eq_true rfl⟩
def x_J5_deleteEntry_240 (g : AG) (N : Nat) (h : AH) (x0 : Nat) (r1 : Option Nat) (r2 : Option Nat) : Option AH :=
  (r1).bind fun a51 => (wrV g h a51 [(15, 4)] (.null)).bind fun h53 => some h53
theorem p_x_J5_deleteEntry_240 (g : AG) (hst : (gL g).stackTraces = false) (N : Nat) : ∀ (h : AH) (x0 : Nat) (r1 : Option Nat) (r2 : Option Nat) (q : AH), x_J5_deleteEntry_240 g N h x0 r1 r2 = some q → AW g YJ5_deleteEntry 3 (xV q) h [some (.ref x0), some (va_rf r1), some (va_rf r2)] 240 [] := by
  intro h x0 r1 r2 q hq
  unfold x_J5_deleteEntry_240 at hq
  refine aw_aload_n (i := 1) dJ5_deleteEntry_240 rfl rfl (aIsR_rf _) ?_
  refine aw_null dJ5_deleteEntry_241 ?_
  replace hq := obind hq
  obtain ⟨a51, e52, hq⟩ := hq
  subst e52
  replace hq := obind hq
  obtain ⟨h53, e54, hq⟩ := hq
  refine xw_put e54 fJ5_124 tJ30_4 (fits_rf _ (none)) dJ5_deleteEntry_242 ?_
  cases hq
  exact aw_vret dJ5_deleteEntry_245 rfl ⟨rfl, rfl⟩
def x_J5_deleteEntry_192 (g : AG) (N : Nat) (h : AH) (x0 : Nat) (r1 : Option Nat) (r2 : Option Nat) : Option AH :=
  (r1).bind fun a32 => (rdR h a32 [(15, 4)]).bind fun o34 => ocase o34 (some h) (fun a36 => (rdR h a32 [(15, 4)]).bind fun o37 => (o37).bind fun a39 => (rdR h a39 [(15, 2)]).bind fun o41 => if (some a32) = o41 then ((rdR h a32 [(15, 4)]).bind fun o61 => (o61).bind fun a63 => (wrV g h a63 [(15, 2)] (.null)).bind fun h65 => x_J5_deleteEntry_240 g N  h65 x0 (some a32) r2) else ((rdR h a32 [(15, 4)]).bind fun o44 => (o44).bind fun a46 => (rdR h a46 [(15, 3)]).bind fun o48 => if (some a32) = o48 then ((rdR h a32 [(15, 4)]).bind fun o55 => (o55).bind fun a57 => (wrV g h a57 [(15, 3)] (.null)).bind fun h59 => x_J5_deleteEntry_240 g N  h59 x0 (some a32) r2) else (x_J5_deleteEntry_240 g N  h x0 (some a32) r2)))
theorem p_x_J5_deleteEntry_192 (g : AG) (hst : (gL g).stackTraces = false) (N : Nat) : ∀ (h : AH) (x0 : Nat) (r1 : Option Nat) (r2 : Option Nat) (q : AH), x_J5_deleteEntry_192 g N h x0 r1 r2 = some q → AW g YJ5_deleteEntry 3 (xV q) h [some (.ref x0), some (va_rf r1), some (va_rf r2)] 192 [] := by
  intro h x0 r1 r2 q hq
  unfold x_J5_deleteEntry_192 at hq
  refine aw_aload_n (i := 1) dJ5_deleteEntry_192 rfl rfl (aIsR_rf _) ?_
  replace hq := obind hq
  obtain ⟨a32, e33, hq⟩ := hq
  subst e33
  replace hq := obind hq
  obtain ⟨o34, e35, hq⟩ := hq
  refine xw_getR e35 fJ5_124 dJ5_deleteEntry_193 ?_
  rcases o34 with _ | a36
  · replace hq := ocase_n hq
    refine xw_ifnullN (tgt := 245) dJ5_deleteEntry_196 (by decide) ?_
    cases hq
    exact aw_vret dJ5_deleteEntry_245 rfl ⟨rfl, rfl⟩
  · replace hq := ocase_s hq
    refine xw_ifnullS (tgt := 245) dJ5_deleteEntry_196 (by decide) ?_
    refine aw_aload_n (i := 1) dJ5_deleteEntry_199 rfl rfl trivial ?_
    refine aw_aload_n (i := 1) dJ5_deleteEntry_200 rfl rfl trivial ?_
    replace hq := obind hq
    obtain ⟨o37, e38, hq⟩ := hq
    refine xw_getR e38 fJ5_124 dJ5_deleteEntry_201 ?_
    replace hq := obind hq
    obtain ⟨a39, e40, hq⟩ := hq
    subst e40
    replace hq := obind hq
    obtain ⟨o41, e42, hq⟩ := hq
    refine xw_getR e42 fJ5_111 dJ5_deleteEntry_204 ?_
    refine xw_acmp_ne (v := (some a32)) (w := o41) (tgt := 221) dJ5_deleteEntry_207 (by decide) (fun c43 => ?_) (fun c43 => ?_)
    · rw [if_neg c43] at hq
      refine aw_aload_n (i := 1) dJ5_deleteEntry_221 rfl rfl trivial ?_
      refine aw_aload_n (i := 1) dJ5_deleteEntry_222 rfl rfl trivial ?_
      replace hq := obind hq
      obtain ⟨o44, e45, hq⟩ := hq
      refine xw_getR e45 fJ5_124 dJ5_deleteEntry_223 ?_
      replace hq := obind hq
      obtain ⟨a46, e47, hq⟩ := hq
      subst e47
      replace hq := obind hq
      obtain ⟨o48, e49, hq⟩ := hq
      refine xw_getR e49 fJ5_114 dJ5_deleteEntry_226 ?_
      refine xw_acmp_ne (v := (some a32)) (w := o48) (tgt := 240) dJ5_deleteEntry_229 (by decide) (fun c50 => ?_) (fun c50 => ?_)
      · rw [if_neg c50] at hq
        exact p_x_J5_deleteEntry_240 g hst N   h x0 (some a32) r2 _ hq
      · rw [if_pos c50] at hq
        refine aw_aload_n (i := 1) dJ5_deleteEntry_232 rfl rfl trivial ?_
        replace hq := obind hq
        obtain ⟨o55, e56, hq⟩ := hq
        refine xw_getR e56 fJ5_124 dJ5_deleteEntry_233 ?_
        refine aw_null dJ5_deleteEntry_236 ?_
        replace hq := obind hq
        obtain ⟨a57, e58, hq⟩ := hq
        subst e58
        replace hq := obind hq
        obtain ⟨h59, e60, hq⟩ := hq
        refine xw_put e60 fJ5_114 tJ30_3 (fits_rf _ (none)) dJ5_deleteEntry_237 ?_
        exact p_x_J5_deleteEntry_240 g hst N   h59 x0 (some a32) r2 _ hq
    · rw [if_pos c43] at hq
      refine aw_aload_n (i := 1) dJ5_deleteEntry_210 rfl rfl trivial ?_
      replace hq := obind hq
      obtain ⟨o61, e62, hq⟩ := hq
      refine xw_getR e62 fJ5_124 dJ5_deleteEntry_211 ?_
      refine aw_null dJ5_deleteEntry_214 ?_
      replace hq := obind hq
      obtain ⟨a63, e64, hq⟩ := hq
      subst e64
      replace hq := obind hq
      obtain ⟨h65, e66, hq⟩ := hq
      refine xw_put e66 fJ5_111 tJ30_2 (fits_rf _ (none)) dJ5_deleteEntry_215 ?_
      refine aw_goto (tgt := 240) dJ5_deleteEntry_218 (by decide) ?_
      exact p_x_J5_deleteEntry_240 g hst N   h65 x0 (some a32) r2 _ hq
def x_J5_deleteEntry_133 (g : AG) (N : Nat) (h : AH) (x0 : Nat) (r1 : Option Nat) (r2 : Option Nat) : Option AH :=
  (r1).bind fun a81 => (wrV g h a81 [(15, 4)] (.null)).bind fun h83 => (wrV g h83 a81 [(15, 3)] (.null)).bind fun h85 => (wrV g h85 a81 [(15, 2)] (.null)).bind fun h87 => (rdI h87 a81 [(15, 5)]).bind fun i89 => if i89 = (1 : Int32) then (bif clB h87 x0 [14] then ((x_J5_fixAfterDeletion g N h87 x0 r2).bind fun q93 => some q93) else none) else (some h87)
theorem p_x_J5_deleteEntry_133 (g : AG) (hst : (gL g).stackTraces = false) (N : Nat) : ∀ (h : AH) (x0 : Nat) (r1 : Option Nat) (r2 : Option Nat) (q : AH), x_J5_deleteEntry_133 g N h x0 r1 r2 = some q → AW g YJ5_deleteEntry 3 (xV q) h [some (.ref x0), some (va_rf r1), some (va_rf r2)] 133 [] := by
  intro h x0 r1 r2 q hq
  unfold x_J5_deleteEntry_133 at hq
  refine aw_aload_n (i := 1) dJ5_deleteEntry_133 rfl rfl (aIsR_rf _) ?_
  refine aw_aload_n (i := 1) dJ5_deleteEntry_134 rfl rfl (aIsR_rf _) ?_
  refine aw_aload_n (i := 1) dJ5_deleteEntry_135 rfl rfl (aIsR_rf _) ?_
  refine aw_null dJ5_deleteEntry_136 ?_
  refine aw_dup_x1 dJ5_deleteEntry_137 rfl (cat_rf _) ?_
  replace hq := obind hq
  obtain ⟨a81, e82, hq⟩ := hq
  subst e82
  replace hq := obind hq
  obtain ⟨h83, e84, hq⟩ := hq
  refine xw_put e84 fJ5_124 tJ30_4 (fits_rf _ (none)) dJ5_deleteEntry_138 ?_
  refine aw_dup_x1 dJ5_deleteEntry_141 rfl rfl ?_
  replace hq := obind hq
  obtain ⟨h85, e86, hq⟩ := hq
  refine xw_put e86 fJ5_114 tJ30_3 (fits_rf _ (none)) dJ5_deleteEntry_142 ?_
  replace hq := obind hq
  obtain ⟨h87, e88, hq⟩ := hq
  refine xw_put e88 fJ5_111 tJ30_2 (fits_rf _ (none)) dJ5_deleteEntry_145 ?_
  refine aw_aload_n (i := 1) dJ5_deleteEntry_148 rfl rfl trivial ?_
  replace hq := obind hq
  obtain ⟨i89, e90, hq⟩ := hq
  refine xw_getI e90 fJ5_290 dJ5_deleteEntry_149 ?_
  refine aw_iconst (v := 1) dJ5_deleteEntry_152 (by decide) ?_
  refine aw_icmp_ne (tgt := 245) dJ5_deleteEntry_153 (by decide) (fun c91 => ?_) (fun c91 => ?_)
  · rw [if_neg c91] at hq
    cases hq
    exact aw_vret dJ5_deleteEntry_245 rfl ⟨rfl, rfl⟩
  · rw [if_pos c91] at hq
    refine aw_aload_n (i := 0) dJ5_deleteEntry_156 rfl rfl trivial ?_
    refine aw_aload_n (i := 2) dJ5_deleteEntry_157 rfl rfl (aIsR_rf _) ?_
    replace hq := cond_t hq
    obtain ⟨z92, hq⟩ := hq
    obtain ⟨fs9, ha9⟩ := clB1 z92
    replace hq := obind hq
    obtain ⟨q93, e94, hq⟩ := hq
    refine aw_callV (Y2 := YJ5_fixAfterDeletion) (As := [va_rf r2]) (rest := []) (r := (RJ5, TJ5, 9)) kJ5_fixAfterDeletion ha9 rfl rfl q1819 q1821 qs36 dJ5_deleteEntry_158 rfl rfl (ct_J5_fixAfterDeletion g hst N h87 x0 r2 _ e94) (Nat.le_of_ble_eq_true rfl) (Nat.le_of_ble_eq_true rfl) (fun v9 h9 z9 y9 => ?_)
    obtain ⟨rfl, y9⟩ := y9
    rw [y9]
    refine aw_st (st' := []) rfl ?_
    refine aw_goto (tgt := 245) dJ5_deleteEntry_161 (by decide) ?_
    cases hq
    exact aw_vret dJ5_deleteEntry_245 rfl ⟨rfl, rfl⟩
def x_J5_deleteEntry_75 (g : AG) (N : Nat) (h : AH) (x0 : Nat) (r1 : Option Nat) (t0 : Option Nat) : Option AH :=
  ocase t0 ((r1).bind fun a22 => (rdR h a22 [(15, 4)]).bind fun o24 => ocase o24 ((wrV g h x0 [(14, 3)] (.null)).bind fun h27 => some h27) (fun a26 => (rdI h a22 [(15, 5)]).bind fun i29 => if i29 = (1 : Int32) then (bif clB h x0 [14] then ((x_J5_fixAfterDeletion g N h x0 (some a22)).bind fun q68 => x_J5_deleteEntry_192 g N  q68 x0 (some a22) (none)) else none) else (x_J5_deleteEntry_192 g N  h x0 (some a22) (none)))) (fun a21 => (r1).bind fun a70 => (rdR h a70 [(15, 4)]).bind fun o72 => (wrV g h a21 [(15, 4)] (va_rf o72)).bind fun h74 => (rdR h74 a70 [(15, 4)]).bind fun o76 => ocase o76 ((wrV g h74 x0 [(14, 3)] (.ref a21)).bind fun h79 => x_J5_deleteEntry_133 g N  h79 x0 (some a70) (some a21)) (fun a78 => (rdR h74 a70 [(15, 4)]).bind fun o95 => (o95).bind fun a97 => (rdR h74 a97 [(15, 2)]).bind fun o99 => if (some a70) = o99 then ((rdR h74 a70 [(15, 4)]).bind fun o108 => (o108).bind fun a110 => (wrV g h74 a110 [(15, 2)] (.ref a21)).bind fun h112 => x_J5_deleteEntry_133 g N  h112 x0 (some a70) (some a21)) else ((rdR h74 a70 [(15, 4)]).bind fun o102 => (o102).bind fun a104 => (wrV g h74 a104 [(15, 3)] (.ref a21)).bind fun h106 => x_J5_deleteEntry_133 g N  h106 x0 (some a70) (some a21))))
theorem p_x_J5_deleteEntry_75 (g : AG) (hst : (gL g).stackTraces = false) (N : Nat) : ∀ (h : AH) (x0 : Nat) (r1 : Option Nat) (t0 : Option Nat) (q : AH), x_J5_deleteEntry_75 g N h x0 r1 t0 = some q → AW g YJ5_deleteEntry 3 (xV q) h [some (.ref x0), some (va_rf r1), none] 75 [va_rf t0] := by
  intro h x0 r1 t0 q hq
  unfold x_J5_deleteEntry_75 at hq
  refine aw_astore_n (i := 2) (loc' := [some (.ref x0), some (va_rf r1), some (va_rf t0)]) dJ5_deleteEntry_75 rfl (Nat.le_of_ble_eq_true rfl) (aIsR_rf _) (aset1_rf rfl) ?_
  refine aw_aload_n (i := 2) dJ5_deleteEntry_76 rfl rfl (aIsR_rf _) ?_
  rcases t0 with _ | a21
  · replace hq := ocase_n hq
    refine xw_ifnullN (tgt := 164) dJ5_deleteEntry_77 (by decide) ?_
    refine aw_aload_n (i := 1) dJ5_deleteEntry_164 rfl rfl (aIsR_rf _) ?_
    replace hq := obind hq
    obtain ⟨a22, e23, hq⟩ := hq
    subst e23
    replace hq := obind hq
    obtain ⟨o24, e25, hq⟩ := hq
    refine xw_getR e25 fJ5_124 dJ5_deleteEntry_165 ?_
    rcases o24 with _ | a26
    · replace hq := ocase_n hq
      refine xw_ifnonN (tgt := 179) dJ5_deleteEntry_168 (by decide) ?_
      refine aw_aload_n (i := 0) dJ5_deleteEntry_171 rfl rfl trivial ?_
      refine aw_null dJ5_deleteEntry_172 ?_
      replace hq := obind hq
      obtain ⟨h27, e28, hq⟩ := hq
      refine xw_put e28 fJ5_101 tJ5_3 (fits_rf _ (none)) dJ5_deleteEntry_173 ?_
      refine aw_goto (tgt := 245) dJ5_deleteEntry_176 (by decide) ?_
      cases hq
      exact aw_vret dJ5_deleteEntry_245 rfl ⟨rfl, rfl⟩
    · replace hq := ocase_s hq
      refine xw_ifnonS (tgt := 179) dJ5_deleteEntry_168 (by decide) ?_
      refine aw_aload_n (i := 1) dJ5_deleteEntry_179 rfl rfl trivial ?_
      replace hq := obind hq
      obtain ⟨i29, e30, hq⟩ := hq
      refine xw_getI e30 fJ5_290 dJ5_deleteEntry_180 ?_
      refine aw_iconst (v := 1) dJ5_deleteEntry_183 (by decide) ?_
      refine aw_icmp_ne (tgt := 192) dJ5_deleteEntry_184 (by decide) (fun c31 => ?_) (fun c31 => ?_)
      · rw [if_neg c31] at hq
        exact p_x_J5_deleteEntry_192 g hst N   h x0 (some a22) (none) _ hq
      · rw [if_pos c31] at hq
        refine aw_aload_n (i := 0) dJ5_deleteEntry_187 rfl rfl trivial ?_
        refine aw_aload_n (i := 1) dJ5_deleteEntry_188 rfl rfl trivial ?_
        replace hq := cond_t hq
        obtain ⟨z67, hq⟩ := hq
        obtain ⟨fs9, ha9⟩ := clB1 z67
        replace hq := obind hq
        obtain ⟨q68, e69, hq⟩ := hq
        refine aw_callV (Y2 := YJ5_fixAfterDeletion) (As := [.ref a22]) (rest := []) (r := (RJ5, TJ5, 9)) kJ5_fixAfterDeletion ha9 rfl rfl q1819 q1821 qs36 dJ5_deleteEntry_189 rfl rfl (ct_J5_fixAfterDeletion g hst N h x0 (some a22) _ e69) (Nat.le_of_ble_eq_true rfl) (Nat.le_of_ble_eq_true rfl) (fun v9 h9 z9 y9 => ?_)
        obtain ⟨rfl, y9⟩ := y9
        rw [y9]
        refine aw_st (st' := []) rfl ?_
        exact p_x_J5_deleteEntry_192 g hst N   q68 x0 (some a22) (none) _ hq
  · replace hq := ocase_s hq
    refine xw_ifnullS (tgt := 164) dJ5_deleteEntry_77 (by decide) ?_
    refine aw_aload_n (i := 2) dJ5_deleteEntry_80 rfl rfl trivial ?_
    refine aw_aload_n (i := 1) dJ5_deleteEntry_81 rfl rfl (aIsR_rf _) ?_
    replace hq := obind hq
    obtain ⟨a70, e71, hq⟩ := hq
    subst e71
    replace hq := obind hq
    obtain ⟨o72, e73, hq⟩ := hq
    refine xw_getR e73 fJ5_124 dJ5_deleteEntry_82 ?_
    replace hq := obind hq
    obtain ⟨h74, e75, hq⟩ := hq
    refine xw_put e75 fJ5_124 tJ30_4 (fits_rf _ o72) dJ5_deleteEntry_85 ?_
    refine aw_aload_n (i := 1) dJ5_deleteEntry_88 rfl rfl trivial ?_
    replace hq := obind hq
    obtain ⟨o76, e77, hq⟩ := hq
    refine xw_getR e77 fJ5_124 dJ5_deleteEntry_89 ?_
    rcases o76 with _ | a78
    · replace hq := ocase_n hq
      refine xw_ifnonN (tgt := 103) dJ5_deleteEntry_92 (by decide) ?_
      refine aw_aload_n (i := 0) dJ5_deleteEntry_95 rfl rfl trivial ?_
      refine aw_aload_n (i := 2) dJ5_deleteEntry_96 rfl rfl trivial ?_
      replace hq := obind hq
      obtain ⟨h79, e80, hq⟩ := hq
      refine xw_put e80 fJ5_101 tJ5_3 (fits_rf _ (some a21)) dJ5_deleteEntry_97 ?_
      refine aw_goto (tgt := 133) dJ5_deleteEntry_100 (by decide) ?_
      exact p_x_J5_deleteEntry_133 g hst N   h79 x0 (some a70) (some a21) _ hq
    · replace hq := ocase_s hq
      refine xw_ifnonS (tgt := 103) dJ5_deleteEntry_92 (by decide) ?_
      refine aw_aload_n (i := 1) dJ5_deleteEntry_103 rfl rfl trivial ?_
      refine aw_aload_n (i := 1) dJ5_deleteEntry_104 rfl rfl trivial ?_
      replace hq := obind hq
      obtain ⟨o95, e96, hq⟩ := hq
      refine xw_getR e96 fJ5_124 dJ5_deleteEntry_105 ?_
      replace hq := obind hq
      obtain ⟨a97, e98, hq⟩ := hq
      subst e98
      replace hq := obind hq
      obtain ⟨o99, e100, hq⟩ := hq
      refine xw_getR e100 fJ5_111 dJ5_deleteEntry_108 ?_
      refine xw_acmp_ne (v := (some a70)) (w := o99) (tgt := 125) dJ5_deleteEntry_111 (by decide) (fun c101 => ?_) (fun c101 => ?_)
      · rw [if_neg c101] at hq
        refine aw_aload_n (i := 1) dJ5_deleteEntry_125 rfl rfl trivial ?_
        replace hq := obind hq
        obtain ⟨o102, e103, hq⟩ := hq
        refine xw_getR e103 fJ5_124 dJ5_deleteEntry_126 ?_
        refine aw_aload_n (i := 2) dJ5_deleteEntry_129 rfl rfl trivial ?_
        replace hq := obind hq
        obtain ⟨a104, e105, hq⟩ := hq
        subst e105
        replace hq := obind hq
        obtain ⟨h106, e107, hq⟩ := hq
        refine xw_put e107 fJ5_114 tJ30_3 (fits_rf _ (some a21)) dJ5_deleteEntry_130 ?_
        exact p_x_J5_deleteEntry_133 g hst N   h106 x0 (some a70) (some a21) _ hq
      · rw [if_pos c101] at hq
        refine aw_aload_n (i := 1) dJ5_deleteEntry_114 rfl rfl trivial ?_
        replace hq := obind hq
        obtain ⟨o108, e109, hq⟩ := hq
        refine xw_getR e109 fJ5_124 dJ5_deleteEntry_115 ?_
        refine aw_aload_n (i := 2) dJ5_deleteEntry_118 rfl rfl trivial ?_
        replace hq := obind hq
        obtain ⟨a110, e111, hq⟩ := hq
        subst e111
        replace hq := obind hq
        obtain ⟨h112, e113, hq⟩ := hq
        refine xw_put e113 fJ5_111 tJ30_2 (fits_rf _ (some a21)) dJ5_deleteEntry_119 ?_
        refine aw_goto (tgt := 133) dJ5_deleteEntry_122 (by decide) ?_
        exact p_x_J5_deleteEntry_133 g hst N   h112 x0 (some a70) (some a21) _ hq
def x_J5_deleteEntry_57 (g : AG) (N : Nat) (h : AH) (x0 : Nat) (r1 : Option Nat) : Option AH :=
  (r1).bind fun a14 => (rdR h a14 [(15, 2)]).bind fun o16 => ocase o16 ((rdR h a14 [(15, 3)]).bind fun o19 => x_J5_deleteEntry_75 g N  h x0 (some a14) o19) (fun a18 => (rdR h a14 [(15, 2)]).bind fun o114 => x_J5_deleteEntry_75 g N  h x0 (some a14) o114)
theorem p_x_J5_deleteEntry_57 (g : AG) (hst : (gL g).stackTraces = false) (N : Nat) : ∀ (h : AH) (x0 : Nat) (r1 : Option Nat) (q : AH), x_J5_deleteEntry_57 g N h x0 r1 = some q → AW g YJ5_deleteEntry 3 (xV q) h [some (.ref x0), some (va_rf r1), none] 57 [] := by
  intro h x0 r1 q hq
  unfold x_J5_deleteEntry_57 at hq
  refine aw_aload_n (i := 1) dJ5_deleteEntry_57 rfl rfl (aIsR_rf _) ?_
  replace hq := obind hq
  obtain ⟨a14, e15, hq⟩ := hq
  subst e15
  replace hq := obind hq
  obtain ⟨o16, e17, hq⟩ := hq
  refine xw_getR e17 fJ5_111 dJ5_deleteEntry_58 ?_
  rcases o16 with _ | a18
  · replace hq := ocase_n hq
    refine xw_ifnullN (tgt := 71) dJ5_deleteEntry_61 (by decide) ?_
    refine aw_aload_n (i := 1) dJ5_deleteEntry_71 rfl rfl trivial ?_
    replace hq := obind hq
    obtain ⟨o19, e20, hq⟩ := hq
    refine xw_getR e20 fJ5_114 dJ5_deleteEntry_72 ?_
    exact p_x_J5_deleteEntry_75 g hst N   h x0 (some a14) o19 _ hq
  · replace hq := ocase_s hq
    refine xw_ifnullS (tgt := 71) dJ5_deleteEntry_61 (by decide) ?_
    refine aw_aload_n (i := 1) dJ5_deleteEntry_64 rfl rfl trivial ?_
    replace hq := obind hq
    obtain ⟨o114, e115, hq⟩ := hq
    refine xw_getR e115 fJ5_111 dJ5_deleteEntry_65 ?_
    refine aw_goto (tgt := 75) dJ5_deleteEntry_68 (by decide) ?_
    exact p_x_J5_deleteEntry_75 g hst N   h x0 (some a14) o114 _ hq
def x_J5_deleteEntry (g : AG) (N : Nat) (h : AH) (x0 : Nat) (r1 : Option Nat) : Option AH :=
  (rdI h x0 [(14, 5)]).bind fun i1 => (wrV g h x0 [(14, 5)] (.int (i1 + (1 : Int32)))).bind fun h3 => (rdI h3 x0 [(14, 4)]).bind fun i5 => (wrV g h3 x0 [(14, 4)] (.int (i5 - (1 : Int32)))).bind fun h7 => (r1).bind fun a9 => (rdR h7 a9 [(15, 2)]).bind fun o11 => ocase o11 (x_J5_deleteEntry_57 g N  h7 x0 (some a9)) (fun a13 => (rdR h7 a9 [(15, 3)]).bind fun o116 => ocase o116 (x_J5_deleteEntry_57 g N  h7 x0 (some a9)) (fun a118 => (x_J5_successor g N h7 (some a9)).bind fun q119 => (q119.1).bind fun a121 => (rdR q119.2 a121 [(15, 0)]).bind fun o123 => (wrV g q119.2 a9 [(15, 0)] (va_rf o123)).bind fun h125 => (rdR h125 a121 [(15, 1)]).bind fun o127 => (wrV g h125 a9 [(15, 1)] (va_rf o127)).bind fun h129 => x_J5_deleteEntry_57 g N  h129 x0 (some a121)))
theorem ct_J5_deleteEntry (g : AG) (hst : (gL g).stackTraces = false) (N : Nat) : ∀ (h : AH) (x0 : Nat) (r1 : Option Nat) (q : AH), x_J5_deleteEntry g N h x0 r1 = some q → CT g YJ5_deleteEntry 3 [.ref x0, va_rf r1] h (xV q) := by
  intro h x0 r1 q hq
  refine CT.of rfl (by decide +kernel) (loc := [some (.ref x0), some (va_rf r1), none]) (by first | exact Nat.le_of_ble_eq_true rfl | (simp only [lgl_rf, lgl_i, lgl_j, lgl_ref, lgl_nil]; exact Nat.le_of_ble_eq_true rfl)) (by first | rfl | (simp only [aent_rf, aent_i, aent_j, aent_ref, aent_nil]; rfl)) ?_
  unfold x_J5_deleteEntry at hq
  refine aw_aload_n (i := 0) dJ5_deleteEntry_0 rfl rfl trivial ?_
  refine aw_dup dJ5_deleteEntry_1 rfl ?_
  replace hq := obind hq
  obtain ⟨i1, e2, hq⟩ := hq
  refine xw_getI e2 fJ5_13 dJ5_deleteEntry_2 ?_
  refine aw_iconst (v := 1) dJ5_deleteEntry_5 (by decide) ?_
  refine aw_iadd dJ5_deleteEntry_6 ?_
  replace hq := obind hq
  obtain ⟨h3, e4, hq⟩ := hq
  refine xw_put e4 fJ5_13 tJ5_5 ⟨rfl, rfl⟩ dJ5_deleteEntry_7 ?_
  refine aw_aload_n (i := 0) dJ5_deleteEntry_10 rfl rfl trivial ?_
  refine aw_dup dJ5_deleteEntry_11 rfl ?_
  replace hq := obind hq
  obtain ⟨i5, e6, hq⟩ := hq
  refine xw_getI e6 fJ5_7 dJ5_deleteEntry_12 ?_
  refine aw_iconst (v := 1) dJ5_deleteEntry_15 (by decide) ?_
  refine aw_isub dJ5_deleteEntry_16 ?_
  replace hq := obind hq
  obtain ⟨h7, e8, hq⟩ := hq
  refine xw_put e8 fJ5_7 tJ5_4 ⟨rfl, rfl⟩ dJ5_deleteEntry_17 ?_
  refine aw_aload_n (i := 1) dJ5_deleteEntry_20 rfl rfl (aIsR_rf _) ?_
  replace hq := obind hq
  obtain ⟨a9, e10, hq⟩ := hq
  subst e10
  replace hq := obind hq
  obtain ⟨o11, e12, hq⟩ := hq
  refine xw_getR e12 fJ5_111 dJ5_deleteEntry_21 ?_
  rcases o11 with _ | a13
  · replace hq := ocase_n hq
    refine xw_ifnullN (tgt := 57) dJ5_deleteEntry_24 (by decide) ?_
    exact p_x_J5_deleteEntry_57 g hst N   h7 x0 (some a9) _ hq
  · replace hq := ocase_s hq
    refine xw_ifnullS (tgt := 57) dJ5_deleteEntry_24 (by decide) ?_
    refine aw_aload_n (i := 1) dJ5_deleteEntry_27 rfl rfl trivial ?_
    replace hq := obind hq
    obtain ⟨o116, e117, hq⟩ := hq
    refine xw_getR e117 fJ5_114 dJ5_deleteEntry_28 ?_
    rcases o116 with _ | a118
    · replace hq := ocase_n hq
      refine xw_ifnullN (tgt := 57) dJ5_deleteEntry_31 (by decide) ?_
      exact p_x_J5_deleteEntry_57 g hst N   h7 x0 (some a9) _ hq
    · replace hq := ocase_s hq
      refine xw_ifnullS (tgt := 57) dJ5_deleteEntry_31 (by decide) ?_
      refine aw_aload_n (i := 1) dJ5_deleteEntry_34 rfl rfl trivial ?_
      replace hq := obind hq
      obtain ⟨q119, e120, hq⟩ := hq
      refine aw_callS (Y2 := YJ5_successor) (As := [.ref a9]) (rest := []) kJ5_successor q1816 q1817 dJ5_deleteEntry_35 rfl rfl (ct_J5_successor g hst N h7 (some a9) _ e120) (Nat.le_of_ble_eq_true rfl) (Nat.le_of_ble_eq_true rfl) (fun v9 h9 z9 y9 => ?_)
      obtain ⟨rfl, rfl⟩ := y9
      refine aw_st (st' := [va_rf q119.1]) rfl ?_
      refine aw_astore_n (i := 2) (loc' := [some (.ref x0), some (.ref a9), some (va_rf q119.1)]) dJ5_deleteEntry_38 rfl (Nat.le_of_ble_eq_true rfl) (aIsR_rf _) rfl ?_
      refine aw_aload_n (i := 1) dJ5_deleteEntry_39 rfl rfl trivial ?_
      refine aw_aload_n (i := 2) dJ5_deleteEntry_40 rfl rfl (aIsR_rf _) ?_
      replace hq := obind hq
      obtain ⟨a121, e122, hq⟩ := hq
      rw [e122]
      replace hq := obind hq
      obtain ⟨o123, e124, hq⟩ := hq
      refine xw_getR e124 fJ5_105 dJ5_deleteEntry_41 ?_
      replace hq := obind hq
      obtain ⟨h125, e126, hq⟩ := hq
      refine xw_put e126 fJ5_105 tJ30_0 (fits_rf _ o123) dJ5_deleteEntry_44 ?_
      refine aw_aload_n (i := 1) dJ5_deleteEntry_47 rfl rfl trivial ?_
      refine aw_aload_n (i := 2) dJ5_deleteEntry_48 rfl rfl trivial ?_
      replace hq := obind hq
      obtain ⟨o127, e128, hq⟩ := hq
      refine xw_getR e128 fJ5_58 dJ5_deleteEntry_49 ?_
      replace hq := obind hq
      obtain ⟨h129, e130, hq⟩ := hq
      refine xw_put e130 fJ5_58 tJ30_1 (fits_rf _ o127) dJ5_deleteEntry_52 ?_
      refine aw_aload_n (i := 2) dJ5_deleteEntry_55 rfl rfl trivial ?_
      refine aw_astore_n (i := 1) (loc' := [some (.ref x0), some (.ref a121), some (.ref a121)]) dJ5_deleteEntry_56 rfl (Nat.le_of_ble_eq_true rfl) trivial rfl ?_
      refine aw_subl (loc' := [some (.ref x0), some (.ref a121), none]) ⟨Or.inr rfl, Or.inr rfl, Or.inl rfl, trivial⟩ ?_
      exact p_x_J5_deleteEntry_57 g hst N   h129 x0 (some a121) _ hq
abbrev YJ5_get : YC := (yJ5_get, cJ5_get, 3, (some (.object "java/lang/Object")), [])
theorem kJ5_get : aMk YJ5_get 1 := ⟨rfl, q2040, q124, ⟨by decide +kernel, by decide +kernel, by decide +kernel⟩, Nat.le_of_ble_eq_true rfl⟩
def x_J5_get (g : AG) (N : Nat) (h : AH) (x0 : Nat) (r1 : Option Nat) : Option (Option Nat × AH) :=
  bif clB h x0 [14] then ((x_J5_getEntry g N h x0 r1).bind fun q2 => ocase q2.1 (some ((none), q2.2)) (fun a4 => (rdR q2.2 a4 [(15, 1)]).bind fun o5 => some (o5, q2.2))) else none
theorem ct_J5_get (g : AG) (hst : (gL g).stackTraces = false) (N : Nat) : ∀ (h : AH) (x0 : Nat) (r1 : Option Nat) (q : (Option Nat × AH)), x_J5_get g N h x0 r1 = some q → CT g YJ5_get 5 [.ref x0, va_rf r1] h (xR q) := by
  intro h x0 r1 q hq
  refine CT.of rfl (by decide +kernel) (loc := [some (.ref x0), some (va_rf r1), none]) (by first | exact Nat.le_of_ble_eq_true rfl | (simp only [lgl_rf, lgl_i, lgl_j, lgl_ref, lgl_nil]; exact Nat.le_of_ble_eq_true rfl)) (by first | rfl | (simp only [aent_rf, aent_i, aent_j, aent_ref, aent_nil]; rfl)) ?_
  unfold x_J5_get at hq
  refine aw_aload_n (i := 0) dJ5_get_0 rfl rfl trivial ?_
  refine aw_aload_n (i := 1) dJ5_get_1 rfl rfl (aIsR_rf _) ?_
  replace hq := cond_t hq
  obtain ⟨z1, hq⟩ := hq
  obtain ⟨fs9, ha9⟩ := clB1 z1
  replace hq := obind hq
  obtain ⟨q2, e3, hq⟩ := hq
  refine aw_callV (Y2 := YJ5_getEntry) (As := [va_rf r1]) (rest := []) (r := (RJ5, TJ5, 9)) kJ5_getEntry ha9 rfl rfl q1501 q1502 q1503 dJ5_get_2 rfl rfl (ct_J5_getEntry g hst N h x0 r1 _ e3) (Nat.le_of_ble_eq_true rfl) (Nat.le_of_ble_eq_true rfl) (fun v9 h9 z9 y9 => ?_)
  obtain ⟨rfl, rfl⟩ := y9
  refine aw_st (st' := [va_rf q2.1]) rfl ?_
  refine aw_astore_n (i := 2) (loc' := [some (.ref x0), some (va_rf r1), some (va_rf q2.1)]) dJ5_get_5 rfl (Nat.le_of_ble_eq_true rfl) (aIsR_rf _) (aset1_rf rfl) ?_
  refine aw_aload_n (i := 2) dJ5_get_6 rfl rfl (aIsR_rf _) ?_
  generalize q2.1 = v9 at hq ⊢
  rcases v9 with _ | a4
  · replace hq := ocase_n hq
    refine xw_ifnonN (tgt := 14) dJ5_get_7 (by decide) ?_
    refine aw_null dJ5_get_10 ?_
    refine aw_goto (tgt := 18) dJ5_get_11 (by decide) ?_
    cases hq
    exact aw_areturn dJ5_get_18 rfl (Or.inl ⟨_, rfl⟩) trivial ⟨rfl, rfl⟩
  · replace hq := ocase_s hq
    refine xw_ifnonS (tgt := 14) dJ5_get_7 (by decide) ?_
    refine aw_aload_n (i := 2) dJ5_get_14 rfl rfl trivial ?_
    replace hq := obind hq
    obtain ⟨o5, e6, hq⟩ := hq
    refine xw_getR e6 fJ5_58 dJ5_get_15 ?_
    cases hq
    exact aw_areturn dJ5_get_18 rfl (Or.inl ⟨_, rfl⟩) (aIsR_rf _) ⟨rfl, rfl⟩
theorem tJ5_2f : ∀ q ∈ ([(14, 2)] : List (Nat × Nat)), aFt q.1 q.2 true (.object "java/util/Comparator") := by
  intro q hq
  simp only [List.mem_cons, List.not_mem_nil, or_false] at hq
  subst hq
  exact ⟨(RJ5, TJ5, 9), tyJ5, Nat.le_of_ble_eq_true rfl, rfl, Nat.le_of_ble_eq_true rfl, okJ5, rfl, rfl⟩
theorem gJ5_16 : ∀ q ∈ ([(14, 2)] : List (Nat × Nat)), ∃ r0 : vw_C, aCl[q.1]? = some r0 ∧ (r0.2.1 q.2).1 = RJ5 ∧ Cond.fieldLink RJ5 16 (r0.2.1 q.2).1 (r0.2.1 q.2).2.1 (r0.2.1 q.2).2.2.1 ∈ lw_all := by
  intro q hq
  simp only [List.mem_cons, List.not_mem_nil, or_false] at hq
  subst hq
  exact ⟨(RJ5, TJ5, 9), rfl, rfl, q281⟩
abbrev YJ5_init : YC := (yJ5_init, cJ5_init, 1, none, [])
theorem kJ5_init : aMk YJ5_init 0 := ⟨rfl, q279, q124, ⟨by decide +kernel, by decide +kernel, by decide +kernel⟩, Nat.le_of_ble_eq_true rfl⟩
def x_J5_init (g : AG) (N : Nat) (h : AH) (x0 : Nat) : Option AH :=
  (x_J0_init g N h x0).bind fun q1 => (wrV g q1 x0 [(14, 4)] (.int (0 : Int32))).bind fun h3 => (wrV g h3 x0 [(14, 5)] (.int (0 : Int32))).bind fun h5 => (wrV g h5 x0 [(14, 2)] (.null)).bind fun h7 => some h7
theorem ct_J5_init (g : AG) (hst : (gL g).stackTraces = false) (N : Nat) : ∀ (h : AH) (x0 : Nat) (q : AH), x_J5_init g N h x0 = some q → CT g YJ5_init 4 [.ref x0] h (xV q) := by
  intro h x0 q hq
  refine CT.of rfl (by decide +kernel) (loc := [some (.ref x0)]) (by first | exact Nat.le_of_ble_eq_true rfl | (simp only [lgl_rf, lgl_i, lgl_j, lgl_ref, lgl_nil]; exact Nat.le_of_ble_eq_true rfl)) (by first | rfl | (simp only [aent_rf, aent_i, aent_j, aent_ref, aent_nil]; rfl)) ?_
  unfold x_J5_init at hq
  refine aw_aload_n (i := 0) dJ5_init_0 rfl rfl trivial ?_
  replace hq := obind hq
  obtain ⟨q1, e2, hq⟩ := hq
  refine aw_callI (Y2 := YJ0_init) (As := []) (rest := []) (b := x0) kJ0_init rfl rfl q280 q223 dJ5_init_1 rfl rfl (ct_J0_init g hst N h x0 _ e2) (Nat.le_of_ble_eq_true rfl) (Nat.le_of_ble_eq_true rfl) (fun v9 h9 z9 y9 => ?_)
  obtain ⟨rfl, y9⟩ := y9
  rw [y9]
  refine aw_st (st' := []) rfl ?_
  refine aw_aload_n (i := 0) dJ5_init_4 rfl rfl trivial ?_
  refine aw_iconst (v := 0) dJ5_init_5 (by decide) ?_
  replace hq := obind hq
  obtain ⟨h3, e4, hq⟩ := hq
  refine xw_put e4 fJ5_7 tJ5_4 ⟨rfl, rfl⟩ dJ5_init_6 ?_
  refine aw_aload_n (i := 0) dJ5_init_9 rfl rfl trivial ?_
  refine aw_iconst (v := 0) dJ5_init_10 (by decide) ?_
  replace hq := obind hq
  obtain ⟨h5, e6, hq⟩ := hq
  refine xw_put e6 fJ5_13 tJ5_5 ⟨rfl, rfl⟩ dJ5_init_11 ?_
  refine aw_aload_n (i := 0) dJ5_init_14 rfl rfl trivial ?_
  refine aw_null dJ5_init_15 ?_
  replace hq := obind hq
  obtain ⟨h7, e8, hq⟩ := hq
  refine xw_putF e8 fJ5_16 tJ5_2f rfl gJ5_16 (fits_rf _ (none)) dJ5_init_16 ?_
  cases hq
  exact aw_vret dJ5_init_19 rfl ⟨rfl, rfl⟩
abbrev YJ5_put_2 : YC := (yJ5_put_2, cJ5_put_2, 10, (some (.object "java/lang/Object")), [])
theorem kJ5_put_2 : aMk YJ5_put_2 3 := ⟨rfl, q1676, q124, ⟨by decide +kernel, by decide +kernel, by decide +kernel⟩, Nat.le_of_ble_eq_true rfl⟩
def x_J5_put_2_196 (g : AG) (N : Nat) (K123 : AH → Nat → Option Nat → Option Nat → Int32 → Option Nat → Option Nat → Option Nat → Option (Option Nat × AH)) (K171 : AH → Nat → Option Nat → Option Nat → Int32 → Option Nat → Int32 → Option Nat → Option Nat → Option Nat → Option (Option Nat × AH)) (K201 : AH → Nat → Option Nat → Option Nat → Int32 → Option Nat → Int32 → Option Nat → Option Nat → Option Nat → Option (Option Nat × AH)) (h : AH) (x0 : Nat) (r1 : Option Nat) (r2 : Option Nat) (x3 : Int32) (r4 : Option Nat) (x5 : Int32) (r6 : Option Nat) (r7 : Option Nat) (r8 : Option Nat) : Option (Option Nat × AH) :=
  ocase r4 (K201 h x0 r1 r2 x3 (none) x5 r6 r7 r8) (fun a26 => K123 h x0 r1 r2 x3 (some a26) r7 r8)
theorem p_x_J5_put_2_196 (g : AG) (hst : (gL g).stackTraces = false) (N : Nat) (K123 : AH → Nat → Option Nat → Option Nat → Int32 → Option Nat → Option Nat → Option Nat → Option (Option Nat × AH)) (K171 : AH → Nat → Option Nat → Option Nat → Int32 → Option Nat → Int32 → Option Nat → Option Nat → Option Nat → Option (Option Nat × AH)) (K201 : AH → Nat → Option Nat → Option Nat → Int32 → Option Nat → Int32 → Option Nat → Option Nat → Option Nat → Option (Option Nat × AH)) (hK123 : ∀ (h : AH) (x0 : Nat) (r1 : Option Nat) (r2 : Option Nat) (x3 : Int32) (r4 : Option Nat) (r7 : Option Nat) (r8 : Option Nat) (q : (Option Nat × AH)), K123 h x0 r1 r2 x3 r4 r7 r8 = some q → AW g YJ5_put_2 6 (xR q) h [some (.ref x0), some (va_rf r1), some (va_rf r2), some (.int x3), some (va_rf r4), none, none, some (va_rf r7), some (va_rf r8), none] 123 []) (hK171 : ∀ (h : AH) (x0 : Nat) (r1 : Option Nat) (r2 : Option Nat) (x3 : Int32) (r4 : Option Nat) (x5 : Int32) (r6 : Option Nat) (r7 : Option Nat) (r8 : Option Nat) (q : (Option Nat × AH)), K171 h x0 r1 r2 x3 r4 x5 r6 r7 r8 = some q → AW g YJ5_put_2 6 (xR q) h [some (.ref x0), some (va_rf r1), some (va_rf r2), some (.int x3), some (va_rf r4), some (.int x5), some (va_rf r6), some (va_rf r7), some (va_rf r8), none] 171 []) (hK201 : ∀ (h : AH) (x0 : Nat) (r1 : Option Nat) (r2 : Option Nat) (x3 : Int32) (r4 : Option Nat) (x5 : Int32) (r6 : Option Nat) (r7 : Option Nat) (r8 : Option Nat) (q : (Option Nat × AH)), K201 h x0 r1 r2 x3 r4 x5 r6 r7 r8 = some q → AW g YJ5_put_2 6 (xR q) h [some (.ref x0), some (va_rf r1), some (va_rf r2), some (.int x3), some (va_rf r4), some (.int x5), some (va_rf r6), some (va_rf r7), some (va_rf r8), none] 201 []) : ∀ (h : AH) (x0 : Nat) (r1 : Option Nat) (r2 : Option Nat) (x3 : Int32) (r4 : Option Nat) (x5 : Int32) (r6 : Option Nat) (r7 : Option Nat) (r8 : Option Nat) (q : (Option Nat × AH)), x_J5_put_2_196 g N K123 K171 K201 h x0 r1 r2 x3 r4 x5 r6 r7 r8 = some q → AW g YJ5_put_2 6 (xR q) h [some (.ref x0), some (va_rf r1), some (va_rf r2), some (.int x3), some (va_rf r4), some (.int x5), some (va_rf r6), some (va_rf r7), some (va_rf r8), none] 196 [] := by
  intro h x0 r1 r2 x3 r4 x5 r6 r7 r8 q hq
  unfold x_J5_put_2_196 at hq
  refine aw_aload dJ5_put_2_196 rfl (aIsR_rf _) ?_
  rcases r4 with _ | a26
  · replace hq := ocase_n hq
    refine xw_ifnonN (tgt := 123) dJ5_put_2_198 (by decide) ?_
    exact hK201 h x0 r1 r2 x3 (none) x5 r6 r7 r8 _ hq
  · replace hq := ocase_s hq
    refine xw_ifnonS (tgt := 123) dJ5_put_2_198 (by decide) ?_
    refine aw_subl (loc' := [some (.ref x0), some (va_rf r1), some (va_rf r2), some (.int x3), some (.ref a26), none, none, some (va_rf r7), some (va_rf r8), none]) ⟨Or.inr rfl, Or.inr rfl, Or.inr rfl, Or.inr rfl, Or.inr rfl, Or.inl rfl, Or.inl rfl, Or.inr rfl, Or.inr rfl, Or.inl rfl, trivial⟩ ?_
    exact hK123 h x0 r1 r2 x3 (some a26) r7 r8 _ hq
def x_J5_put_2_123 (g : AG) (N : Nat) (K171 : AH → Nat → Option Nat → Option Nat → Int32 → Option Nat → Int32 → Option Nat → Option Nat → Option Nat → Option (Option Nat × AH)) (K201 : AH → Nat → Option Nat → Option Nat → Int32 → Option Nat → Int32 → Option Nat → Option Nat → Option Nat → Option (Option Nat × AH)) : Nat → AH → Nat → Option Nat → Option Nat → Int32 → Option Nat → Option Nat → Option Nat → Option (Option Nat × AH)
  | 0, _, _, _, _, _, _, _, _ => none
  | n9 + 1, h, x0, r1, r2, x3, r4, r7, r8 =>
  (r4).bind fun a13 => (rdR h a13 [(15, 0)]).bind fun o15 => (r8).bind fun a17 => bif clB h a17 [18] then ((x_J21_compareTo g N h a17 o15).bind fun q20 => if 0 ≤ q20.1 then (if q20.1 ≤ 0 then (K171 q20.2 x0 r1 r2 x3 (some a13) q20.1 (some a13) r7 (some a17)) else ((rdR q20.2 a13 [(15, 3)]).bind fun o24 => x_J5_put_2_196 g N (fun h x0 r1 r2 x3 r4 r7 r8 => x_J5_put_2_123 g N K171 K201 n9 h x0 r1 r2 x3 r4 r7 r8) K171 K201 q20.2 x0 r1 r2 x3 o24 q20.1 (some a13) r7 (some a17))) else ((rdR q20.2 a13 [(15, 2)]).bind fun o27 => x_J5_put_2_196 g N (fun h x0 r1 r2 x3 r4 r7 r8 => x_J5_put_2_123 g N K171 K201 n9 h x0 r1 r2 x3 r4 r7 r8) K171 K201 q20.2 x0 r1 r2 x3 o27 q20.1 (some a13) r7 (some a17))) else none
theorem p_x_J5_put_2_123 (g : AG) (hst : (gL g).stackTraces = false) (N : Nat) (K171 : AH → Nat → Option Nat → Option Nat → Int32 → Option Nat → Int32 → Option Nat → Option Nat → Option Nat → Option (Option Nat × AH)) (K201 : AH → Nat → Option Nat → Option Nat → Int32 → Option Nat → Int32 → Option Nat → Option Nat → Option Nat → Option (Option Nat × AH)) (hK171 : ∀ (h : AH) (x0 : Nat) (r1 : Option Nat) (r2 : Option Nat) (x3 : Int32) (r4 : Option Nat) (x5 : Int32) (r6 : Option Nat) (r7 : Option Nat) (r8 : Option Nat) (q : (Option Nat × AH)), K171 h x0 r1 r2 x3 r4 x5 r6 r7 r8 = some q → AW g YJ5_put_2 6 (xR q) h [some (.ref x0), some (va_rf r1), some (va_rf r2), some (.int x3), some (va_rf r4), some (.int x5), some (va_rf r6), some (va_rf r7), some (va_rf r8), none] 171 []) (hK201 : ∀ (h : AH) (x0 : Nat) (r1 : Option Nat) (r2 : Option Nat) (x3 : Int32) (r4 : Option Nat) (x5 : Int32) (r6 : Option Nat) (r7 : Option Nat) (r8 : Option Nat) (q : (Option Nat × AH)), K201 h x0 r1 r2 x3 r4 x5 r6 r7 r8 = some q → AW g YJ5_put_2 6 (xR q) h [some (.ref x0), some (va_rf r1), some (va_rf r2), some (.int x3), some (va_rf r4), some (.int x5), some (va_rf r6), some (va_rf r7), some (va_rf r8), none] 201 []) : ∀ (n9 : Nat) (h : AH) (x0 : Nat) (r1 : Option Nat) (r2 : Option Nat) (x3 : Int32) (r4 : Option Nat) (r7 : Option Nat) (r8 : Option Nat) (q : (Option Nat × AH)), x_J5_put_2_123 g N K171 K201 n9 h x0 r1 r2 x3 r4 r7 r8 = some q → AW g YJ5_put_2 6 (xR q) h [some (.ref x0), some (va_rf r1), some (va_rf r2), some (.int x3), some (va_rf r4), none, none, some (va_rf r7), some (va_rf r8), none] 123 [] := by
  intro n9
  induction n9 with
  | zero =>
    intro h x0 r1 r2 x3 r4 r7 r8 q hq
    cases hq
  | succ n9 ih =>
    intro h x0 r1 r2 x3 r4 r7 r8 q hq
    rw [x_J5_put_2_123] at hq
    refine aw_aload dJ5_put_2_123 rfl (aIsR_rf _) ?_
    refine aw_astore (loc' := [some (.ref x0), some (va_rf r1), some (va_rf r2), some (.int x3), some (va_rf r4), none, some (va_rf r4), some (va_rf r7), some (va_rf r8), none]) dJ5_put_2_125 (Nat.le_of_ble_eq_true rfl) (aIsR_rf _) rfl ?_
    refine aw_aload dJ5_put_2_127 rfl (aIsR_rf _) ?_
    refine aw_aload dJ5_put_2_129 rfl (aIsR_rf _) ?_
    replace hq := obind hq
    obtain ⟨a13, e14, hq⟩ := hq
    subst e14
    replace hq := obind hq
    obtain ⟨o15, e16, hq⟩ := hq
    refine xw_getR e16 fJ5_105 dJ5_put_2_131 ?_
    replace hq := obind hq
    obtain ⟨a17, e18, hq⟩ := hq
    subst e18
    replace hq := cond_t hq
    obtain ⟨z19, hq⟩ := hq
    obtain ⟨fs9, ha9⟩ := clB1 z19
    replace hq := obind hq
    obtain ⟨q20, e21, hq⟩ := hq
    refine aw_callF (Y2 := YJ21_compareTo) (As := [va_rf o15]) (rest := []) (r := (RJ21, TJ21, 1)) (x := ⟨"java/lang/Comparable", "compareTo", "(Ljava/lang/Object;)I"⟩) kJ21_compareTo ha9 rfl (by decide) (by decide) ⟨by decide +kernel, by decide +kernel, by decide +kernel⟩ q1518 q1309 q1307 dJ5_put_2_134 rfl rfl (ct_J21_compareTo g hst N h a17 o15 _ e21) (Nat.le_of_ble_eq_true rfl) (Nat.le_of_ble_eq_true rfl) (fun v9 h9 z9 y9 => ?_)
    obtain ⟨rfl, rfl⟩ := y9
    refine aw_st (st' := [.int q20.1]) rfl ?_
    refine aw_istore (loc' := [some (.ref x0), some (va_rf r1), some (va_rf r2), some (.int x3), some (.ref a13), some (.int q20.1), some (.ref a13), some (va_rf r7), some (.ref a17), none]) dJ5_put_2_139 (Nat.le_of_ble_eq_true rfl) rfl ?_
    refine aw_iload dJ5_put_2_141 rfl ?_
    refine aw_if_ge (tgt := 156) dJ5_put_2_143 (by decide) (fun c22 => ?_) (fun c22 => ?_)
    · rw [if_pos c22] at hq
      refine aw_iload dJ5_put_2_156 rfl ?_
      refine aw_if_le (tgt := 171) dJ5_put_2_158 (by decide) (fun c23 => ?_) (fun c23 => ?_)
      · rw [if_pos c23] at hq
        exact hK171 q20.2 x0 r1 r2 x3 (some a13) q20.1 (some a13) r7 (some a17) _ hq
      · rw [if_neg c23] at hq
        refine aw_aload dJ5_put_2_161 rfl trivial ?_
        replace hq := obind hq
        obtain ⟨o24, e25, hq⟩ := hq
        refine xw_getR e25 fJ5_114 dJ5_put_2_163 ?_
        refine aw_astore (loc' := [some (.ref x0), some (va_rf r1), some (va_rf r2), some (.int x3), some (va_rf o24), some (.int q20.1), some (.ref a13), some (va_rf r7), some (.ref a17), none]) dJ5_put_2_166 (Nat.le_of_ble_eq_true rfl) (aIsR_rf _) rfl ?_
        refine aw_goto (tgt := 196) dJ5_put_2_168 (by decide) ?_
        exact p_x_J5_put_2_196 g hst N _ _ _ ih hK171 hK201 q20.2 x0 r1 r2 x3 o24 q20.1 (some a13) r7 (some a17) _ hq
    · rw [if_neg c22] at hq
      refine aw_aload dJ5_put_2_146 rfl trivial ?_
      replace hq := obind hq
      obtain ⟨o27, e28, hq⟩ := hq
      refine xw_getR e28 fJ5_111 dJ5_put_2_148 ?_
      refine aw_astore (loc' := [some (.ref x0), some (va_rf r1), some (va_rf r2), some (.int x3), some (va_rf o27), some (.int q20.1), some (.ref a13), some (va_rf r7), some (.ref a17), none]) dJ5_put_2_151 (Nat.le_of_ble_eq_true rfl) (aIsR_rf _) rfl ?_
      refine aw_goto (tgt := 196) dJ5_put_2_153 (by decide) ?_
      exact p_x_J5_put_2_196 g hst N _ _ _ ih hK171 hK201 q20.2 x0 r1 r2 x3 o27 q20.1 (some a13) r7 (some a17) _ hq
def x_J5_put_2_187 (g : AG) (N : Nat) (h : AH) (x0 : Nat) (r1 : Option Nat) (r2 : Option Nat) (x3 : Int32) (r4 : Option Nat) (x5 : Int32) (r6 : Option Nat) (r7 : Option Nat) (r8 : Option Nat) (r9 : Option Nat) : Option (Option Nat × AH) :=
  (r4).bind fun a34 => (wrV g h a34 [(15, 1)] (va_rf r2)).bind fun h36 => some (r9, h36)
theorem p_x_J5_put_2_187 (g : AG) (hst : (gL g).stackTraces = false) (N : Nat) : ∀ (h : AH) (x0 : Nat) (r1 : Option Nat) (r2 : Option Nat) (x3 : Int32) (r4 : Option Nat) (x5 : Int32) (r6 : Option Nat) (r7 : Option Nat) (r8 : Option Nat) (r9 : Option Nat) (q : (Option Nat × AH)), x_J5_put_2_187 g N h x0 r1 r2 x3 r4 x5 r6 r7 r8 r9 = some q → AW g YJ5_put_2 6 (xR q) h [some (.ref x0), some (va_rf r1), some (va_rf r2), some (.int x3), some (va_rf r4), some (.int x5), some (va_rf r6), some (va_rf r7), some (va_rf r8), some (va_rf r9)] 187 [] := by
  intro h x0 r1 r2 x3 r4 x5 r6 r7 r8 r9 q hq
  unfold x_J5_put_2_187 at hq
  refine aw_aload dJ5_put_2_187 rfl (aIsR_rf _) ?_
  refine aw_aload_n (i := 2) dJ5_put_2_189 rfl rfl (aIsR_rf _) ?_
  replace hq := obind hq
  obtain ⟨a34, e35, hq⟩ := hq
  subst e35
  replace hq := obind hq
  obtain ⟨h36, e37, hq⟩ := hq
  refine xw_put e37 fJ5_58 tJ30_1 (fits_rf _ r2) dJ5_put_2_190 ?_
  refine aw_aload dJ5_put_2_193 rfl (aIsR_rf _) ?_
  cases hq
  exact aw_areturn dJ5_put_2_195 rfl (Or.inl ⟨_, rfl⟩) (aIsR_rf _) ⟨rfl, rfl⟩
def x_J5_put_2_216 (g : AG) (N : Nat) (h : AH) (x0 : Nat) (r1 : Option Nat) (r2 : Option Nat) (x3 : Int32) (r4 : Option Nat) (x5 : Int32) (r6 : Option Nat) (r7 : Option Nat) (r8 : Option Nat) (t1 : Option Nat) (t2 : Option Nat) (t3 : Option Nat) (s4 : Int32) : Option (Option Nat × AH) :=
  bif clB h x0 [14] then ((x_J5_addEntry g N h x0 t1 t2 t3 s4).bind fun q41 => some ((none), q41)) else none
theorem p_x_J5_put_2_216 (g : AG) (hst : (gL g).stackTraces = false) (N : Nat) : ∀ (h : AH) (x0 : Nat) (r1 : Option Nat) (r2 : Option Nat) (x3 : Int32) (r4 : Option Nat) (x5 : Int32) (r6 : Option Nat) (r7 : Option Nat) (r8 : Option Nat) (t1 : Option Nat) (t2 : Option Nat) (t3 : Option Nat) (s4 : Int32) (q : (Option Nat × AH)), x_J5_put_2_216 g N h x0 r1 r2 x3 r4 x5 r6 r7 r8 t1 t2 t3 s4 = some q → AW g YJ5_put_2 6 (xR q) h [some (.ref x0), some (va_rf r1), some (va_rf r2), some (.int x3), some (va_rf r4), some (.int x5), some (va_rf r6), some (va_rf r7), some (va_rf r8), none] 216 [.int s4, va_rf t3, va_rf t2, va_rf t1, .ref x0] := by
  intro h x0 r1 r2 x3 r4 x5 r6 r7 r8 t1 t2 t3 s4 q hq
  unfold x_J5_put_2_216 at hq
  replace hq := cond_t hq
  obtain ⟨z40, hq⟩ := hq
  obtain ⟨fs9, ha9⟩ := clB1 z40
  replace hq := obind hq
  obtain ⟨q41, e42, hq⟩ := hq
  refine aw_callV (Y2 := YJ5_addEntry) (As := [va_rf t1, va_rf t2, va_rf t3, .int s4]) (rest := []) (r := (RJ5, TJ5, 9)) kJ5_addEntry ha9 rfl rfl q1714 q1716 qs27 dJ5_put_2_216 rfl rfl (ct_J5_addEntry g hst N h x0 t1 t2 t3 s4 _ e42) (Nat.le_of_ble_eq_true rfl) (Nat.le_of_ble_eq_true rfl) (fun v9 h9 z9 y9 => ?_)
  obtain ⟨rfl, y9⟩ := y9
  rw [y9]
  refine aw_st (st' := []) rfl ?_
  refine aw_null dJ5_put_2_219 ?_
  cases hq
  exact aw_areturn dJ5_put_2_220 rfl (Or.inl ⟨_, rfl⟩) trivial ⟨rfl, rfl⟩
def x_J5_put_2 (g : AG) (N : Nat) (h : AH) (x0 : Nat) (r1 : Option Nat) (r2 : Option Nat) (x3 : Int32) : Option (Option Nat × AH) :=
  (rdR h x0 [(14, 3)]).bind fun o1 => ocase o1 (bif clB h x0 [14] then ((x_J5_addEntryToEmptyMap g N h x0 r1 r2).bind fun q5 => some ((none), q5)) else none) (fun a3 => (rdR h x0 [(14, 2)]).bind fun o7 => ocase o7 ((x_J26_requireNonNull g N h r1).bind fun q10 => bif casB q10.2 r1 [16, 17, 18, 19] then (x_J5_put_2_123 g N (fun h x0 r1 r2 x3 r4 x5 r6 r7 r8 => (r4).bind fun a29 => (rdR h a29 [(15, 1)]).bind fun o31 => if x3 = 0 then (ocase o31 (x_J5_put_2_187 g N  h x0 r1 r2 x3 (some a29) x5 r6 r7 r8 (none)) (fun a38 => some ((some a38), h))) else (x_J5_put_2_187 g N  h x0 r1 r2 x3 (some a29) x5 r6 r7 r8 o31)) (fun h x0 r1 r2 x3 r4 x5 r6 r7 r8 => if 0 ≤ x5 then (x_J5_put_2_216 g N  h x0 r1 r2 x3 r4 x5 r6 r7 r8 r1 r2 r6 (0 : Int32)) else (x_J5_put_2_216 g N  h x0 r1 r2 x3 r4 x5 r6 r7 r8 r1 r2 r6 (1 : Int32))) N q10.2 x0 r1 r2 x3 (some a3) (none) r1) else none) (fun a9 => (rdR h a3 [(15, 0)]).bind fun o43 => none))
theorem ct_J5_put_2 (g : AG) (hst : (gL g).stackTraces = false) (N : Nat) : ∀ (h : AH) (x0 : Nat) (r1 : Option Nat) (r2 : Option Nat) (x3 : Int32) (q : (Option Nat × AH)), x_J5_put_2 g N h x0 r1 r2 x3 = some q → CT g YJ5_put_2 6 [.ref x0, va_rf r1, va_rf r2, .int x3] h (xR q) := by
  intro h x0 r1 r2 x3 q hq
  refine CT.of rfl (by decide +kernel) (loc := [some (.ref x0), some (va_rf r1), some (va_rf r2), some (.int x3), none, none, none, none, none, none]) (by first | exact Nat.le_of_ble_eq_true rfl | (simp only [lgl_rf, lgl_i, lgl_j, lgl_ref, lgl_nil]; exact Nat.le_of_ble_eq_true rfl)) (by first | rfl | (simp only [aent_rf, aent_i, aent_j, aent_ref, aent_nil]; rfl)) ?_
  unfold x_J5_put_2 at hq
  refine aw_aload_n (i := 0) dJ5_put_2_0 rfl rfl trivial ?_
  replace hq := obind hq
  obtain ⟨o1, e2, hq⟩ := hq
  refine xw_getR e2 fJ5_101 dJ5_put_2_1 ?_
  refine aw_astore (loc' := [some (.ref x0), some (va_rf r1), some (va_rf r2), some (.int x3), some (va_rf o1), none, none, none, none, none]) dJ5_put_2_4 (Nat.le_of_ble_eq_true rfl) (aIsR_rf _) rfl ?_
  refine aw_aload dJ5_put_2_6 rfl (aIsR_rf _) ?_
  rcases o1 with _ | a3
  · replace hq := ocase_n hq
    refine xw_ifnonN (tgt := 19) dJ5_put_2_8 (by decide) ?_
    refine aw_aload_n (i := 0) dJ5_put_2_11 rfl rfl trivial ?_
    refine aw_aload_n (i := 1) dJ5_put_2_12 rfl rfl (aIsR_rf _) ?_
    refine aw_aload_n (i := 2) dJ5_put_2_13 rfl rfl (aIsR_rf _) ?_
    replace hq := cond_t hq
    obtain ⟨z4, hq⟩ := hq
    obtain ⟨fs9, ha9⟩ := clB1 z4
    replace hq := obind hq
    obtain ⟨q5, e6, hq⟩ := hq
    refine aw_callV (Y2 := YJ5_addEntryToEmptyMap) (As := [va_rf r1, va_rf r2]) (rest := []) (r := (RJ5, TJ5, 9)) kJ5_addEntryToEmptyMap ha9 rfl rfl q1677 q1679 qs26 dJ5_put_2_14 rfl rfl (ct_J5_addEntryToEmptyMap g hst N h x0 r1 r2 _ e6) (Nat.le_of_ble_eq_true rfl) (Nat.le_of_ble_eq_true rfl) (fun v9 h9 z9 y9 => ?_)
    obtain ⟨rfl, y9⟩ := y9
    rw [y9]
    refine aw_st (st' := []) rfl ?_
    refine aw_null dJ5_put_2_17 ?_
    cases hq
    exact aw_areturn dJ5_put_2_18 rfl (Or.inl ⟨_, rfl⟩) trivial ⟨rfl, rfl⟩
  · replace hq := ocase_s hq
    refine xw_ifnonS (tgt := 19) dJ5_put_2_8 (by decide) ?_
    refine aw_aload_n (i := 0) dJ5_put_2_19 rfl rfl trivial ?_
    replace hq := obind hq
    obtain ⟨o7, e8, hq⟩ := hq
    refine xw_getR e8 fJ5_16 dJ5_put_2_20 ?_
    refine aw_astore (loc' := [some (.ref x0), some (va_rf r1), some (va_rf r2), some (.int x3), some (.ref a3), none, none, some (va_rf o7), none, none]) dJ5_put_2_23 (Nat.le_of_ble_eq_true rfl) (aIsR_rf _) rfl ?_
    refine aw_aload dJ5_put_2_25 rfl (aIsR_rf _) ?_
    rcases o7 with _ | a9
    · replace hq := ocase_n hq
      refine xw_ifnullN (tgt := 112) dJ5_put_2_27 (by decide) ?_
      refine aw_aload_n (i := 1) dJ5_put_2_112 rfl rfl (aIsR_rf _) ?_
      replace hq := obind hq
      obtain ⟨q10, e11, hq⟩ := hq
      refine aw_callS (Y2 := YJ26_requireNonNull) (As := [va_rf r1]) (rest := []) kJ26_requireNonNull q1513 q1514 dJ5_put_2_113 rfl rfl (ct_J26_requireNonNull g hst N h r1 _ e11) (Nat.le_of_ble_eq_true rfl) (Nat.le_of_ble_eq_true rfl) (fun v9 h9 z9 y9 => ?_)
      obtain ⟨rfl, rfl⟩ := y9
      refine aw_st (st' := [va_rf q10.1]) rfl ?_
      refine aw_pop dJ5_put_2_116 (cat_rf _) ?_
      refine aw_aload_n (i := 1) dJ5_put_2_117 rfl rfl (aIsR_rf _) ?_
      replace hq := cond_t hq
      obtain ⟨z12, hq⟩ := hq
      refine xw_cast (r := r1) z12 q1516 casjava_lang_Comparable dJ5_put_2_118 ?_
      refine aw_astore (loc' := [some (.ref x0), some (va_rf r1), some (va_rf r2), some (.int x3), some (.ref a3), none, none, some (.null), some (va_rf r1), none]) dJ5_put_2_121 (Nat.le_of_ble_eq_true rfl) (aIsR_rf _) rfl ?_
      refine p_x_J5_put_2_123 g hst N _ _ ?_ ?_ N q10.2 x0 r1 r2 x3 (some a3) (none) r1 _ hq
      · intro h x0 r1 r2 x3 r4 x5 r6 r7 r8 q hq
        refine aw_aload dJ5_put_2_171 rfl (aIsR_rf _) ?_
        replace hq := obind hq
        obtain ⟨a29, e30, hq⟩ := hq
        subst e30
        replace hq := obind hq
        obtain ⟨o31, e32, hq⟩ := hq
        refine xw_getR e32 fJ5_58 dJ5_put_2_173 ?_
        refine aw_astore (loc' := [some (.ref x0), some (va_rf r1), some (va_rf r2), some (.int x3), some (.ref a29), some (.int x5), some (va_rf r6), some (va_rf r7), some (va_rf r8), some (va_rf o31)]) dJ5_put_2_176 (Nat.le_of_ble_eq_true rfl) (aIsR_rf _) (aset1_rf rfl) ?_
        refine aw_iload_n (i := 3) dJ5_put_2_178 rfl rfl ?_
        refine aw_if_ne (tgt := 187) dJ5_put_2_179 (by decide) (fun c33 => ?_) (fun c33 => ?_)
        · rw [if_neg c33] at hq
          exact p_x_J5_put_2_187 g hst N   h x0 r1 r2 x3 (some a29) x5 r6 r7 r8 o31 _ hq
        · rw [if_pos c33] at hq
          refine aw_aload dJ5_put_2_182 rfl (aIsR_rf _) ?_
          rcases o31 with _ | a38
          · replace hq := ocase_n hq
            refine xw_ifnonN (tgt := 193) dJ5_put_2_184 (by decide) ?_
            exact p_x_J5_put_2_187 g hst N   h x0 r1 r2 x3 (some a29) x5 r6 r7 r8 (none) _ hq
          · replace hq := ocase_s hq
            refine xw_ifnonS (tgt := 193) dJ5_put_2_184 (by decide) ?_
            refine aw_aload dJ5_put_2_193 rfl trivial ?_
            cases hq
            exact aw_areturn dJ5_put_2_195 rfl (Or.inl ⟨_, rfl⟩) trivial ⟨rfl, rfl⟩
      · intro h x0 r1 r2 x3 r4 x5 r6 r7 r8 q hq
        refine aw_aload_n (i := 0) dJ5_put_2_201 rfl rfl trivial ?_
        refine aw_aload_n (i := 1) dJ5_put_2_202 rfl rfl (aIsR_rf _) ?_
        refine aw_aload_n (i := 2) dJ5_put_2_203 rfl rfl (aIsR_rf _) ?_
        refine aw_aload dJ5_put_2_204 rfl (aIsR_rf _) ?_
        refine aw_iload dJ5_put_2_206 rfl ?_
        refine aw_if_ge (tgt := 215) dJ5_put_2_208 (by decide) (fun c39 => ?_) (fun c39 => ?_)
        · rw [if_pos c39] at hq
          refine aw_iconst (v := 0) dJ5_put_2_215 (by decide) ?_
          exact p_x_J5_put_2_216 g hst N   h x0 r1 r2 x3 r4 x5 r6 r7 r8 r1 r2 r6 (0 : Int32) _ hq
        · rw [if_neg c39] at hq
          refine aw_iconst (v := 1) dJ5_put_2_211 (by decide) ?_
          refine aw_goto (tgt := 216) dJ5_put_2_212 (by decide) ?_
          exact p_x_J5_put_2_216 g hst N   h x0 r1 r2 x3 r4 x5 r6 r7 r8 r1 r2 r6 (1 : Int32) _ hq
    · replace hq := ocase_s hq
      refine xw_ifnullS (tgt := 112) dJ5_put_2_27 (by decide) ?_
      refine aw_aload dJ5_put_2_30 rfl trivial ?_
      refine aw_astore (loc' := [some (.ref x0), some (va_rf r1), some (va_rf r2), some (.int x3), some (.ref a3), none, some (.ref a3), some (.ref a9), none, none]) dJ5_put_2_32 (Nat.le_of_ble_eq_true rfl) trivial rfl ?_
      refine aw_aload dJ5_put_2_34 rfl trivial ?_
      refine aw_aload_n (i := 1) dJ5_put_2_36 rfl rfl (aIsR_rf _) ?_
      refine aw_aload dJ5_put_2_37 rfl trivial ?_
      replace hq := obind hq
      obtain ⟨o43, e44, hq⟩ := hq
      refine xw_getR e44 fJ5_105 dJ5_put_2_39 ?_
      cases hq
abbrev YJ5_put : YC := (yJ5_put, cJ5_put, 3, (some (.object "java/lang/Object")), [])
theorem kJ5_put : aMk YJ5_put 2 := ⟨rfl, q1672, q124, ⟨by decide +kernel, by decide +kernel, by decide +kernel⟩, Nat.le_of_ble_eq_true rfl⟩
def x_J5_put (g : AG) (N : Nat) (h : AH) (x0 : Nat) (r1 : Option Nat) (r2 : Option Nat) : Option (Option Nat × AH) :=
  bif clB h x0 [14] then ((x_J5_put_2 g N h x0 r1 r2 (1 : Int32)).bind fun q2 => some (q2.1, q2.2)) else none
theorem ct_J5_put (g : AG) (hst : (gL g).stackTraces = false) (N : Nat) : ∀ (h : AH) (x0 : Nat) (r1 : Option Nat) (r2 : Option Nat) (q : (Option Nat × AH)), x_J5_put g N h x0 r1 r2 = some q → CT g YJ5_put 7 [.ref x0, va_rf r1, va_rf r2] h (xR q) := by
  intro h x0 r1 r2 q hq
  refine CT.of rfl (by decide +kernel) (loc := [some (.ref x0), some (va_rf r1), some (va_rf r2)]) (by first | exact Nat.le_of_ble_eq_true rfl | (simp only [lgl_rf, lgl_i, lgl_j, lgl_ref, lgl_nil]; exact Nat.le_of_ble_eq_true rfl)) (by first | rfl | (simp only [aent_rf, aent_i, aent_j, aent_ref, aent_nil]; rfl)) ?_
  unfold x_J5_put at hq
  refine aw_aload_n (i := 0) dJ5_put_0 rfl rfl trivial ?_
  refine aw_aload_n (i := 1) dJ5_put_1 rfl rfl (aIsR_rf _) ?_
  refine aw_aload_n (i := 2) dJ5_put_2 rfl rfl (aIsR_rf _) ?_
  refine aw_iconst (v := 1) dJ5_put_3 (by decide) ?_
  replace hq := cond_t hq
  obtain ⟨z1, hq⟩ := hq
  obtain ⟨fs9, ha9⟩ := clB1 z1
  replace hq := obind hq
  obtain ⟨q2, e3, hq⟩ := hq
  refine aw_callV (Y2 := YJ5_put_2) (As := [va_rf r1, va_rf r2, .int (1 : Int32)]) (rest := []) (r := (RJ5, TJ5, 9)) kJ5_put_2 ha9 rfl rfl q1673 q1675 qs25 dJ5_put_4 rfl rfl (ct_J5_put_2 g hst N h x0 r1 r2 (1 : Int32) _ e3) (Nat.le_of_ble_eq_true rfl) (Nat.le_of_ble_eq_true rfl) (fun v9 h9 z9 y9 => ?_)
  obtain ⟨rfl, rfl⟩ := y9
  refine aw_st (st' := [va_rf q2.1]) rfl ?_
  cases hq
  exact aw_areturn dJ5_put_7 rfl (Or.inl ⟨_, rfl⟩) (aIsR_rf _) ⟨rfl, rfl⟩
abbrev YJ5_remove : YC := (yJ5_remove, cJ5_remove, 4, (some (.object "java/lang/Object")), [])
theorem kJ5_remove : aMk YJ5_remove 1 := ⟨rfl, q1811, q124, ⟨by decide +kernel, by decide +kernel, by decide +kernel⟩, Nat.le_of_ble_eq_true rfl⟩
def x_J5_remove (g : AG) (N : Nat) (h : AH) (x0 : Nat) (r1 : Option Nat) : Option (Option Nat × AH) :=
  bif clB h x0 [14] then ((x_J5_getEntry g N h x0 r1).bind fun q2 => ocase q2.1 (some ((none), q2.2)) (fun a4 => (rdR q2.2 a4 [(15, 1)]).bind fun o5 => bif clB q2.2 x0 [14] then ((x_J5_deleteEntry g N q2.2 x0 (some a4)).bind fun q8 => some (o5, q8)) else none)) else none
theorem ct_J5_remove (g : AG) (hst : (gL g).stackTraces = false) (N : Nat) : ∀ (h : AH) (x0 : Nat) (r1 : Option Nat) (q : (Option Nat × AH)), x_J5_remove g N h x0 r1 = some q → CT g YJ5_remove 5 [.ref x0, va_rf r1] h (xR q) := by
  intro h x0 r1 q hq
  refine CT.of rfl (by decide +kernel) (loc := [some (.ref x0), some (va_rf r1), none, none]) (by first | exact Nat.le_of_ble_eq_true rfl | (simp only [lgl_rf, lgl_i, lgl_j, lgl_ref, lgl_nil]; exact Nat.le_of_ble_eq_true rfl)) (by first | rfl | (simp only [aent_rf, aent_i, aent_j, aent_ref, aent_nil]; rfl)) ?_
  unfold x_J5_remove at hq
  refine aw_aload_n (i := 0) dJ5_remove_0 rfl rfl trivial ?_
  refine aw_aload_n (i := 1) dJ5_remove_1 rfl rfl (aIsR_rf _) ?_
  replace hq := cond_t hq
  obtain ⟨z1, hq⟩ := hq
  obtain ⟨fs9, ha9⟩ := clB1 z1
  replace hq := obind hq
  obtain ⟨q2, e3, hq⟩ := hq
  refine aw_callV (Y2 := YJ5_getEntry) (As := [va_rf r1]) (rest := []) (r := (RJ5, TJ5, 9)) kJ5_getEntry ha9 rfl rfl q1501 q1502 q1503 dJ5_remove_2 rfl rfl (ct_J5_getEntry g hst N h x0 r1 _ e3) (Nat.le_of_ble_eq_true rfl) (Nat.le_of_ble_eq_true rfl) (fun v9 h9 z9 y9 => ?_)
  obtain ⟨rfl, rfl⟩ := y9
  refine aw_st (st' := [va_rf q2.1]) rfl ?_
  refine aw_astore_n (i := 2) (loc' := [some (.ref x0), some (va_rf r1), some (va_rf q2.1), none]) dJ5_remove_5 rfl (Nat.le_of_ble_eq_true rfl) (aIsR_rf _) (aset1_rf rfl) ?_
  refine aw_aload_n (i := 2) dJ5_remove_6 rfl rfl (aIsR_rf _) ?_
  generalize q2.1 = v9 at hq ⊢
  rcases v9 with _ | a4
  · replace hq := ocase_n hq
    refine xw_ifnonN (tgt := 12) dJ5_remove_7 (by decide) ?_
    refine aw_null dJ5_remove_10 ?_
    cases hq
    exact aw_areturn dJ5_remove_11 rfl (Or.inl ⟨_, rfl⟩) trivial ⟨rfl, rfl⟩
  · replace hq := ocase_s hq
    refine xw_ifnonS (tgt := 12) dJ5_remove_7 (by decide) ?_
    refine aw_aload_n (i := 2) dJ5_remove_12 rfl rfl trivial ?_
    replace hq := obind hq
    obtain ⟨o5, e6, hq⟩ := hq
    refine xw_getR e6 fJ5_58 dJ5_remove_13 ?_
    refine aw_astore_n (i := 3) (loc' := [some (.ref x0), some (va_rf r1), some (.ref a4), some (va_rf o5)]) dJ5_remove_16 rfl (Nat.le_of_ble_eq_true rfl) (aIsR_rf _) rfl ?_
    refine aw_aload_n (i := 0) dJ5_remove_17 rfl rfl trivial ?_
    refine aw_aload_n (i := 2) dJ5_remove_18 rfl rfl trivial ?_
    replace hq := cond_t hq
    obtain ⟨z7, hq⟩ := hq
    obtain ⟨fs9, ha9⟩ := clB1 z7
    replace hq := obind hq
    obtain ⟨q8, e9, hq⟩ := hq
    refine aw_callV (Y2 := YJ5_deleteEntry) (As := [.ref a4]) (rest := []) (r := (RJ5, TJ5, 9)) kJ5_deleteEntry ha9 rfl rfl q1812 q1814 qs35 dJ5_remove_19 rfl rfl (ct_J5_deleteEntry g hst N q2.2 x0 (some a4) _ e9) (Nat.le_of_ble_eq_true rfl) (Nat.le_of_ble_eq_true rfl) (fun v9 h9 z9 y9 => ?_)
    obtain ⟨rfl, y9⟩ := y9
    rw [y9]
    refine aw_st (st' := []) rfl ?_
    refine aw_aload_n (i := 3) dJ5_remove_22 rfl rfl (aIsR_rf _) ?_
    cases hq
    exact aw_areturn dJ5_remove_23 rfl (Or.inl ⟨_, rfl⟩) (aIsR_rf _) ⟨rfl, rfl⟩
abbrev YJ5_size : YC := (yJ5_size, cJ5_size, 1, (some .int), [])
theorem kJ5_size : aMk YJ5_size 0 := ⟨rfl, q1830, q124, ⟨by decide +kernel, by decide +kernel, by decide +kernel⟩, Nat.le_of_ble_eq_true rfl⟩
def x_J5_size (g : AG) (N : Nat) (h : AH) (x0 : Nat) : Option (Int32 × AH) :=
  (rdI h x0 [(14, 4)]).bind fun i1 => some (i1, h)
theorem ct_J5_size (g : AG) (hst : (gL g).stackTraces = false) (N : Nat) : ∀ (h : AH) (x0 : Nat) (q : (Int32 × AH)), x_J5_size g N h x0 = some q → CT g YJ5_size 1 [.ref x0] h (xI q) := by
  intro h x0 q hq
  refine CT.of rfl (by decide +kernel) (loc := [some (.ref x0)]) (by first | exact Nat.le_of_ble_eq_true rfl | (simp only [lgl_rf, lgl_i, lgl_j, lgl_ref, lgl_nil]; exact Nat.le_of_ble_eq_true rfl)) (by first | rfl | (simp only [aent_rf, aent_i, aent_j, aent_ref, aent_nil]; rfl)) ?_
  unfold x_J5_size at hq
  refine aw_aload_n (i := 0) dJ5_size_0 rfl rfl trivial ?_
  replace hq := obind hq
  obtain ⟨i1, e2, hq⟩ := hq
  refine xw_getI e2 fJ5_7 dJ5_size_1 ?_
  cases hq
  exact aw_ireturn dJ5_size_4 rfl rfl ⟨rfl, rfl⟩
abbrev YX1_lies : YC := (yX1_lies, cX1_lies, 2, none, [])
theorem kX1_lies : aMk YX1_lies 2 := ⟨rfl, q1984, q116, ⟨by decide +kernel, by decide +kernel, by decide +kernel⟩, Nat.le_of_ble_eq_true rfl⟩
def x_X1_lies_9 (g : AG) (N : Nat) (h : AH) (x0 : Int32) (x1 : Int32) : Option ((String ⊕ Unit) × AH) :=
  (mkX g h).bind fun h2 => some (.inl "java/lang/IndexOutOfBoundsException", h2)
theorem p_x_X1_lies_9 (g : AG) (hst : (gL g).stackTraces = false) (N : Nat) : ∀ (h : AH) (x0 : Int32) (x1 : Int32) (q : ((String ⊕ Unit) × AH)), x_X1_lies_9 g N h x0 x1 = some q → AW g YX1_lies 10 (tV q) h [some (.int x0), some (.int x1)] 9 [] := by
  intro h x0 x1 q hq
  unfold x_X1_lies_9 at hq
  replace hq := obind hq
  obtain ⟨h2, e3, hq⟩ := hq
  cases hq
  exact xw_throwS e3 hst thLies rfl (by omega) (by simp [cat_rf, Value.category]) dX1_lies_9 dX1_lies_12 dX1_lies_13 dX1_lies_15 dX1_lies_18 ⟨rfl, rfl⟩
def x_X1_lies (g : AG) (N : Nat) (h : AH) (x0 : Int32) (x1 : Int32) : Option ((String ⊕ Unit) × AH) :=
  if x0 < 0 then (x_X1_lies_9 g N  h x0 x1) else (if x0 < x1 then (some (.inr (), h)) else (x_X1_lies_9 g N  h x0 x1))
theorem ct_X1_lies (g : AG) (hst : (gL g).stackTraces = false) (N : Nat) : ∀ (h : AH) (x0 : Int32) (x1 : Int32) (q : ((String ⊕ Unit) × AH)), x_X1_lies g N h x0 x1 = some q → CT g YX1_lies 10 [.int x0, .int x1] h (tV q) := by
  intro h x0 x1 q hq
  refine CT.of rfl (by decide +kernel) (loc := [some (.int x0), some (.int x1)]) (by first | exact Nat.le_of_ble_eq_true rfl | (simp only [lgl_rf, lgl_i, lgl_j, lgl_ref, lgl_nil]; exact Nat.le_of_ble_eq_true rfl)) (by first | rfl | (simp only [aent_rf, aent_i, aent_j, aent_ref, aent_nil]; rfl)) ?_
  unfold x_X1_lies at hq
  refine aw_iload_n (i := 0) dX1_lies_0 rfl rfl ?_
  refine aw_if_lt (tgt := 9) dX1_lies_1 (by decide) (fun c1 => ?_) (fun c1 => ?_)
  · rw [if_pos c1] at hq
    exact p_x_X1_lies_9 g hst N   h x0 x1 _ hq
  · rw [if_neg c1] at hq
    refine aw_iload_n (i := 0) dX1_lies_4 rfl rfl ?_
    refine aw_iload_n (i := 1) dX1_lies_5 rfl rfl ?_
    refine aw_icmp_lt (tgt := 19) dX1_lies_6 (by decide) (fun c4 => ?_) (fun c4 => ?_)
    · rw [if_pos c4] at hq
      cases hq
      exact aw_vret dX1_lies_19 rfl ⟨rfl, rfl⟩
    · rw [if_neg c4] at hq
      exact p_x_X1_lies_9 g hst N   h x0 x1 _ hq
