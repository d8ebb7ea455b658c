/-! THE COMPONENT AND THE JDK as functions of the heap, and their contracts: printed by wip gen/dec2.py -/
set_option maxRecDepth 100000
abbrev YJ29_balanceInsertion : YC := (yJ29_balanceInsertion, cJ29_balanceInsertion, 6, (some (.object "java/util/HashMap$TreeNode")), [])
theorem kJ29_balanceInsertion : aMk YJ29_balanceInsertion 2 := ⟨rfl, q1594, q156, ⟨by decide +kernel, by decide +kernel, by decide +kernel⟩, Nat.le_of_ble_eq_true rfl⟩
def x_J29_balanceInsertion_218 (g : AG) (N : Nat) (K5 : AH → Option Nat → Option Nat → Option (Option Nat × AH)) (K14 : AH → Option Nat → Option Nat → Option Nat → Option (Option Nat × AH)) (h : AH) (r0 : Option Nat) (r1 : Option Nat) (r2 : Option Nat) (r3 : Option Nat) (r4 : Option Nat) : Option (Option Nat × AH) :=
  ocase r2 (K5 h r0 r1) (fun a25 => (wrV g h a25 [(12, 10)] (.int (0 : Int32))).bind fun h26 => ocase r3 (K5 h26 r0 r1) (fun a28 => (wrV g h26 a28 [(12, 10)] (.int (1 : Int32))).bind fun h29 => (x_J29_rotateLeft g N h29 r0 (some a28)).bind fun q31 => K5 q31.2 q31.1 r1))
theorem p_x_J29_balanceInsertion_218 (g : AG) (hst : (gL g).stackTraces = false) (N : Nat) (K5 : AH → Option Nat → Option Nat → Option (Option Nat × AH)) (K14 : AH → Option Nat → Option Nat → Option Nat → Option (Option Nat × AH)) (hK5 : ∀ (h : AH) (r0 : Option Nat) (r1 : Option Nat) (q : (Option Nat × AH)), K5 h r0 r1 = some q → AW g YJ29_balanceInsertion 2 (xR q) h [some (va_rf r0), some (va_rf r1), none, none, none, none] 5 []) (hK14 : ∀ (h : AH) (r0 : Option Nat) (r1 : Option Nat) (r2 : Option Nat) (q : (Option Nat × AH)), K14 h r0 r1 r2 = some q → AW g YJ29_balanceInsertion 2 (xR q) h [some (va_rf r0), some (va_rf r1), some (va_rf r2), none, none, none] 14 []) : ∀ (h : AH) (r0 : Option Nat) (r1 : Option Nat) (r2 : Option Nat) (r3 : Option Nat) (r4 : Option Nat) (q : (Option Nat × AH)), x_J29_balanceInsertion_218 g N K5 K14 h r0 r1 r2 r3 r4 = some q → AW g YJ29_balanceInsertion 2 (xR q) h [some (va_rf r0), some (va_rf r1), some (va_rf r2), some (va_rf r3), some (va_rf r4), none] 218 [] := by
  intro h r0 r1 r2 r3 r4 q hq
  unfold x_J29_balanceInsertion_218 at hq
  refine aw_aload_n (i := 2) dJ29_balanceInsertion_218 rfl rfl (aIsR_rf _) ?_
  rcases r2 with _ | a25
  · replace hq := ocase_n hq
    refine xw_ifnullN (tgt := 5) dJ29_balanceInsertion_219 (by decide) ?_
    refine aw_subl (loc' := [some (va_rf r0), some (va_rf r1), none, none, none, none]) ⟨Or.inr rfl, Or.inr rfl, Or.inl rfl, Or.inl rfl, Or.inl rfl, Or.inl rfl, trivial⟩ ?_
    exact hK5 h r0 r1 _ hq
  · replace hq := ocase_s hq
    refine xw_ifnullS (tgt := 5) dJ29_balanceInsertion_219 (by decide) ?_
    refine aw_aload_n (i := 2) dJ29_balanceInsertion_222 rfl rfl trivial ?_
    refine aw_iconst (v := 0) dJ29_balanceInsertion_223 (by decide) ?_
    replace hq := obind hq
    obtain ⟨h26, e27, hq⟩ := hq
    refine xw_put e27 fJ29_93 tJ29_10 (isb_ok (by decide)) dJ29_balanceInsertion_224 ?_
    refine aw_aload_n (i := 3) dJ29_balanceInsertion_227 rfl rfl (aIsR_rf _) ?_
    rcases r3 with _ | a28
    · replace hq := ocase_n hq
      refine xw_ifnullN (tgt := 5) dJ29_balanceInsertion_228 (by decide) ?_
      refine aw_subl (loc' := [some (va_rf r0), some (va_rf r1), none, none, none, none]) ⟨Or.inr rfl, Or.inr rfl, Or.inl rfl, Or.inl rfl, Or.inl rfl, Or.inl rfl, trivial⟩ ?_
      exact hK5 h26 r0 r1 _ hq
    · replace hq := ocase_s hq
      refine xw_ifnullS (tgt := 5) dJ29_balanceInsertion_228 (by decide) ?_
      refine aw_aload_n (i := 3) dJ29_balanceInsertion_231 rfl rfl trivial ?_
      refine aw_iconst (v := 1) dJ29_balanceInsertion_232 (by decide) ?_
      replace hq := obind hq
      obtain ⟨h29, e30, hq⟩ := hq
      refine xw_put e30 fJ29_93 tJ29_10 (isb_ok (by decide)) dJ29_balanceInsertion_233 ?_
      refine aw_aload_n (i := 0) dJ29_balanceInsertion_236 rfl rfl (aIsR_rf _) ?_
      refine aw_aload_n (i := 3) dJ29_balanceInsertion_237 rfl rfl trivial ?_
      replace hq := obind hq
      obtain ⟨q31, e32, hq⟩ := hq
      refine aw_callS (Y2 := YJ29_rotateLeft) (As := [va_rf r0, .ref a28]) (rest := []) kJ29_rotateLeft q1595 q1596 dJ29_balanceInsertion_238 rfl rfl (ct_J29_rotateLeft g hst N h29 r0 (some a28) _ e32) (Nat.le_of_ble_eq_true rfl) (Nat.le_of_ble_eq_true rfl) (fun v9 h9 z9 y9 => ?_)
      obtain ⟨rfl, rfl⟩ := y9
      refine aw_st (st' := [va_rf q31.1]) rfl ?_
      refine aw_astore_n (i := 0) (loc' := [some (va_rf q31.1), some (va_rf r1), some (.ref a25), some (.ref a28), some (va_rf r4), none]) dJ29_balanceInsertion_241 rfl (Nat.le_of_ble_eq_true rfl) (aIsR_rf _) rfl ?_
      refine aw_goto (tgt := 5) dJ29_balanceInsertion_242 (by decide) ?_
      refine aw_subl (loc' := [some (va_rf q31.1), some (va_rf r1), none, none, none, none]) ⟨Or.inr rfl, Or.inr rfl, Or.inl rfl, Or.inl rfl, Or.inl rfl, Or.inl rfl, trivial⟩ ?_
      exact hK5 q31.2 q31.1 r1 _ hq
def x_J29_balanceInsertion_217 (g : AG) (N : Nat) (K5 : AH → Option Nat → Option Nat → Option (Option Nat × AH)) (K14 : AH → Option Nat → Option Nat → Option Nat → Option (Option Nat × AH)) (h : AH) (r0 : Option Nat) (r1 : Option Nat) (r2 : Option Nat) (r3 : Option Nat) (r4 : Option Nat) (t0 : Option Nat) : Option (Option Nat × AH) :=
  x_J29_balanceInsertion_218 g N K5 K14 h r0 r1 r2 t0 r4
theorem p_x_J29_balanceInsertion_217 (g : AG) (hst : (gL g).stackTraces = false) (N : Nat) (K5 : AH → Option Nat → Option Nat → Option (Option Nat × AH)) (K14 : AH → Option Nat → Option Nat → Option Nat → Option (Option Nat × AH)) (hK5 : ∀ (h : AH) (r0 : Option Nat) (r1 : Option Nat) (q : (Option Nat × AH)), K5 h r0 r1 = some q → AW g YJ29_balanceInsertion 2 (xR q) h [some (va_rf r0), some (va_rf r1), none, none, none, none] 5 []) (hK14 : ∀ (h : AH) (r0 : Option Nat) (r1 : Option Nat) (r2 : Option Nat) (q : (Option Nat × AH)), K14 h r0 r1 r2 = some q → AW g YJ29_balanceInsertion 2 (xR q) h [some (va_rf r0), some (va_rf r1), some (va_rf r2), none, none, none] 14 []) : ∀ (h : AH) (r0 : Option Nat) (r1 : Option Nat) (r2 : Option Nat) (r3 : Option Nat) (r4 : Option Nat) (t0 : Option Nat) (q : (Option Nat × AH)), x_J29_balanceInsertion_217 g N K5 K14 h r0 r1 r2 r3 r4 t0 = some q → AW g YJ29_balanceInsertion 2 (xR q) h [some (va_rf r0), some (va_rf r1), some (va_rf r2), some (va_rf r3), some (va_rf r4), none] 217 [va_rf t0] := by
  intro h r0 r1 r2 r3 r4 t0 q hq
  unfold x_J29_balanceInsertion_217 at hq
  refine aw_astore_n (i := 3) (loc' := [some (va_rf r0), some (va_rf r1), some (va_rf r2), some (va_rf t0), some (va_rf r4), none]) dJ29_balanceInsertion_217 rfl (Nat.le_of_ble_eq_true rfl) (aIsR_rf _) (aset1_rf rfl) ?_
  exact p_x_J29_balanceInsertion_218 g hst N _ _ hK5 hK14 h r0 r1 r2 t0 r4 _ hq
def x_J29_balanceInsertion_184 (g : AG) (N : Nat) (K5 : AH → Option Nat → Option Nat → Option (Option Nat × AH)) (K14 : AH → Option Nat → Option Nat → Option Nat → Option (Option Nat × AH)) (h : AH) (r0 : Option Nat) (r1 : Option Nat) (r2 : Option Nat) (r3 : Option Nat) (r4 : Option Nat) : Option (Option Nat × AH) :=
  (r2).bind fun a20 => (rdR h a20 [(12, 7)]).bind fun o22 => if r1 = o22 then ((x_J29_rotateRight g N h r0 (some a20)).bind fun q33 => (rdR q33.2 a20 [(12, 6)]).bind fun o35 => ocase o35 (x_J29_balanceInsertion_217 g N K5 K14 q33.2 q33.1 (some a20) (none) r3 r4 (none)) (fun a37 => (rdR q33.2 a37 [(12, 6)]).bind fun o38 => x_J29_balanceInsertion_217 g N K5 K14 q33.2 q33.1 (some a20) (some a37) r3 r4 o38)) else (x_J29_balanceInsertion_218 g N K5 K14 h r0 r1 (some a20) r3 r4)
theorem p_x_J29_balanceInsertion_184 (g : AG) (hst : (gL g).stackTraces = false) (N : Nat) (K5 : AH → Option Nat → Option Nat → Option (Option Nat × AH)) (K14 : AH → Option Nat → Option Nat → Option Nat → Option (Option Nat × AH)) (hK5 : ∀ (h : AH) (r0 : Option Nat) (r1 : Option Nat) (q : (Option Nat × AH)), K5 h r0 r1 = some q → AW g YJ29_balanceInsertion 2 (xR q) h [some (va_rf r0), some (va_rf r1), none, none, none, none] 5 []) (hK14 : ∀ (h : AH) (r0 : Option Nat) (r1 : Option Nat) (r2 : Option Nat) (q : (Option Nat × AH)), K14 h r0 r1 r2 = some q → AW g YJ29_balanceInsertion 2 (xR q) h [some (va_rf r0), some (va_rf r1), some (va_rf r2), none, none, none] 14 []) : ∀ (h : AH) (r0 : Option Nat) (r1 : Option Nat) (r2 : Option Nat) (r3 : Option Nat) (r4 : Option Nat) (q : (Option Nat × AH)), x_J29_balanceInsertion_184 g N K5 K14 h r0 r1 r2 r3 r4 = some q → AW g YJ29_balanceInsertion 2 (xR q) h [some (va_rf r0), some (va_rf r1), some (va_rf r2), some (va_rf r3), some (va_rf r4), none] 184 [] := by
  intro h r0 r1 r2 r3 r4 q hq
  unfold x_J29_balanceInsertion_184 at hq
  refine aw_aload_n (i := 1) dJ29_balanceInsertion_184 rfl rfl (aIsR_rf _) ?_
  refine aw_aload_n (i := 2) dJ29_balanceInsertion_185 rfl rfl (aIsR_rf _) ?_
  replace hq := obind hq
  obtain ⟨a20, e21, hq⟩ := hq
  subst e21
  replace hq := obind hq
  obtain ⟨o22, e23, hq⟩ := hq
  refine xw_getR e23 fJ29_39 dJ29_balanceInsertion_186 ?_
  refine xw_acmp_ne (v := r1) (w := o22) (tgt := 218) dJ29_balanceInsertion_189 (by decide) (fun c24 => ?_) (fun c24 => ?_)
  · rw [if_neg c24] at hq
    exact p_x_J29_balanceInsertion_218 g hst N _ _ hK5 hK14 h r0 r1 (some a20) r3 r4 _ hq
  · rw [if_pos c24] at hq
    refine aw_aload_n (i := 0) dJ29_balanceInsertion_192 rfl rfl (aIsR_rf _) ?_
    refine aw_aload_n (i := 2) dJ29_balanceInsertion_193 rfl rfl trivial ?_
    refine aw_dup dJ29_balanceInsertion_194 rfl ?_
    refine aw_astore_n (i := 1) (loc' := [some (va_rf r0), some (.ref a20), some (.ref a20), some (va_rf r3), some (va_rf r4), none]) dJ29_balanceInsertion_195 rfl (Nat.le_of_ble_eq_true rfl) trivial (aset1_rf rfl) ?_
    replace hq := obind hq
    obtain ⟨q33, e34, hq⟩ := hq
    refine aw_callS (Y2 := YJ29_rotateRight) (As := [va_rf r0, .ref a20]) (rest := []) kJ29_rotateRight q1598 q1599 dJ29_balanceInsertion_196 rfl rfl (ct_J29_rotateRight g hst N h r0 (some a20) _ e34) (Nat.le_of_ble_eq_true rfl) (Nat.le_of_ble_eq_true rfl) (fun v9 h9 z9 y9 => ?_)
    obtain ⟨rfl, rfl⟩ := y9
    refine aw_st (st' := [va_rf q33.1]) rfl ?_
    refine aw_astore_n (i := 0) (loc' := [some (va_rf q33.1), some (.ref a20), some (.ref a20), some (va_rf r3), some (va_rf r4), none]) dJ29_balanceInsertion_199 rfl (Nat.le_of_ble_eq_true rfl) (aIsR_rf _) rfl ?_
    refine aw_aload_n (i := 1) dJ29_balanceInsertion_200 rfl rfl trivial ?_
    replace hq := obind hq
    obtain ⟨o35, e36, hq⟩ := hq
    refine xw_getR e36 fJ29_9 dJ29_balanceInsertion_201 ?_
    refine aw_dup dJ29_balanceInsertion_204 (cat_rf _) ?_
    refine aw_astore_n (i := 2) (loc' := [some (va_rf q33.1), some (.ref a20), some (va_rf o35), some (va_rf r3), some (va_rf r4), none]) dJ29_balanceInsertion_205 rfl (Nat.le_of_ble_eq_true rfl) (aIsR_rf _) rfl ?_
    rcases o35 with _ | a37
    · replace hq := ocase_n hq
      refine xw_ifnonN (tgt := 213) dJ29_balanceInsertion_206 (by decide) ?_
      refine aw_null dJ29_balanceInsertion_209 ?_
      refine aw_goto (tgt := 217) dJ29_balanceInsertion_210 (by decide) ?_
      exact p_x_J29_balanceInsertion_217 g hst N _ _ hK5 hK14 q33.2 q33.1 (some a20) (none) r3 r4 (none) _ hq
    · replace hq := ocase_s hq
      refine xw_ifnonS (tgt := 213) dJ29_balanceInsertion_206 (by decide) ?_
      refine aw_aload_n (i := 2) dJ29_balanceInsertion_213 rfl rfl trivial ?_
      replace hq := obind hq
      obtain ⟨o38, e39, hq⟩ := hq
      refine xw_getR e39 fJ29_9 dJ29_balanceInsertion_214 ?_
      exact p_x_J29_balanceInsertion_217 g hst N _ _ hK5 hK14 q33.2 q33.1 (some a20) (some a37) r3 r4 o38 _ hq
def x_J29_balanceInsertion_123 (g : AG) (N : Nat) (K5 : AH → Option Nat → Option Nat → Option (Option Nat × AH)) (K14 : AH → Option Nat → Option Nat → Option Nat → Option (Option Nat × AH)) (h : AH) (r0 : Option Nat) (r1 : Option Nat) (r2 : Option Nat) (r3 : Option Nat) (r4 : Option Nat) (r5 : Option Nat) : Option (Option Nat × AH) :=
  ocase r2 (K5 h r0 r1) (fun a57 => (wrV g h a57 [(12, 10)] (.int (0 : Int32))).bind fun h58 => ocase r3 (K5 h58 r0 r1) (fun a60 => (wrV g h58 a60 [(12, 10)] (.int (1 : Int32))).bind fun h61 => (x_J29_rotateRight g N h61 r0 (some a60)).bind fun q63 => K5 q63.2 q63.1 r1))
theorem p_x_J29_balanceInsertion_123 (g : AG) (hst : (gL g).stackTraces = false) (N : Nat) (K5 : AH → Option Nat → Option Nat → Option (Option Nat × AH)) (K14 : AH → Option Nat → Option Nat → Option Nat → Option (Option Nat × AH)) (hK5 : ∀ (h : AH) (r0 : Option Nat) (r1 : Option Nat) (q : (Option Nat × AH)), K5 h r0 r1 = some q → AW g YJ29_balanceInsertion 2 (xR q) h [some (va_rf r0), some (va_rf r1), none, none, none, none] 5 []) (hK14 : ∀ (h : AH) (r0 : Option Nat) (r1 : Option Nat) (r2 : Option Nat) (q : (Option Nat × AH)), K14 h r0 r1 r2 = some q → AW g YJ29_balanceInsertion 2 (xR q) h [some (va_rf r0), some (va_rf r1), some (va_rf r2), none, none, none] 14 []) : ∀ (h : AH) (r0 : Option Nat) (r1 : Option Nat) (r2 : Option Nat) (r3 : Option Nat) (r4 : Option Nat) (r5 : Option Nat) (q : (Option Nat × AH)), x_J29_balanceInsertion_123 g N K5 K14 h r0 r1 r2 r3 r4 r5 = some q → AW g YJ29_balanceInsertion 2 (xR q) h [some (va_rf r0), some (va_rf r1), some (va_rf r2), some (va_rf r3), some (va_rf r4), some (va_rf r5)] 123 [] := by
  intro h r0 r1 r2 r3 r4 r5 q hq
  unfold x_J29_balanceInsertion_123 at hq
  refine aw_aload_n (i := 2) dJ29_balanceInsertion_123 rfl rfl (aIsR_rf _) ?_
  rcases r2 with _ | a57
  · replace hq := ocase_n hq
    refine xw_ifnullN (tgt := 5) dJ29_balanceInsertion_124 (by decide) ?_
    refine aw_subl (loc' := [some (va_rf r0), some (va_rf r1), none, none, none, none]) ⟨Or.inr rfl, Or.inr rfl, Or.inl rfl, Or.inl rfl, Or.inl rfl, Or.inl rfl, trivial⟩ ?_
    exact hK5 h r0 r1 _ hq
  · replace hq := ocase_s hq
    refine xw_ifnullS (tgt := 5) dJ29_balanceInsertion_124 (by decide) ?_
    refine aw_aload_n (i := 2) dJ29_balanceInsertion_127 rfl rfl trivial ?_
    refine aw_iconst (v := 0) dJ29_balanceInsertion_128 (by decide) ?_
    replace hq := obind hq
    obtain ⟨h58, e59, hq⟩ := hq
    refine xw_put e59 fJ29_93 tJ29_10 (isb_ok (by decide)) dJ29_balanceInsertion_129 ?_
    refine aw_aload_n (i := 3) dJ29_balanceInsertion_132 rfl rfl (aIsR_rf _) ?_
    rcases r3 with _ | a60
    · replace hq := ocase_n hq
      refine xw_ifnullN (tgt := 5) dJ29_balanceInsertion_133 (by decide) ?_
      refine aw_subl (loc' := [some (va_rf r0), some (va_rf r1), none, none, none, none]) ⟨Or.inr rfl, Or.inr rfl, Or.inl rfl, Or.inl rfl, Or.inl rfl, Or.inl rfl, trivial⟩ ?_
      exact hK5 h58 r0 r1 _ hq
    · replace hq := ocase_s hq
      refine xw_ifnullS (tgt := 5) dJ29_balanceInsertion_133 (by decide) ?_
      refine aw_aload_n (i := 3) dJ29_balanceInsertion_136 rfl rfl trivial ?_
      refine aw_iconst (v := 1) dJ29_balanceInsertion_137 (by decide) ?_
      replace hq := obind hq
      obtain ⟨h61, e62, hq⟩ := hq
      refine xw_put e62 fJ29_93 tJ29_10 (isb_ok (by decide)) dJ29_balanceInsertion_138 ?_
      refine aw_aload_n (i := 0) dJ29_balanceInsertion_141 rfl rfl (aIsR_rf _) ?_
      refine aw_aload_n (i := 3) dJ29_balanceInsertion_142 rfl rfl trivial ?_
      replace hq := obind hq
      obtain ⟨q63, e64, hq⟩ := hq
      refine aw_callS (Y2 := YJ29_rotateRight) (As := [va_rf r0, .ref a60]) (rest := []) kJ29_rotateRight q1598 q1599 dJ29_balanceInsertion_143 rfl rfl (ct_J29_rotateRight g hst N h61 r0 (some a60) _ e64) (Nat.le_of_ble_eq_true rfl) (Nat.le_of_ble_eq_true rfl) (fun v9 h9 z9 y9 => ?_)
      obtain ⟨rfl, rfl⟩ := y9
      refine aw_st (st' := [va_rf q63.1]) rfl ?_
      refine aw_astore_n (i := 0) (loc' := [some (va_rf q63.1), some (va_rf r1), some (.ref a57), some (.ref a60), some (va_rf r4), some (va_rf r5)]) dJ29_balanceInsertion_146 rfl (Nat.le_of_ble_eq_true rfl) (aIsR_rf _) rfl ?_
      refine aw_goto (tgt := 5) dJ29_balanceInsertion_147 (by decide) ?_
      refine aw_subl (loc' := [some (va_rf q63.1), some (va_rf r1), none, none, none, none]) ⟨Or.inr rfl, Or.inr rfl, Or.inl rfl, Or.inl rfl, Or.inl rfl, Or.inl rfl, trivial⟩ ?_
      exact hK5 q63.2 q63.1 r1 _ hq
def x_J29_balanceInsertion_122 (g : AG) (N : Nat) (K5 : AH → Option Nat → Option Nat → Option (Option Nat × AH)) (K14 : AH → Option Nat → Option Nat → Option Nat → Option (Option Nat × AH)) (h : AH) (r0 : Option Nat) (r1 : Option Nat) (r2 : Option Nat) (r3 : Option Nat) (r4 : Option Nat) (r5 : Option Nat) (t0 : Option Nat) : Option (Option Nat × AH) :=
  x_J29_balanceInsertion_123 g N K5 K14 h r0 r1 r2 t0 r4 r5
theorem p_x_J29_balanceInsertion_122 (g : AG) (hst : (gL g).stackTraces = false) (N : Nat) (K5 : AH → Option Nat → Option Nat → Option (Option Nat × AH)) (K14 : AH → Option Nat → Option Nat → Option Nat → Option (Option Nat × AH)) (hK5 : ∀ (h : AH) (r0 : Option Nat) (r1 : Option Nat) (q : (Option Nat × AH)), K5 h r0 r1 = some q → AW g YJ29_balanceInsertion 2 (xR q) h [some (va_rf r0), some (va_rf r1), none, none, none, none] 5 []) (hK14 : ∀ (h : AH) (r0 : Option Nat) (r1 : Option Nat) (r2 : Option Nat) (q : (Option Nat × AH)), K14 h r0 r1 r2 = some q → AW g YJ29_balanceInsertion 2 (xR q) h [some (va_rf r0), some (va_rf r1), some (va_rf r2), none, none, none] 14 []) : ∀ (h : AH) (r0 : Option Nat) (r1 : Option Nat) (r2 : Option Nat) (r3 : Option Nat) (r4 : Option Nat) (r5 : Option Nat) (t0 : Option Nat) (q : (Option Nat × AH)), x_J29_balanceInsertion_122 g N K5 K14 h r0 r1 r2 r3 r4 r5 t0 = some q → AW g YJ29_balanceInsertion 2 (xR q) h [some (va_rf r0), some (va_rf r1), some (va_rf r2), some (va_rf r3), some (va_rf r4), some (va_rf r5)] 122 [va_rf t0] := by
  intro h r0 r1 r2 r3 r4 r5 t0 q hq
  unfold x_J29_balanceInsertion_122 at hq
  refine aw_astore_n (i := 3) (loc' := [some (va_rf r0), some (va_rf r1), some (va_rf r2), some (va_rf t0), some (va_rf r4), some (va_rf r5)]) dJ29_balanceInsertion_122 rfl (Nat.le_of_ble_eq_true rfl) (aIsR_rf _) (aset1_rf rfl) ?_
  exact p_x_J29_balanceInsertion_123 g hst N _ _ hK5 hK14 h r0 r1 r2 t0 r4 r5 _ hq
def x_J29_balanceInsertion_89 (g : AG) (N : Nat) (K5 : AH → Option Nat → Option Nat → Option (Option Nat × AH)) (K14 : AH → Option Nat → Option Nat → Option Nat → Option (Option Nat × AH)) (h : AH) (r0 : Option Nat) (r1 : Option Nat) (r2 : Option Nat) (r3 : Option Nat) (r4 : Option Nat) (r5 : Option Nat) : Option (Option Nat × AH) :=
  (r2).bind fun a52 => (rdR h a52 [(12, 8)]).bind fun o54 => if r1 = o54 then ((x_J29_rotateLeft g N h r0 (some a52)).bind fun q65 => (rdR q65.2 a52 [(12, 6)]).bind fun o67 => ocase o67 (x_J29_balanceInsertion_122 g N K5 K14 q65.2 q65.1 (some a52) (none) r3 r4 r5 (none)) (fun a69 => (rdR q65.2 a69 [(12, 6)]).bind fun o70 => x_J29_balanceInsertion_122 g N K5 K14 q65.2 q65.1 (some a52) (some a69) r3 r4 r5 o70)) else (x_J29_balanceInsertion_123 g N K5 K14 h r0 r1 (some a52) r3 r4 r5)
theorem p_x_J29_balanceInsertion_89 (g : AG) (hst : (gL g).stackTraces = false) (N : Nat) (K5 : AH → Option Nat → Option Nat → Option (Option Nat × AH)) (K14 : AH → Option Nat → Option Nat → Option Nat → Option (Option Nat × AH)) (hK5 : ∀ (h : AH) (r0 : Option Nat) (r1 : Option Nat) (q : (Option Nat × AH)), K5 h r0 r1 = some q → AW g YJ29_balanceInsertion 2 (xR q) h [some (va_rf r0), some (va_rf r1), none, none, none, none] 5 []) (hK14 : ∀ (h : AH) (r0 : Option Nat) (r1 : Option Nat) (r2 : Option Nat) (q : (Option Nat × AH)), K14 h r0 r1 r2 = some q → AW g YJ29_balanceInsertion 2 (xR q) h [some (va_rf r0), some (va_rf r1), some (va_rf r2), none, none, none] 14 []) : ∀ (h : AH) (r0 : Option Nat) (r1 : Option Nat) (r2 : Option Nat) (r3 : Option Nat) (r4 : Option Nat) (r5 : Option Nat) (q : (Option Nat × AH)), x_J29_balanceInsertion_89 g N K5 K14 h r0 r1 r2 r3 r4 r5 = some q → AW g YJ29_balanceInsertion 2 (xR q) h [some (va_rf r0), some (va_rf r1), some (va_rf r2), some (va_rf r3), some (va_rf r4), some (va_rf r5)] 89 [] := by
  intro h r0 r1 r2 r3 r4 r5 q hq
  unfold x_J29_balanceInsertion_89 at hq
  refine aw_aload_n (i := 1) dJ29_balanceInsertion_89 rfl rfl (aIsR_rf _) ?_
  refine aw_aload_n (i := 2) dJ29_balanceInsertion_90 rfl rfl (aIsR_rf _) ?_
  replace hq := obind hq
  obtain ⟨a52, e53, hq⟩ := hq
  subst e53
  replace hq := obind hq
  obtain ⟨o54, e55, hq⟩ := hq
  refine xw_getR e55 fJ29_42 dJ29_balanceInsertion_91 ?_
  refine xw_acmp_ne (v := r1) (w := o54) (tgt := 123) dJ29_balanceInsertion_94 (by decide) (fun c56 => ?_) (fun c56 => ?_)
  · rw [if_neg c56] at hq
    exact p_x_J29_balanceInsertion_123 g hst N _ _ hK5 hK14 h r0 r1 (some a52) r3 r4 r5 _ hq
  · rw [if_pos c56] at hq
    refine aw_aload_n (i := 0) dJ29_balanceInsertion_97 rfl rfl (aIsR_rf _) ?_
    refine aw_aload_n (i := 2) dJ29_balanceInsertion_98 rfl rfl trivial ?_
    refine aw_dup dJ29_balanceInsertion_99 rfl ?_
    refine aw_astore_n (i := 1) (loc' := [some (va_rf r0), some (.ref a52), some (.ref a52), some (va_rf r3), some (va_rf r4), some (va_rf r5)]) dJ29_balanceInsertion_100 rfl (Nat.le_of_ble_eq_true rfl) trivial (aset1_rf rfl) ?_
    replace hq := obind hq
    obtain ⟨q65, e66, hq⟩ := hq
    refine aw_callS (Y2 := YJ29_rotateLeft) (As := [va_rf r0, .ref a52]) (rest := []) kJ29_rotateLeft q1595 q1596 dJ29_balanceInsertion_101 rfl rfl (ct_J29_rotateLeft g hst N h r0 (some a52) _ e66) (Nat.le_of_ble_eq_true rfl) (Nat.le_of_ble_eq_true rfl) (fun v9 h9 z9 y9 => ?_)
    obtain ⟨rfl, rfl⟩ := y9
    refine aw_st (st' := [va_rf q65.1]) rfl ?_
    refine aw_astore_n (i := 0) (loc' := [some (va_rf q65.1), some (.ref a52), some (.ref a52), some (va_rf r3), some (va_rf r4), some (va_rf r5)]) dJ29_balanceInsertion_104 rfl (Nat.le_of_ble_eq_true rfl) (aIsR_rf _) rfl ?_
    refine aw_aload_n (i := 1) dJ29_balanceInsertion_105 rfl rfl trivial ?_
    replace hq := obind hq
    obtain ⟨o67, e68, hq⟩ := hq
    refine xw_getR e68 fJ29_9 dJ29_balanceInsertion_106 ?_
    refine aw_dup dJ29_balanceInsertion_109 (cat_rf _) ?_
    refine aw_astore_n (i := 2) (loc' := [some (va_rf q65.1), some (.ref a52), some (va_rf o67), some (va_rf r3), some (va_rf r4), some (va_rf r5)]) dJ29_balanceInsertion_110 rfl (Nat.le_of_ble_eq_true rfl) (aIsR_rf _) rfl ?_
    rcases o67 with _ | a69
    · replace hq := ocase_n hq
      refine xw_ifnonN (tgt := 118) dJ29_balanceInsertion_111 (by decide) ?_
      refine aw_null dJ29_balanceInsertion_114 ?_
      refine aw_goto (tgt := 122) dJ29_balanceInsertion_115 (by decide) ?_
      exact p_x_J29_balanceInsertion_122 g hst N _ _ hK5 hK14 q65.2 q65.1 (some a52) (none) r3 r4 r5 (none) _ hq
    · replace hq := ocase_s hq
      refine xw_ifnonS (tgt := 118) dJ29_balanceInsertion_111 (by decide) ?_
      refine aw_aload_n (i := 2) dJ29_balanceInsertion_118 rfl rfl trivial ?_
      replace hq := obind hq
      obtain ⟨o70, e71, hq⟩ := hq
      refine xw_getR e71 fJ29_9 dJ29_balanceInsertion_119 ?_
      exact p_x_J29_balanceInsertion_122 g hst N _ _ hK5 hK14 q65.2 q65.1 (some a52) (some a69) r3 r4 r5 o70 _ hq
def x_J29_balanceInsertion_5 (g : AG) (N : Nat) (K14 : AH → Option Nat → Option Nat → Option Nat → Option (Option Nat × AH)) : Nat → AH → Option Nat → Option Nat → Option (Option Nat × AH)
  | 0, _, _, _ => none
  | n9 + 1, h, r0, r1 =>
  (r1).bind fun a5 => (rdR h a5 [(12, 6)]).bind fun o7 => ocase o7 (K14 h r0 (some a5) (none)) (fun a9 => (rdI h a9 [(12, 10)]).bind fun i10 => if i10 = 0 then (some (r0, h)) else ((rdR h a9 [(12, 6)]).bind fun o13 => ocase o13 (some (r0, h)) (fun a15 => (rdR h a15 [(12, 7)]).bind fun o16 => if (some a9) = o16 then ((rdR h a15 [(12, 8)]).bind fun o49 => ocase o49 (x_J29_balanceInsertion_89 g N (fun h r0 r1 => x_J29_balanceInsertion_5 g N K14 n9 h r0 r1) K14 h r0 (some a5) (some a9) (some a15) o16 (none)) (fun a51 => (rdI h a51 [(12, 10)]).bind fun i72 => if i72 = 0 then (x_J29_balanceInsertion_89 g N (fun h r0 r1 => x_J29_balanceInsertion_5 g N K14 n9 h r0 r1) K14 h r0 (some a5) (some a9) (some a15) o16 (some a51)) else ((wrV g h a51 [(12, 10)] (.int (0 : Int32))).bind fun h75 => (wrV g h75 a9 [(12, 10)] (.int (0 : Int32))).bind fun h77 => (wrV g h77 a15 [(12, 10)] (.int (1 : Int32))).bind fun h79 => x_J29_balanceInsertion_5 g N K14 n9 h79 r0 (some a15)))) else (ocase o16 (x_J29_balanceInsertion_184 g N (fun h r0 r1 => x_J29_balanceInsertion_5 g N K14 n9 h r0 r1) K14 h r0 (some a5) (some a9) (some a15) (none)) (fun a19 => (rdI h a19 [(12, 10)]).bind fun i40 => if i40 = 0 then (x_J29_balanceInsertion_184 g N (fun h r0 r1 => x_J29_balanceInsertion_5 g N K14 n9 h r0 r1) K14 h r0 (some a5) (some a9) (some a15) (some a19)) else ((wrV g h a19 [(12, 10)] (.int (0 : Int32))).bind fun h43 => (wrV g h43 a9 [(12, 10)] (.int (0 : Int32))).bind fun h45 => (wrV g h45 a15 [(12, 10)] (.int (1 : Int32))).bind fun h47 => x_J29_balanceInsertion_5 g N K14 n9 h47 r0 (some a15)))))))
theorem p_x_J29_balanceInsertion_5 (g : AG) (hst : (gL g).stackTraces = false) (N : Nat) (K14 : AH → Option Nat → Option Nat → Option Nat → Option (Option Nat × AH)) (hK14 : ∀ (h : AH) (r0 : Option Nat) (r1 : Option Nat) (r2 : Option Nat) (q : (Option Nat × AH)), K14 h r0 r1 r2 = some q → AW g YJ29_balanceInsertion 2 (xR q) h [some (va_rf r0), some (va_rf r1), some (va_rf r2), none, none, none] 14 []) : ∀ (n9 : Nat) (h : AH) (r0 : Option Nat) (r1 : Option Nat) (q : (Option Nat × AH)), x_J29_balanceInsertion_5 g N K14 n9 h r0 r1 = some q → AW g YJ29_balanceInsertion 2 (xR q) h [some (va_rf r0), some (va_rf r1), none, none, none, none] 5 [] := by
  intro n9
  induction n9 with
  | zero =>
    intro h r0 r1 q hq
    cases hq
  | succ n9 ih =>
    intro h r0 r1 q hq
    rw [x_J29_balanceInsertion_5] at hq
    refine aw_aload_n (i := 1) dJ29_balanceInsertion_5 rfl rfl (aIsR_rf _) ?_
    replace hq := obind hq
    obtain ⟨a5, e6, hq⟩ := hq
    subst e6
    replace hq := obind hq
    obtain ⟨o7, e8, hq⟩ := hq
    refine xw_getR e8 fJ29_9 dJ29_balanceInsertion_6 ?_
    refine aw_dup dJ29_balanceInsertion_9 (cat_rf _) ?_
    refine aw_astore_n (i := 2) (loc' := [some (va_rf r0), some (.ref a5), some (va_rf o7), none, none, none]) dJ29_balanceInsertion_10 rfl (Nat.le_of_ble_eq_true rfl) (aIsR_rf _) rfl ?_
    rcases o7 with _ | a9
    · replace hq := ocase_n hq
      refine xw_ifnonN (tgt := 21) dJ29_balanceInsertion_11 (by decide) ?_
      exact hK14 h r0 (some a5) (none) _ hq
    · replace hq := ocase_s hq
      refine xw_ifnonS (tgt := 21) dJ29_balanceInsertion_11 (by decide) ?_
      refine aw_aload_n (i := 2) dJ29_balanceInsertion_21 rfl rfl trivial ?_
      replace hq := obind hq
      obtain ⟨i10, e11, hq⟩ := hq
      refine xw_getI e11 fJ29_93 dJ29_balanceInsertion_22 ?_
      refine aw_if_eq (tgt := 37) dJ29_balanceInsertion_25 (by decide) (fun c12 => ?_) (fun c12 => ?_)
      · rw [if_pos c12] at hq
        refine aw_aload_n (i := 0) dJ29_balanceInsertion_37 rfl rfl (aIsR_rf _) ?_
        cases hq
        exact aw_areturn dJ29_balanceInsertion_38 rfl (Or.inl ⟨_, rfl⟩) (aIsR_rf _) ⟨rfl, rfl⟩
      · rw [if_neg c12] at hq
        refine aw_aload_n (i := 2) dJ29_balanceInsertion_28 rfl rfl trivial ?_
        replace hq := obind hq
        obtain ⟨o13, e14, hq⟩ := hq
        refine xw_getR e14 fJ29_9 dJ29_balanceInsertion_29 ?_
        refine aw_dup dJ29_balanceInsertion_32 (cat_rf _) ?_
        refine aw_astore_n (i := 3) (loc' := [some (va_rf r0), some (.ref a5), some (.ref a9), some (va_rf o13), none, none]) dJ29_balanceInsertion_33 rfl (Nat.le_of_ble_eq_true rfl) (aIsR_rf _) rfl ?_
        rcases o13 with _ | a15
        · replace hq := ocase_n hq
          refine xw_ifnonN (tgt := 39) dJ29_balanceInsertion_34 (by decide) ?_
          refine aw_aload_n (i := 0) dJ29_balanceInsertion_37 rfl rfl (aIsR_rf _) ?_
          cases hq
          exact aw_areturn dJ29_balanceInsertion_38 rfl (Or.inl ⟨_, rfl⟩) (aIsR_rf _) ⟨rfl, rfl⟩
        · replace hq := ocase_s hq
          refine xw_ifnonS (tgt := 39) dJ29_balanceInsertion_34 (by decide) ?_
          refine aw_aload_n (i := 2) dJ29_balanceInsertion_39 rfl rfl trivial ?_
          refine aw_aload_n (i := 3) dJ29_balanceInsertion_40 rfl rfl trivial ?_
          replace hq := obind hq
          obtain ⟨o16, e17, hq⟩ := hq
          refine xw_getR e17 fJ29_39 dJ29_balanceInsertion_41 ?_
          refine aw_dup dJ29_balanceInsertion_44 (cat_rf _) ?_
          refine aw_astore (loc' := [some (va_rf r0), some (.ref a5), some (.ref a9), some (.ref a15), some (va_rf o16), none]) dJ29_balanceInsertion_45 (Nat.le_of_ble_eq_true rfl) (aIsR_rf _) rfl ?_
          refine xw_acmp_ne (v := (some a9)) (w := o16) (tgt := 150) dJ29_balanceInsertion_47 (by decide) (fun c18 => ?_) (fun c18 => ?_)
          · rw [if_neg c18] at hq
            refine aw_aload dJ29_balanceInsertion_150 rfl (aIsR_rf _) ?_
            rcases o16 with _ | a19
            · replace hq := ocase_n hq
              refine xw_ifnullN (tgt := 184) dJ29_balanceInsertion_152 (by decide) ?_
              exact p_x_J29_balanceInsertion_184 g hst N _ _ ih hK14 h r0 (some a5) (some a9) (some a15) (none) _ hq
            · replace hq := ocase_s hq
              refine xw_ifnullS (tgt := 184) dJ29_balanceInsertion_152 (by decide) ?_
              refine aw_aload dJ29_balanceInsertion_155 rfl trivial ?_
              replace hq := obind hq
              obtain ⟨i40, e41, hq⟩ := hq
              refine xw_getI e41 fJ29_93 dJ29_balanceInsertion_157 ?_
              refine aw_if_eq (tgt := 184) dJ29_balanceInsertion_160 (by decide) (fun c42 => ?_) (fun c42 => ?_)
              · rw [if_pos c42] at hq
                exact p_x_J29_balanceInsertion_184 g hst N _ _ ih hK14 h r0 (some a5) (some a9) (some a15) (some a19) _ hq
              · rw [if_neg c42] at hq
                refine aw_aload dJ29_balanceInsertion_163 rfl trivial ?_
                refine aw_iconst (v := 0) dJ29_balanceInsertion_165 (by decide) ?_
                replace hq := obind hq
                obtain ⟨h43, e44, hq⟩ := hq
                refine xw_put e44 fJ29_93 tJ29_10 (isb_ok (by decide)) dJ29_balanceInsertion_166 ?_
                refine aw_aload_n (i := 2) dJ29_balanceInsertion_169 rfl rfl trivial ?_
                refine aw_iconst (v := 0) dJ29_balanceInsertion_170 (by decide) ?_
                replace hq := obind hq
                obtain ⟨h45, e46, hq⟩ := hq
                refine xw_put e46 fJ29_93 tJ29_10 (isb_ok (by decide)) dJ29_balanceInsertion_171 ?_
                refine aw_aload_n (i := 3) dJ29_balanceInsertion_174 rfl rfl trivial ?_
                refine aw_iconst (v := 1) dJ29_balanceInsertion_175 (by decide) ?_
                replace hq := obind hq
                obtain ⟨h47, e48, hq⟩ := hq
                refine xw_put e48 fJ29_93 tJ29_10 (isb_ok (by decide)) dJ29_balanceInsertion_176 ?_
                refine aw_aload_n (i := 3) dJ29_balanceInsertion_179 rfl rfl trivial ?_
                refine aw_astore_n (i := 1) (loc' := [some (va_rf r0), some (.ref a15), some (.ref a9), some (.ref a15), some (.ref a19), none]) dJ29_balanceInsertion_180 rfl (Nat.le_of_ble_eq_true rfl) trivial (aset1_rf rfl) ?_
                refine aw_goto (tgt := 5) dJ29_balanceInsertion_181 (by decide) ?_
                refine aw_subl (loc' := [some (va_rf r0), some (.ref a15), none, none, none, none]) ⟨Or.inr rfl, Or.inr rfl, Or.inl rfl, Or.inl rfl, Or.inl rfl, Or.inl rfl, trivial⟩ ?_
                exact ih h47 r0 (some a15) _ hq
          · rw [if_pos c18] at hq
            refine aw_aload_n (i := 3) dJ29_balanceInsertion_50 rfl rfl trivial ?_
            replace hq := obind hq
            obtain ⟨o49, e50, hq⟩ := hq
            refine xw_getR e50 fJ29_42 dJ29_balanceInsertion_51 ?_
            refine aw_dup dJ29_balanceInsertion_54 (cat_rf _) ?_
            refine aw_astore (loc' := [some (va_rf r0), some (.ref a5), some (.ref a9), some (.ref a15), some (va_rf o16), some (va_rf o49)]) dJ29_balanceInsertion_55 (Nat.le_of_ble_eq_true rfl) (aIsR_rf _) (aset1_rf rfl) ?_
            rcases o49 with _ | a51
            · replace hq := ocase_n hq
              refine xw_ifnullN (tgt := 89) dJ29_balanceInsertion_57 (by decide) ?_
              exact p_x_J29_balanceInsertion_89 g hst N _ _ ih hK14 h r0 (some a5) (some a9) (some a15) o16 (none) _ hq
            · replace hq := ocase_s hq
              refine xw_ifnullS (tgt := 89) dJ29_balanceInsertion_57 (by decide) ?_
              refine aw_aload dJ29_balanceInsertion_60 rfl trivial ?_
              replace hq := obind hq
              obtain ⟨i72, e73, hq⟩ := hq
              refine xw_getI e73 fJ29_93 dJ29_balanceInsertion_62 ?_
              refine aw_if_eq (tgt := 89) dJ29_balanceInsertion_65 (by decide) (fun c74 => ?_) (fun c74 => ?_)
              · rw [if_pos c74] at hq
                exact p_x_J29_balanceInsertion_89 g hst N _ _ ih hK14 h r0 (some a5) (some a9) (some a15) o16 (some a51) _ hq
              · rw [if_neg c74] at hq
                refine aw_aload dJ29_balanceInsertion_68 rfl trivial ?_
                refine aw_iconst (v := 0) dJ29_balanceInsertion_70 (by decide) ?_
                replace hq := obind hq
                obtain ⟨h75, e76, hq⟩ := hq
                refine xw_put e76 fJ29_93 tJ29_10 (isb_ok (by decide)) dJ29_balanceInsertion_71 ?_
                refine aw_aload_n (i := 2) dJ29_balanceInsertion_74 rfl rfl trivial ?_
                refine aw_iconst (v := 0) dJ29_balanceInsertion_75 (by decide) ?_
                replace hq := obind hq
                obtain ⟨h77, e78, hq⟩ := hq
                refine xw_put e78 fJ29_93 tJ29_10 (isb_ok (by decide)) dJ29_balanceInsertion_76 ?_
                refine aw_aload_n (i := 3) dJ29_balanceInsertion_79 rfl rfl trivial ?_
                refine aw_iconst (v := 1) dJ29_balanceInsertion_80 (by decide) ?_
                replace hq := obind hq
                obtain ⟨h79, e80, hq⟩ := hq
                refine xw_put e80 fJ29_93 tJ29_10 (isb_ok (by decide)) dJ29_balanceInsertion_81 ?_
                refine aw_aload_n (i := 3) dJ29_balanceInsertion_84 rfl rfl trivial ?_
                refine aw_astore_n (i := 1) (loc' := [some (va_rf r0), some (.ref a15), some (.ref a9), some (.ref a15), some (va_rf o16), some (.ref a51)]) dJ29_balanceInsertion_85 rfl (Nat.le_of_ble_eq_true rfl) trivial (aset1_rf rfl) ?_
                refine aw_goto (tgt := 5) dJ29_balanceInsertion_86 (by decide) ?_
                refine aw_subl (loc' := [some (va_rf r0), some (.ref a15), none, none, none, none]) ⟨Or.inr rfl, Or.inr rfl, Or.inl rfl, Or.inl rfl, Or.inl rfl, Or.inl rfl, trivial⟩ ?_
                exact ih h79 r0 (some a15) _ hq
def x_J29_balanceInsertion (g : AG) (N : Nat) (h : AH) (r0 : Option Nat) (r1 : Option Nat) : Option (Option Nat × AH) :=
  (r1).bind fun a1 => (wrV g h a1 [(12, 10)] (.int (1 : Int32))).bind fun h3 => x_J29_balanceInsertion_5 g N (fun h r0 r1 r2 => (r1).bind fun a81 => (wrV g h a81 [(12, 10)] (.int (0 : Int32))).bind fun h83 => some ((some a81), h83)) N h3 r0 (some a1)
theorem ct_J29_balanceInsertion (g : AG) (hst : (gL g).stackTraces = false) (N : Nat) : ∀ (h : AH) (r0 : Option Nat) (r1 : Option Nat) (q : (Option Nat × AH)), x_J29_balanceInsertion g N h r0 r1 = some q → CT g YJ29_balanceInsertion 2 [va_rf r0, va_rf r1] h (xR q) := by
  intro h r0 r1 q hq
  refine CT.of rfl (by decide +kernel) (loc := [some (va_rf r0), some (va_rf r1), none, none, none, none]) (by first | exact Nat.le_of_ble_eq_true rfl | (simp only [lgl_rf, lgl_i, lgl_j, lgl_ref, lgl_nil]; exact Nat.le_of_ble_eq_true rfl)) (by first | rfl | (simp only [aent_rf, aent_i, aent_j, aent_ref, aent_nil]; rfl)) ?_
  unfold x_J29_balanceInsertion at hq
  refine aw_aload_n (i := 1) dJ29_balanceInsertion_0 rfl rfl (aIsR_rf _) ?_
  refine aw_iconst (v := 1) dJ29_balanceInsertion_1 (by decide) ?_
  replace hq := obind hq
  obtain ⟨a1, e2, hq⟩ := hq
  subst e2
  replace hq := obind hq
  obtain ⟨h3, e4, hq⟩ := hq
  refine xw_put e4 fJ29_93 tJ29_10 (isb_ok (by decide)) dJ29_balanceInsertion_2 ?_
  refine p_x_J29_balanceInsertion_5 g hst N _ ?_ N h3 r0 (some a1) _ hq
  · intro h r0 r1 r2 q hq
    refine aw_aload_n (i := 1) dJ29_balanceInsertion_14 rfl rfl (aIsR_rf _) ?_
    refine aw_iconst (v := 0) dJ29_balanceInsertion_15 (by decide) ?_
    replace hq := obind hq
    obtain ⟨a81, e82, hq⟩ := hq
    subst e82
    replace hq := obind hq
    obtain ⟨h83, e84, hq⟩ := hq
    refine xw_put e84 fJ29_93 tJ29_10 (isb_ok (by decide)) dJ29_balanceInsertion_16 ?_
    refine aw_aload_n (i := 1) dJ29_balanceInsertion_19 rfl rfl trivial ?_
    cases hq
    exact aw_areturn dJ29_balanceInsertion_20 rfl (Or.inl ⟨_, rfl⟩) trivial ⟨rfl, rfl⟩
theorem fJ29_19 : ∀ q ∈ ([(12, 9)] : List (Nat × Nat)), aFl RJ29 19 q.1 q.2 := by
  intro q hq
  simp only [List.mem_cons, List.not_mem_nil, or_false] at hq
  subst hq
  exact aFl.of (RJ29, TJ29, 11) rfl (Nat.le_of_ble_eq_true rfl) q1629
theorem fJ29_22 : ∀ q ∈ ([(12, 5)] : List (Nat × Nat)), aFl RJ29 22 q.1 q.2 := by
  intro q hq
  simp only [List.mem_cons, List.not_mem_nil, or_false] at hq
  subst hq
  exact aFl.ofS (ref := "java/util/HashMap$TreeNode") (RJ29, TJ29, 11) rfl (Nat.le_of_ble_eq_true rfl) q1574 q1575
theorem tJ29_5 : ∀ q ∈ ([(12, 5)] : List (Nat × Nat)), aFt q.1 q.2 false (.object "java/util/HashMap$Node") := by
  intro q hq
  simp only [List.mem_cons, List.not_mem_nil, or_false] at hq
  subst hq
  exact ⟨(RJ29, TJ29, 11), tyJ29, Nat.le_of_ble_eq_true rfl, rfl, Nat.le_of_ble_eq_true rfl, okJ29, rfl, rfl⟩
theorem tJ29_9 : ∀ q ∈ ([(12, 9)] : List (Nat × Nat)), aFt q.1 q.2 false (.object "java/util/HashMap$TreeNode") := by
  intro q hq
  simp only [List.mem_cons, List.not_mem_nil, or_false] at hq
  subst hq
  exact ⟨(RJ29, TJ29, 11), tyJ29, Nat.le_of_ble_eq_true rfl, rfl, Nat.le_of_ble_eq_true rfl, okJ29, rfl, rfl⟩
abbrev YJ29_moveRootToFront : YC := (yJ29_moveRootToFront, cJ29_moveRootToFront, 7, none, [])
theorem kJ29_moveRootToFront : aMk YJ29_moveRootToFront 2 := ⟨rfl, q1603, q156, ⟨by decide +kernel, by decide +kernel, by decide +kernel⟩, Nat.le_of_ble_eq_true rfl⟩
def x_J29_moveRootToFront_102 (g : AG) (N : Nat) (h : AH) (r0 : Option Nat) (r1 : Option Nat) (x2 : Int32) (x3 : Int32) (r4 : Option Nat) : Option AH :=
  (vI (gV g 21)).bind fun i12 => if i12 = 0 then (none) else (some h)
theorem p_x_J29_moveRootToFront_102 (g : AG) (hst : (gL g).stackTraces = false) (N : Nat) : ∀ (h : AH) (r0 : Option Nat) (r1 : Option Nat) (x2 : Int32) (x3 : Int32) (r4 : Option Nat) (q : AH), x_J29_moveRootToFront_102 g N h r0 r1 x2 x3 r4 = some q → AW g YJ29_moveRootToFront 1 (xV q) h [some (va_rf r0), some (va_rf r1), some (.int x2), some (.int x3), some (va_rf r4), none, none] 102 [] := by
  intro h r0 r1 x2 x3 r4 q hq
  unfold x_J29_moveRootToFront_102 at hq
  replace hq := obind hq
  obtain ⟨i12, e13, hq⟩ := hq
  refine xw_gets (i := 21) (vI_eq e13) rfl q1604 dJ29_moveRootToFront_102 rfl ?_
  refine aw_if_ne (tgt := 123) dJ29_moveRootToFront_105 (by decide) (fun c14 => ?_) (fun c14 => ?_)
  · rw [if_neg c14] at hq
    cases hq
    exact aw_vret dJ29_moveRootToFront_123 rfl ⟨rfl, rfl⟩
  · rw [if_pos c14] at hq
    refine aw_aload_n (i := 1) dJ29_moveRootToFront_108 rfl rfl (aIsR_rf _) ?_
    cases hq
def x_J29_moveRootToFront_91 (g : AG) (N : Nat) (h : AH) (r0 : Option Nat) (r1 : Option Nat) (x2 : Int32) (x3 : Int32) (r4 : Option Nat) (r5 : Option Nat) (r6 : Option Nat) : Option AH :=
  (r1).bind fun a24 => (wrV g h a24 [(12, 5)] (va_rf r4)).bind fun h26 => (wrV g h26 a24 [(12, 9)] (.null)).bind fun h28 => x_J29_moveRootToFront_102 g N  h28 r0 (some a24) x2 x3 r4
theorem p_x_J29_moveRootToFront_91 (g : AG) (hst : (gL g).stackTraces = false) (N : Nat) : ∀ (h : AH) (r0 : Option Nat) (r1 : Option Nat) (x2 : Int32) (x3 : Int32) (r4 : Option Nat) (r5 : Option Nat) (r6 : Option Nat) (q : AH), x_J29_moveRootToFront_91 g N h r0 r1 x2 x3 r4 r5 r6 = some q → AW g YJ29_moveRootToFront 1 (xV q) h [some (va_rf r0), some (va_rf r1), some (.int x2), some (.int x3), some (va_rf r4), some (va_rf r5), some (va_rf r6)] 91 [] := by
  intro h r0 r1 x2 x3 r4 r5 r6 q hq
  unfold x_J29_moveRootToFront_91 at hq
  refine aw_aload_n (i := 1) dJ29_moveRootToFront_91 rfl rfl (aIsR_rf _) ?_
  refine aw_aload dJ29_moveRootToFront_92 rfl (aIsR_rf _) ?_
  replace hq := obind hq
  obtain ⟨a24, e25, hq⟩ := hq
  subst e25
  replace hq := obind hq
  obtain ⟨h26, e27, hq⟩ := hq
  refine xw_put e27 fJ29_22 tJ29_5 (fits_rf _ r4) dJ29_moveRootToFront_94 ?_
  refine aw_aload_n (i := 1) dJ29_moveRootToFront_97 rfl rfl trivial ?_
  refine aw_null dJ29_moveRootToFront_98 ?_
  replace hq := obind hq
  obtain ⟨h28, e29, hq⟩ := hq
  refine xw_put e29 fJ29_19 tJ29_9 (fits_rf _ (none)) dJ29_moveRootToFront_99 ?_
  refine aw_subl (loc' := [some (va_rf r0), some (.ref a24), some (.int x2), some (.int x3), some (va_rf r4), none, none]) ⟨Or.inr rfl, Or.inr rfl, Or.inr rfl, Or.inr rfl, Or.inr rfl, Or.inl rfl, Or.inl rfl, trivial⟩ ?_
  exact p_x_J29_moveRootToFront_102 g hst N   h28 r0 (some a24) x2 x3 r4 _ hq
def x_J29_moveRootToFront_80 (g : AG) (N : Nat) (h : AH) (r0 : Option Nat) (r1 : Option Nat) (x2 : Int32) (x3 : Int32) (r4 : Option Nat) (r5 : Option Nat) (r6 : Option Nat) : Option AH :=
  ocase r4 (x_J29_moveRootToFront_91 g N  h r0 r1 x2 x3 (none) r5 r6) (fun a23 => (wrV g h a23 [(12, 9)] (va_rf r1)).bind fun h30 => x_J29_moveRootToFront_91 g N  h30 r0 r1 x2 x3 (some a23) r5 r6)
theorem p_x_J29_moveRootToFront_80 (g : AG) (hst : (gL g).stackTraces = false) (N : Nat) : ∀ (h : AH) (r0 : Option Nat) (r1 : Option Nat) (x2 : Int32) (x3 : Int32) (r4 : Option Nat) (r5 : Option Nat) (r6 : Option Nat) (q : AH), x_J29_moveRootToFront_80 g N h r0 r1 x2 x3 r4 r5 r6 = some q → AW g YJ29_moveRootToFront 1 (xV q) h [some (va_rf r0), some (va_rf r1), some (.int x2), some (.int x3), some (va_rf r4), some (va_rf r5), some (va_rf r6)] 80 [] := by
  intro h r0 r1 x2 x3 r4 r5 r6 q hq
  unfold x_J29_moveRootToFront_80 at hq
  refine aw_aload dJ29_moveRootToFront_80 rfl (aIsR_rf _) ?_
  rcases r4 with _ | a23
  · replace hq := ocase_n hq
    refine xw_ifnullN (tgt := 91) dJ29_moveRootToFront_82 (by decide) ?_
    exact p_x_J29_moveRootToFront_91 g hst N   h r0 r1 x2 x3 (none) r5 r6 _ hq
  · replace hq := ocase_s hq
    refine xw_ifnullS (tgt := 91) dJ29_moveRootToFront_82 (by decide) ?_
    refine aw_aload dJ29_moveRootToFront_85 rfl trivial ?_
    refine aw_aload_n (i := 1) dJ29_moveRootToFront_87 rfl rfl (aIsR_rf _) ?_
    replace hq := obind hq
    obtain ⟨h30, e31, hq⟩ := hq
    refine xw_put e31 fJ29_19 tJ29_9 (fits_rf _ r1) dJ29_moveRootToFront_88 ?_
    exact p_x_J29_moveRootToFront_91 g hst N   h30 r0 r1 x2 x3 (some a23) r5 r6 _ hq
def x_J29_moveRootToFront_68 (g : AG) (N : Nat) (h : AH) (r0 : Option Nat) (r1 : Option Nat) (x2 : Int32) (x3 : Int32) (r4 : Option Nat) (r5 : Option Nat) (r6 : Option Nat) : Option AH :=
  ocase r6 (x_J29_moveRootToFront_80 g N  h r0 r1 x2 x3 r4 r5 (none)) (fun a22 => (wrV g h a22 [(12, 5)] (va_rf r5)).bind fun h32 => x_J29_moveRootToFront_80 g N  h32 r0 r1 x2 x3 r4 r5 (some a22))
theorem p_x_J29_moveRootToFront_68 (g : AG) (hst : (gL g).stackTraces = false) (N : Nat) : ∀ (h : AH) (r0 : Option Nat) (r1 : Option Nat) (x2 : Int32) (x3 : Int32) (r4 : Option Nat) (r5 : Option Nat) (r6 : Option Nat) (q : AH), x_J29_moveRootToFront_68 g N h r0 r1 x2 x3 r4 r5 r6 = some q → AW g YJ29_moveRootToFront 1 (xV q) h [some (va_rf r0), some (va_rf r1), some (.int x2), some (.int x3), some (va_rf r4), some (va_rf r5), some (va_rf r6)] 68 [] := by
  intro h r0 r1 x2 x3 r4 r5 r6 q hq
  unfold x_J29_moveRootToFront_68 at hq
  refine aw_aload dJ29_moveRootToFront_68 rfl (aIsR_rf _) ?_
  rcases r6 with _ | a22
  · replace hq := ocase_n hq
    refine xw_ifnullN (tgt := 80) dJ29_moveRootToFront_70 (by decide) ?_
    exact p_x_J29_moveRootToFront_80 g hst N   h r0 r1 x2 x3 r4 r5 (none) _ hq
  · replace hq := ocase_s hq
    refine xw_ifnullS (tgt := 80) dJ29_moveRootToFront_70 (by decide) ?_
    refine aw_aload dJ29_moveRootToFront_73 rfl trivial ?_
    refine aw_aload dJ29_moveRootToFront_75 rfl (aIsR_rf _) ?_
    replace hq := obind hq
    obtain ⟨h32, e33, hq⟩ := hq
    refine xw_put e33 fJ29_22 tJ29_5 (fits_rf _ r5) dJ29_moveRootToFront_77 ?_
    exact p_x_J29_moveRootToFront_80 g hst N   h32 r0 r1 x2 x3 r4 r5 (some a22) _ hq
def x_J29_moveRootToFront (g : AG) (N : Nat) (h : AH) (r0 : Option Nat) (r1 : Option Nat) : Option AH :=
  ocase r1 (some h) (fun a1 => ocase r0 (some h) (fun a2 => (rdN h a2).bind fun i3 => if i3 ≤ 0 then (some h) else ((rdI h a1 [(12, 2)]).bind fun i6 => (rdQ h a2 ((i3 - (1 : Int32)) &&& i6)).bind fun o8 => bif casB h o8 [12] then (if (some a1) = o8 then (x_J29_moveRootToFront_102 g N  h (some a2) (some a1) i3 ((i3 - (1 : Int32)) &&& i6) o8) else ((wrQ g h a2 ((i3 - (1 : Int32)) &&& i6) (some a1)).bind fun h15 => (rdR h15 a1 [(12, 9)]).bind fun o17 => (rdR h15 a1 [(12, 5)]).bind fun o19 => ocase o19 (x_J29_moveRootToFront_68 g N  h15 (some a2) (some a1) i3 ((i3 - (1 : Int32)) &&& i6) o8 (none) o17) (fun a21 => bif casB h15 (some a21) [12] then ((wrV g h15 a21 [(12, 9)] (va_rf o17)).bind fun h35 => x_J29_moveRootToFront_68 g N  h35 (some a2) (some a1) i3 ((i3 - (1 : Int32)) &&& i6) o8 (some a21) o17) else none))) else none)))
theorem ct_J29_moveRootToFront (g : AG) (hst : (gL g).stackTraces = false) (N : Nat) : ∀ (h : AH) (r0 : Option Nat) (r1 : Option Nat) (q : AH), x_J29_moveRootToFront g N h r0 r1 = some q → CT g YJ29_moveRootToFront 1 [va_rf r0, va_rf r1] h (xV q) := by
  intro h r0 r1 q hq
  refine CT.of rfl (by decide +kernel) (loc := [some (va_rf r0), some (va_rf r1), none, none, none, none, none]) (by first | exact Nat.le_of_ble_eq_true rfl | (simp only [lgl_rf, lgl_i, lgl_j, lgl_ref, lgl_nil]; exact Nat.le_of_ble_eq_true rfl)) (by first | rfl | (simp only [aent_rf, aent_i, aent_j, aent_ref, aent_nil]; rfl)) ?_
  unfold x_J29_moveRootToFront at hq
  refine aw_aload_n (i := 1) dJ29_moveRootToFront_0 rfl rfl (aIsR_rf _) ?_
  rcases r1 with _ | a1
  · replace hq := ocase_n hq
    refine xw_ifnullN (tgt := 123) dJ29_moveRootToFront_1 (by decide) ?_
    cases hq
    exact aw_vret dJ29_moveRootToFront_123 rfl ⟨rfl, rfl⟩
  · replace hq := ocase_s hq
    refine xw_ifnullS (tgt := 123) dJ29_moveRootToFront_1 (by decide) ?_
    refine aw_aload_n (i := 0) dJ29_moveRootToFront_4 rfl rfl (aIsR_rf _) ?_
    rcases r0 with _ | a2
    · replace hq := ocase_n hq
      refine xw_ifnullN (tgt := 123) dJ29_moveRootToFront_5 (by decide) ?_
      cases hq
      exact aw_vret dJ29_moveRootToFront_123 rfl ⟨rfl, rfl⟩
    · replace hq := ocase_s hq
      refine xw_ifnullS (tgt := 123) dJ29_moveRootToFront_5 (by decide) ?_
      refine aw_aload_n (i := 0) dJ29_moveRootToFront_8 rfl rfl trivial ?_
      replace hq := obind hq
      obtain ⟨i3, e4, hq⟩ := hq
      refine xw_alen e4 dJ29_moveRootToFront_9 ?_
      refine aw_dup dJ29_moveRootToFront_10 rfl ?_
      refine aw_istore_n (i := 2) (loc' := [some (.ref a2), some (.ref a1), some (.int i3), none, none, none, none]) dJ29_moveRootToFront_11 rfl (Nat.le_of_ble_eq_true rfl) rfl ?_
      refine aw_if_le (tgt := 123) dJ29_moveRootToFront_12 (by decide) (fun c5 => ?_) (fun c5 => ?_)
      · rw [if_pos c5] at hq
        cases hq
        exact aw_vret dJ29_moveRootToFront_123 rfl ⟨rfl, rfl⟩
      · rw [if_neg c5] at hq
        refine aw_iload_n (i := 2) dJ29_moveRootToFront_15 rfl rfl ?_
        refine aw_iconst (v := 1) dJ29_moveRootToFront_16 (by decide) ?_
        refine aw_isub dJ29_moveRootToFront_17 ?_
        refine aw_aload_n (i := 1) dJ29_moveRootToFront_18 rfl rfl trivial ?_
        replace hq := obind hq
        obtain ⟨i6, e7, hq⟩ := hq
        refine xw_getI e7 fJ29_15 dJ29_moveRootToFront_19 ?_
        refine aw_iand dJ29_moveRootToFront_22 ?_
        refine aw_istore_n (i := 3) (loc' := [some (.ref a2), some (.ref a1), some (.int i3), some (.int ((i3 - (1 : Int32)) &&& i6)), none, none, none]) dJ29_moveRootToFront_23 rfl (Nat.le_of_ble_eq_true rfl) rfl ?_
        refine aw_aload_n (i := 0) dJ29_moveRootToFront_24 rfl rfl trivial ?_
        refine aw_iload_n (i := 3) dJ29_moveRootToFront_25 rfl rfl ?_
        replace hq := obind hq
        obtain ⟨o8, e9, hq⟩ := hq
        refine xw_aald e9 dJ29_moveRootToFront_26 ?_
        replace hq := cond_t hq
        obtain ⟨z10, hq⟩ := hq
        refine xw_cast (r := o8) z10 q1549 casjava_util_HashMap_TreeNode dJ29_moveRootToFront_27 ?_
        refine aw_astore (loc' := [some (.ref a2), some (.ref a1), some (.int i3), some (.int ((i3 - (1 : Int32)) &&& i6)), some (va_rf o8), none, none]) dJ29_moveRootToFront_30 (Nat.le_of_ble_eq_true rfl) (aIsR_rf _) rfl ?_
        refine aw_aload_n (i := 1) dJ29_moveRootToFront_32 rfl rfl trivial ?_
        refine aw_aload dJ29_moveRootToFront_33 rfl (aIsR_rf _) ?_
        refine xw_acmp_eq (v := (some a1)) (w := o8) (tgt := 102) dJ29_moveRootToFront_35 (by decide) (fun c11 => ?_) (fun c11 => ?_)
        · rw [if_pos c11] at hq
          exact p_x_J29_moveRootToFront_102 g hst N   h (some a2) (some a1) i3 ((i3 - (1 : Int32)) &&& i6) o8 _ hq
        · rw [if_neg c11] at hq
          refine aw_aload_n (i := 0) dJ29_moveRootToFront_38 rfl rfl trivial ?_
          refine aw_iload_n (i := 3) dJ29_moveRootToFront_39 rfl rfl ?_
          refine aw_aload_n (i := 1) dJ29_moveRootToFront_40 rfl rfl trivial ?_
          replace hq := obind hq
          obtain ⟨h15, e16, hq⟩ := hq
          refine xw_aast (v := (some a1)) e16 dJ29_moveRootToFront_41 ?_
          refine aw_aload_n (i := 1) dJ29_moveRootToFront_42 rfl rfl trivial ?_
          replace hq := obind hq
          obtain ⟨o17, e18, hq⟩ := hq
          refine xw_getR e18 fJ29_19 dJ29_moveRootToFront_43 ?_
          refine aw_astore (loc' := [some (.ref a2), some (.ref a1), some (.int i3), some (.int ((i3 - (1 : Int32)) &&& i6)), some (va_rf o8), none, some (va_rf o17)]) dJ29_moveRootToFront_46 (Nat.le_of_ble_eq_true rfl) (aIsR_rf _) rfl ?_
          refine aw_aload_n (i := 1) dJ29_moveRootToFront_48 rfl rfl trivial ?_
          replace hq := obind hq
          obtain ⟨o19, e20, hq⟩ := hq
          refine xw_getR e20 fJ29_22 dJ29_moveRootToFront_49 ?_
          refine aw_dup dJ29_moveRootToFront_52 (cat_rf _) ?_
          refine aw_astore (loc' := [some (.ref a2), some (.ref a1), some (.int i3), some (.int ((i3 - (1 : Int32)) &&& i6)), some (va_rf o8), some (va_rf o19), some (va_rf o17)]) dJ29_moveRootToFront_53 (Nat.le_of_ble_eq_true rfl) (aIsR_rf _) (aset1_rf rfl) ?_
          rcases o19 with _ | a21
          · replace hq := ocase_n hq
            refine xw_ifnullN (tgt := 68) dJ29_moveRootToFront_55 (by decide) ?_
            exact p_x_J29_moveRootToFront_68 g hst N   h15 (some a2) (some a1) i3 ((i3 - (1 : Int32)) &&& i6) o8 (none) o17 _ hq
          · replace hq := ocase_s hq
            refine xw_ifnullS (tgt := 68) dJ29_moveRootToFront_55 (by decide) ?_
            refine aw_aload dJ29_moveRootToFront_58 rfl trivial ?_
            replace hq := cond_t hq
            obtain ⟨z34, hq⟩ := hq
            refine xw_cast (r := (some a21)) z34 q1549 casjava_util_HashMap_TreeNode dJ29_moveRootToFront_60 ?_
            refine aw_aload dJ29_moveRootToFront_63 rfl (aIsR_rf _) ?_
            replace hq := obind hq
            obtain ⟨h35, e36, hq⟩ := hq
            refine xw_put e36 fJ29_19 tJ29_9 (fits_rf _ o17) dJ29_moveRootToFront_65 ?_
            exact p_x_J29_moveRootToFront_68 g hst N   h35 (some a2) (some a1) i3 ((i3 - (1 : Int32)) &&& i6) o8 (some a21) o17 _ hq
