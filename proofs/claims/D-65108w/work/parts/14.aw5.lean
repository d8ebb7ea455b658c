/-! THE ABSTRACT MACHINE, 5: throws and handlers -/
set_option maxRecDepth 100000
section AWT
variable {p : Program} {l : Launch} {e : Env} {R : Room} {s : State} {m : MethodId} {args : Array Value} {below : List Frame} {meth : Method} {c : Code} {H : Heap} {locs : List Loc} {cells slots : Nat}
variable {mc ms : Nat} {free : Addr → Prop} {ls : Array Slot} {rest : List Value}
variable {Qc : Array Value → State → Outcome → State → Prop} {XC : String → State → State → Prop}
/-! ax_throwS follows vx_throwS of kit/laws/EXCEPTIONS.to-paste: just one cell is made -/
theorem ax_throwS {cc : ByteArray} {pc : Nat} (hexec : p.tables.exec = Jvm.exec) (hb : c.code = cc) (hl : l.stackTraces = false) {own cls text : String} {names : List String} {ik is ic mc ms sa : Nat} {A : Nat → Prop}
    (hown : s.vm.findClass own = some m.cls) (hcls : Bundle.fit cls = true) (hnames : ∀ n ∈ names, Bundle.fit n = true)
    (hk : (Cond.classLink own ik cls).before args s = true) (hini : (Cond.initialized cls).before args s = true) (hstr : vk_R own is text sa s) (hat : ∀ w ∈ vx_atS own ic cls names, w.before args s = true)
    (hgood : ∀ w ∈ Cond.classLink own ik cls :: Cond.initialized cls :: vx_atS own ic cls names, vx_ot w = true)
    (hU : vx_Zq Bundle.tN "UNASSIGNED_STACK" Bundle.steD A s s.heap) (hN : vx_Zq Bundle.tN "SUPPRESSED_SENTINEL" Bundle.listD A s s.heap) (hS : va_S A s.heap H locs) (hsize : ls.size = c.maxLocals)
    (d0 : decode cc pc = .ok (.new ik, 3)) (d3 : decode cc (pc + 3) = .ok (.dup, 1)) (d4 : decode cc (pc + 4) = .ok (.ldc is, 2)) (d6 : decode cc (pc + 6) = .ok (.invokespecial ic, 3)) (d9 : decode cc (pc + 9) = .ok (.athrow, 1))
    (hout : ∀ x ∈ c.exceptionTable.toList, covers x (pc + 9) = false)
    (hRframes : names.length + 3 < R.frames) (hRlocals : (rest.map fun v => v.category).sum + (13 * (names.length + 1) + 43) ≤ R.locals) (hRcells : cells + 1 ≤ R.cells) (hRslots : slots + 6 ≤ R.slots) (hlocks : meth.locks = false)
    (hx : ∀ t : State, s.vm.Alike t.vm → t.heap.size = H.size + 1 → (∀ q : Nat, q < H.size → t.heap[q]? = H[q]?) → (∃ ce9 : Cell, t.heap[H.size]? = some ce9 ∧ ce9.slots.size = 6) → XC cls s t)
    (hf : ∀ z ∈ locs, free z.base) (hc : cells + 1 ≤ mc) (hs : slots + 6 ≤ ms) :
    W p l e R s m args below meth c H locs cells slots (vx_MQ below Qc XC args s mc ms free) (F0 m pc ls rest) := by
  intro T hT X
  have htr : e.platform.stackTraces = false := (show e.platform.stackTraces = l.stackTraces by rw [X.admits.platform]).trans hl
  have Y := vx_rebase X (R' := { frames := R.frames, locals := R.locals, cells := 1, slots := 6 }) (Nat.le_refl _) (Nat.le_refl _) hRcells hRslots
  obtain ⟨s', hA⟩ : ∃ z, z = (T.setVm s.vm).setFrames (.invoking m args :: below) := ⟨_, rfl⟩
  rw [← hA] at Y
  have hvm : s'.vm = s.vm := by rw [hA]; rfl
  have hhp : s'.heap = H := by rw [hA]; exact hT
  have hW0 : s.WarmedH s'.vm := by rw [hvm]; exact State.WarmedH.refl s
  have hat' : ∀ w ∈ vx_atS own ic cls names, w.before args s' = true := fun w hw => vx_ot_at hW0 hvm.symm (hgood w (List.mem_cons_of_mem _ (List.mem_cons_of_mem _ hw))) (hat w hw)
  have hk' : (Cond.classLink own ik cls).before args s' = true := vx_ot_at hW0 hvm.symm (hgood _ List.mem_cons_self) hk
  have hini' : (Cond.initialized cls).before args s' = true := vx_ot_at hW0 hvm.symm (hgood _ (List.mem_cons_of_mem _ List.mem_cons_self)) hini
  have hU' : vx_Zq Bundle.tN "UNASSIGNED_STACK" Bundle.steD A s' s'.heap := by rw [hhp]; exact vx_Zq.moved hW0.alike (hU.kept hS.2.1)
  have hN' : vx_Zq Bundle.tN "SUPPRESSED_SENTINEL" Bundle.listD A s' s'.heap := by rw [hhp]; exact vx_Zq.moved hW0.alike (hN.kept hS.2.1)
  have h : ∀ w ∈ Bundle.ownAtoms own ic cls names, w.before args s' = true := vx_own hat' (vx_isRefq hU'.1) (vx_isRefq hN'.1) hU'.2.word hN'.2.word
  have hown' : s'.vm.findClass own = some m.cls := by rw [hvm]; exact hown
  have hins : (Cond.instantiable cls 6).before args s' = true := h _ (by simp [Bundle.ownAtoms])
  obtain ⟨vm₁, cX, kX, hfX, hkX, -, -, X₁, st1⟩ := Y.newCold hexec (own := own) (C := cls) (index := ik) (n := 6) hown' hk' hins hini'
    (g := F0 m pc ls rest) rfl (by rw [hb]; exact d0) (Nat.le_refl _) (Nat.le_refl _)
  generalize hT1 : (T.setVm vm₁).pushCell { cls := cX, slots := kX.instanceTypes.map defaultValue, vm := .none } = T1 at X₁ st1
  have hcat : (Value.ref T.heap.size).category = 1 := rfl
  have hcellA : T1.heap[T.heap.size]? = some (freshCell cX kX) := by rw [← hT1]; exact State.heap_pushCell_size _ _
  have d3' : decode c.code (pc + 3) = .ok (.dup, 1) := by rw [hb]; exact d3
  have d4' : decode c.code (pc + 4) = .ok (.ldc is, 2) := by rw [hb]; exact d4
  have hstr' : vk_R own is text sa s' := vk_R.warm hW0 hstr
  obtain ⟨U, hsteps, hrun, hend, hW, hsame, ce, hce, hO⟩ := X₁.ctorThrowS hexec htr (own := own) (cls := cls) (names := names) (ic := ic) hown' hcls hnames h (fun x hx => nomatch hx) hfX hkX hcellA (by rw [hhp, hT]; exact Nat.le_refl _) (msg := .ref sa) rfl
    (g := { method := m, pc := pc + 6, locals := ls, stack := .ref sa :: .ref T.heap.size :: .ref T.heap.size :: rest, locked := none }) rfl hsize rfl rfl (rest := rest) rfl
    (by rw [hb]; exact d6) (by rw [hb]; exact d9) hout hRframes (by simp only [List.map_cons, List.sum_cons, hcat]; omega) hlocks
  obtain ⟨f1, f2⟩ := vx_frame hsame
  have f3 : U.heap.size ≤ s'.heap.size + (0 + 1) := hsame.2.2.1
  have f4 : T.heap.size < U.heap.size := (Array.getElem?_eq_some_iff.mp hce).1
  rw [hhp] at f1 f2
  have hWs : s.WarmedH U.vm := State.WarmedH.trans hW0 hW
  have hcl : s.vm.findClass cls = some ce.cls := by
    have h9 := hO.cls
    rw [hvm] at h9
    exact h9
  have hall : s.sameButNew ({ U with vm := s.vm } : State) locs mc ms := by
    subst hA
    obtain ⟨e1, e2⟩ := hsame
    rw [State.setFrames_setFrames] at e1
    have h2 : (T.setVm s.vm).sameButNew ({ U with vm := s.vm } : State) [] (0 + 1) (0 + 6) := ⟨e1, e2⟩
    have h3 := X.same.trans h2
    rw [List.append_nil] at h3
    exact h3.mono hc hs
  refine ⟨U, ?_, .threw T.heap.size, hrun, hend, Or.inr ⟨T.heap.size, rfl, cls, ce, locs, hx U hWs.alike (by rw [hhp] at f3; rw [hT] at f4; omega) (fun q hq => f2 q hq (fun z hz => nomatch hz)) ⟨ce, by rw [← hT]; exact hce, hO.size⟩, hce, hO.vm, hcl, hWs, hall, hf⟩⟩
  refine st1 _ ?_
  show Steps p.tables e below (T1.setTop { method := m, pc := pc + 3, locals := ls, stack := .ref T.heap.size :: rest, locked := none }) _
  jvm_step X₁.here [X₁.here.top, hexec, d3', Value.category]
  exact X₁.ldcString hexec (own := own) (text := text) (index := is) (a := sa) hown' hstr'.1 hstr'.2
    (g := { method := m, pc := pc + 4, locals := ls, stack := .ref T.heap.size :: .ref T.heap.size :: rest, locked := none }) rfl d4' _ hsteps

end AWT
theorem aAt_tbl {ws : List Cond} (ps : List Nat) (hp : ws = ps.filterMap (fun i => lw_tbl[i]?)) : ∀ w ∈ ws, w ∈ lw_tbl := by
  intro w hw
  rw [hp] at hw
  obtain ⟨i, -, hi⟩ := List.mem_filterMap.mp hw
  exact List.mem_of_getElem? hi
/-- what 'throw new E(text)' asks: entries of own's file, the exception's class, its superclasses below Throwable, the text's number -/
def aTh (own : String) (ik is ic : Nat) (E : String) (names : List String) (tx : String) (i : Nat) : Prop :=
  Bundle.fit E = true ∧ (∀ n ∈ names, Bundle.fit n = true) ∧ Cond.classLink own ik E ∈ lw_all ∧ Cond.initialized E ∈ lw_all ∧ aSr[i]? = some (own, is, tx) ∧ (∀ w ∈ vx_atS own ic E names, w ∈ lw_tbl ∧ (goodWord w = true ∨ aNw w = true)) ∧ (∀ w ∈ Cond.classLink own ik E :: Cond.initialized E :: vx_atS own ic E names, vx_ot w = true) ∧ names.length = 2
theorem thParser_p : vx_atS "ProbeConsole$Parser" 32 "java/lang/IllegalStateException" ["java/lang/RuntimeException", "java/lang/Exception"] = [127, 432, 441, 446, 449, 451, 433, 434, 171, 172, 435, 440, 447, 467, 422, 468, 424, 469, 426, 436, 438, 428, 463, 464, 466, 428, 454, 455, 456, 457, 414, 457, 458, 459, 460, 416, 460, 461, 462, 463, 418, 453, 411, 412, 419, 420, 421, 423, 425, 427, 431, 430, 429].filterMap (fun i => lw_tbl[i]?) := by decide +kernel
theorem thParser : aTh "ProbeConsole$Parser" 28 30 32 "java/lang/IllegalStateException" ["java/lang/RuntimeException", "java/lang/Exception"] "the text is at fault" 1 := ⟨by decide +kernel, by decide +kernel, q391, q131, rfl, fun w hw => ⟨aAt_tbl _ thParser_p w hw, by
  have h : (vx_atS "ProbeConsole$Parser" 32 "java/lang/IllegalStateException" ["java/lang/RuntimeException", "java/lang/Exception"]).all (fun w => goodWord w || aNw w) = true := by decide +kernel
  simpa using List.all_eq_true.mp h w hw⟩, fun w hw => by
  have h : (Cond.classLink "ProbeConsole$Parser" 28 "java/lang/IllegalStateException" :: Cond.initialized "java/lang/IllegalStateException" :: vx_atS "ProbeConsole$Parser" 32 "java/lang/IllegalStateException" ["java/lang/RuntimeException", "java/lang/Exception"]).all vx_ot = true := by decide +kernel
  exact List.all_eq_true.mp h w hw, rfl⟩
theorem thFits_p : vx_atS "ProbeConsole" 33 "java/lang/IllegalArgumentException" ["java/lang/RuntimeException", "java/lang/Exception"] = [127, 432, 441, 446, 449, 451, 433, 434, 171, 172, 435, 440, 447, 467, 422, 468, 424, 469, 426, 436, 438, 428, 463, 464, 466, 428, 730, 731, 732, 457, 414, 457, 458, 459, 460, 416, 460, 461, 462, 463, 418, 1955, 645, 646, 647, 444, 648, 649, 650, 651, 431, 430, 652].filterMap (fun i => lw_tbl[i]?) := by decide +kernel
theorem thFits : aTh "ProbeConsole" 29 31 33 "java/lang/IllegalArgumentException" ["java/lang/RuntimeException", "java/lang/Exception"] "out of its range" 15 := ⟨by decide +kernel, by decide +kernel, q1953, q130, rfl, fun w hw => ⟨aAt_tbl _ thFits_p w hw, by
  have h : (vx_atS "ProbeConsole" 33 "java/lang/IllegalArgumentException" ["java/lang/RuntimeException", "java/lang/Exception"]).all (fun w => goodWord w || aNw w) = true := by decide +kernel
  simpa using List.all_eq_true.mp h w hw⟩, fun w hw => by
  have h : (Cond.classLink "ProbeConsole" 29 "java/lang/IllegalArgumentException" :: Cond.initialized "java/lang/IllegalArgumentException" :: vx_atS "ProbeConsole" 33 "java/lang/IllegalArgumentException" ["java/lang/RuntimeException", "java/lang/Exception"]).all vx_ot = true := by decide +kernel
  exact List.all_eq_true.mp h w hw, rfl⟩
theorem thLies_p : vx_atS "ProbeConsole" 40 "java/lang/IndexOutOfBoundsException" ["java/lang/RuntimeException", "java/lang/Exception"] = [127, 432, 441, 446, 449, 451, 433, 434, 171, 172, 435, 440, 447, 467, 422, 468, 424, 469, 426, 436, 438, 428, 463, 464, 466, 428, 1964, 1965, 1966, 457, 414, 457, 458, 459, 460, 416, 460, 461, 462, 463, 418, 1995, 1986, 1987, 1988, 445, 1989, 1990, 1991, 1992, 431, 430, 1993].filterMap (fun i => lw_tbl[i]?) := by decide +kernel
theorem thLies : aTh "ProbeConsole" 36 38 40 "java/lang/IndexOutOfBoundsException" ["java/lang/RuntimeException", "java/lang/Exception"] "there is none such" 16 := ⟨by decide +kernel, by decide +kernel, q1985, q160, rfl, fun w hw => ⟨aAt_tbl _ thLies_p w hw, by
  have h : (vx_atS "ProbeConsole" 40 "java/lang/IndexOutOfBoundsException" ["java/lang/RuntimeException", "java/lang/Exception"]).all (fun w => goodWord w || aNw w) = true := by decide +kernel
  simpa using List.all_eq_true.mp h w hw⟩, fun w hw => by
  have h : (Cond.classLink "ProbeConsole" 36 "java/lang/IndexOutOfBoundsException" :: Cond.initialized "java/lang/IndexOutOfBoundsException" :: vx_atS "ProbeConsole" 40 "java/lang/IndexOutOfBoundsException" ["java/lang/RuntimeException", "java/lang/Exception"]).all vx_ot = true := by decide +kernel
  exact List.all_eq_true.mp h w hw, rfl⟩
section AWH
variable {g : AG} {Y : YC} {d : Nat} {Q : AR → AH → Prop} {h : AH} {loc loc' : List (Option Value)} {pc : Nat} {rest : List Value}
theorem aw_throwS {ik is ic i : Nat} {E tx : String} {names : List String} (hl : (gL g).stackTraces = false) (ht : aTh (yO Y) ik is ic E names tx i) (hh : yH Y = []) (h10 : 10 ≤ d) (hr : (rest.map fun v => v.category).sum ≤ 8) (d0 : decode (yC Y) pc = .ok (.new ik, 3)) (d3 : decode (yC Y) (pc + 3) = .ok (.dup, 1)) (d4 : decode (yC Y) (pc + 4) = .ok (.ldc is, 2)) (d6 : decode (yC Y) (pc + 6) = .ok (.invokespecial ic, 3)) (d9 : decode (yC Y) (pc + 9) = .ok (.athrow, 1)) (q : Q (.inr E) (hopq h 6)) (l1 : h.2.1 + 1 ≤ gLc g := by assumption) (l2 : h.2.2 + 6 ≤ gLs g := by assumption) : AW g Y d Q h loc pc rest := by
  intro p e R s m args below meth c H locs cells slots mc ms ls A hR hM hL
  obtain ⟨t1, t2, t3, t4, t5, t6, t7, t8⟩ := ht
  have hts := A.2.2.2.2.2.2.1
  have hK : aK g s := A.2.2.2.2.2.2.2.1
  obtain ⟨m1, m2, m3, m4, m5, m6, m7, m8⟩ := hM
  have hq := A.2.2.2.2.2.2.2.2.2.2.1
  have hle := A.2.2.2.2.2.2.2.2.2.2.2
  have keep : ∀ a : Nat, a < (gH g).size → ¬ aOut g a → s.heap[a]? = (gH g)[a]? := fun a _ z => hq a (by have z : ¬ gB g ≤ a := z; omega)
  refine ax_throwS A.1 A.2.1 hl A.2.2.2.2.2.1 t1 t2 (hts _ t3) (hts _ t4) (hK.sr t5) (fun w hw => ?_) t7 (hK.ex.1.kept keep) (hK.ex.2.kept keep) ⟨m2.1, fun z _ z2 => ?_, m1⟩ (hL.1.trans A.2.2.1.symm) d0 d3 d4 d6 d9 (by rw [A.2.2.2.2.2.2.2.2.1, hh]; intro x hx; cases hx) (by omega) (by omega) (by omega) (by omega) A.2.2.2.2.1 (fun t _ z1 z2 ⟨ce9, z3, z4⟩ => ⟨hopq h 6, hR.opq z1 z2 z3 z4 l1 l2, ⟨by omega, by rw [hsl_push z1 z2 z3]; exact Nat.le_trans m2.2 (Nat.le_add_right _ _)⟩, q⟩) m1 (by omega) (by omega)
  · obtain ⟨w1, w2⟩ := t6 w hw
    rcases w2 with w2 | w2
    · exact hts _ (lw_g w1 w2)
    · exact (hK.nw w1 w2).use (by cases w <;> first | rfl | (simp [aNw] at w2))
  · have z2 : ¬ gB g ≤ z := z2
    rw [hR.2.2.2.1 z (by omega), hq z (by omega)]
/-- it goes on to the caller -/
theorem ax_out {E : String} (hh : (tableOf (yH Y)).all (fun x => covers x pc == false) = true) (q : Q (.inr E) h) : AX g Y d Q h loc pc E := by
  intro p e R s m args below meth c H locs cells slots mc ms ls rest qa ce A hR hM hL h1 h2 h3
  obtain ⟨m1, m2, m3, m4, m5, m6, m7, m8⟩ := hM
  refine vx_out (fun x hx => ?_) A.2.2.2.2.1 h1 h2 h3 (fun t ht _ => ⟨h, by rw [ht]; exact hR, by rw [ht]; exact m2, q⟩) m1 (by omega) (by omega)
  rw [A.2.2.2.2.2.2.2.2.1] at hx
  exact eq_of_beq (List.all_eq_true.mp hh x hx)
/-- it is caught by the first row of the table that takes it; the handler stores it away -/
theorem ax_catch {E nm : String} {pre suf : List ExceptionTableEntry} {x : ExceptionTableEntry} {i : Nat} (hsp : tableOf (yH Y) = pre ++ x :: suf) (hpre : ∀ z ∈ pre, covers z pc = false ∨ (z.catchType ≠ 0 ∧ ∃ nm : String, Cond.classLink (yO Y) z.catchType nm ∈ lw_all ∧ (E, nm) ∈ aNc)) (hx : covers x pc = true) (h0 : x.catchType ≠ 0) (hlk : Cond.classLink (yO Y) x.catchType nm ∈ lw_all) (hca : Cond.castable E nm ∈ lw_tbl) (hn : i < yN Y) (hs : (loc.set i none) = loc')
    (dd : decode (yC Y) x.handlerPc = .ok (.astore i, 2) ∨ ∃ k0 : Fin 4, (k0 : Nat) = i ∧ decode (yC Y) x.handlerPc = .ok (.astore_n k0, 1)) (hkill : ∀ v : Value, akill i loc = loc) (hln : i < loc.length) (k : AW g Y d Q h loc' (x.handlerPc + match decode (yC Y) x.handlerPc with | .ok (_, n) => n | _ => 0) []) : AX g Y d Q h loc pc E := by
  intro p e R s m args below meth c H locs cells slots mc ms ls rest qa ce A hR hM hL h1 h2 h3
  have hK : aK g s := A.2.2.2.2.2.2.2.1
  have hts := A.2.2.2.2.2.2.1
  have fin : ∀ ls' : Array Slot, lv_has ls' (yN Y) ((i, Value.ref qa) :: (aprs 0 loc).filter (fun q => !(q.1 == i) && !(q.1 + 1 == i && q.2.category == 2))) → aHas ls' (yN Y) loc' := by
    intro ls' hl'
    refine (aHas.set1 hl').sub fun j w hj => ?_
    rw [← hs] at hj
    rw [List.getElem?_set] at hj
    by_cases e0 : i = j
    · rw [if_pos e0] at hj
      by_cases e1 : i < loc.length
      · rw [if_pos e1] at hj; cases hj
      · rw [if_neg e1] at hj; cases hj
    · rw [if_neg e0] at hj
      unfold aset1
      rw [hkill .null, List.getElem?_set, if_neg e0]
      exact hj
  refine vx_catch A.2.2.2.2.2.1 pre x suf (A.2.2.2.2.2.2.2.2.1.trans hsp) (fun z hz => ?_) hx h0 (hts _ hlk) ((hK.nw hca rfl).use rfl) h1 h2 h3 ?_
  · rcases hpre z hz with w | ⟨w, nm', w1, w2⟩
    · exact Or.inl w
    · exact Or.inr ⟨w, nm', hts _ w1, hK.nc w2⟩
  · rcases dd with dd | ⟨k0, hk0, dd⟩
    · rw [dd] at k
      exact lv_astore A.1 A.2.1 dd hL hn rfl (fun ls' hl' => k p e R s m args below meth c H locs cells slots mc ms ls' A hR hM (fin ls' hl'))
    · rw [dd] at k
      exact lv_astore_n A.1 A.2.1 dd hk0 hL hn rfl (fun ls' hl' => k p e R s m args below meth c H locs cells slots mc ms ls' A hR hM (fin ls' hl'))
end AWH
