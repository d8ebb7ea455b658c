/-! java/util/Objects -/
set_option maxRecDepth 100000
def RJ26 : String := "java/util/Objects"
abbrev cJ26_requireNonNull : ByteArray := prog_60_method_10_code
def yJ26_requireNonNull : MethodName := ⟨RJ26, "requireNonNull", "(Ljava/lang/Object;)Ljava/lang/Object;"⟩
def dkwJ26_requireNonNull_0 : List UInt8 := [42, 199, 0, 11, 187, 0, 84, 89, 183, 0, 86, 191, 42, 176]
abbrev dktJ26_requireNonNull_0 : List UInt8 := dkwJ26_requireNonNull_0 ++ []
theorem dksJ26_requireNonNull_0 : cJ26_requireNonNull.data.toList.drop 0 = dktJ26_requireNonNull_0 := by decide +kernel
theorem dJ26_requireNonNull_0 : decode cJ26_requireNonNull 0 = .ok (.aload_n 0, 1) := dk_42 (dk_at dksJ26_requireNonNull_0 0 rfl rfl)
theorem dJ26_requireNonNull_1 : decode cJ26_requireNonNull 1 = .ok (.ifnonnull 11, 3) := dk_199 0 11 (dk_at dksJ26_requireNonNull_0 1 rfl rfl)
theorem dJ26_requireNonNull_4 : decode cJ26_requireNonNull 4 = .ok (.new 84, 3) := dk_187 0 84 (dk_at dksJ26_requireNonNull_0 4 rfl rfl)
theorem dJ26_requireNonNull_7 : decode cJ26_requireNonNull 7 = .ok (.dup, 1) := dk_89 (dk_at dksJ26_requireNonNull_0 7 rfl rfl)
theorem dJ26_requireNonNull_8 : decode cJ26_requireNonNull 8 = .ok (.invokespecial 86, 3) := dk_183 0 86 (dk_at dksJ26_requireNonNull_0 8 rfl rfl)
theorem dJ26_requireNonNull_11 : decode cJ26_requireNonNull 11 = .ok (.athrow, 1) := dk_191 (dk_at dksJ26_requireNonNull_0 11 rfl rfl)
theorem dJ26_requireNonNull_12 : decode cJ26_requireNonNull 12 = .ok (.aload_n 0, 1) := dk_42 (dk_at dksJ26_requireNonNull_0 12 rfl rfl)
theorem dJ26_requireNonNull_13 : decode cJ26_requireNonNull 13 = .ok (.areturn, 1) := dk_176 (dk_at dksJ26_requireNonNull_0 13 rfl rfl)
abbrev cJ26_checkIndex : ByteArray := prog_60_method_17_code
def yJ26_checkIndex : MethodName := ⟨RJ26, "checkIndex", "(II)I"⟩
def dkwJ26_checkIndex_0 : List UInt8 := [26, 27, 1, 184, 0, 105, 172]
abbrev dktJ26_checkIndex_0 : List UInt8 := dkwJ26_checkIndex_0 ++ []
theorem dksJ26_checkIndex_0 : cJ26_checkIndex.data.toList.drop 0 = dktJ26_checkIndex_0 := by decide +kernel
theorem dJ26_checkIndex_0 : decode cJ26_checkIndex 0 = .ok (.iload_n 0, 1) := dk_26 (dk_at dksJ26_checkIndex_0 0 rfl rfl)
theorem dJ26_checkIndex_1 : decode cJ26_checkIndex 1 = .ok (.iload_n 1, 1) := dk_27 (dk_at dksJ26_checkIndex_0 1 rfl rfl)
theorem dJ26_checkIndex_2 : decode cJ26_checkIndex 2 = .ok (.aconst_null, 1) := dk_1 (dk_at dksJ26_checkIndex_0 2 rfl rfl)
theorem dJ26_checkIndex_3 : decode cJ26_checkIndex 3 = .ok (.invokestatic 105, 3) := dk_184 0 105 (dk_at dksJ26_checkIndex_0 3 rfl rfl)
theorem dJ26_checkIndex_6 : decode cJ26_checkIndex 6 = .ok (.ireturn, 1) := dk_172 (dk_at dksJ26_checkIndex_0 6 rfl rfl)
theorem q153 : (Jvm.Cond.initialized "java/util/Objects") ∈ lw_all := lw_g (lw_at lw_m1 38 rfl) rfl
theorem q1514 : (Jvm.Cond.static ({ cls := "java/util/Objects", name := "requireNonNull", desc := "(Ljava/lang/Object;)Ljava/lang/Object;" } : Jvm.MethodName)) ∈ lw_all := lw_g (lw_at lw_m6 199 rfl) rfl
theorem q1515 : (Jvm.Cond.code ({ cls := "java/util/Objects", name := "requireNonNull", desc := "(Ljava/lang/Object;)Ljava/lang/Object;" } : Jvm.MethodName) prog_60_method_10_code (1 : Nat) (Option.some (Jvm.ClassFile.FieldType.object "java/lang/Object"))) ∈ lw_all := lw_g (lw_at lw_m6 200 rfl) rfl
theorem q2008 : (Jvm.Cond.static ({ cls := "java/util/Objects", name := "checkIndex", desc := "(II)I" } : Jvm.MethodName)) ∈ lw_all := lw_g (lw_at lw_m8 213 rfl) rfl
theorem q2009 : (Jvm.Cond.code ({ cls := "java/util/Objects", name := "checkIndex", desc := "(II)I" } : Jvm.MethodName) prog_60_method_17_code (2 : Nat) (Option.some Jvm.ClassFile.FieldType.int)) ∈ lw_all := lw_g (lw_at lw_m8 214 rfl) rfl
theorem q2010 : (Jvm.Cond.methodLink "java/util/Objects" (105 : Nat) ({ cls := "jdk/internal/util/Preconditions", name := "checkIndex", desc := "(IILjava/util/function/BiFunction;)I" } : Jvm.MethodName)) ∈ lw_all := lw_g (lw_at lw_m8 215 rfl) rfl
/-! java/util/HashMap$Node -/
set_option maxRecDepth 100000
def RJ27 : String := "java/util/HashMap$Node"
def TJ27 : u_T := fun k => match k with
  | 0 => ("java/util/HashMap$Node", "hash", "I", true)
  | 1 => ("java/util/HashMap$Node", "key", "Ljava/lang/Object;", true)
  | 2 => ("java/util/HashMap$Node", "value", "Ljava/lang/Object;", false)
  | _ => ("java/util/HashMap$Node", "next", "Ljava/util/HashMap$Node;", false)
def tyJ27 : Nat → FieldType := fun k => match k with
  | 0 => .int
  | 1 => .object "java/lang/Object"
  | 2 => .object "java/lang/Object"
  | _ => .object "java/util/HashMap$Node"
abbrev wsJ270 : List Cond := u_ws RJ27 TJ27 4
theorem nmJ27 : ∀ a, a < 4 → ∀ b, b < 4 → a ≠ b → (TJ27 a).2.1 ≠ (TJ27 b).2.1 := by decide +kernel
theorem tyJ27_ok : ∀ k, k < 4 → parseFieldDescriptor (TJ27 k).2.2.1 = some (tyJ27 k) := by decide +kernel
abbrev cJ27_init : ByteArray := prog_53_method_1_code
def yJ27_init : MethodName := ⟨RJ27, "<init>", "(ILjava/lang/Object;Ljava/lang/Object;Ljava/util/HashMap$Node;)V"⟩
def dkwJ27_init_1 : List UInt8 := [181, 0, 20, 177]
abbrev dktJ27_init_1 : List UInt8 := dkwJ27_init_1 ++ []
def dkwJ27_init_0 : List UInt8 := [42, 183, 0, 1, 42, 27, 181, 0, 7, 42, 44, 181, 0, 13, 42, 45, 181, 0, 17, 42, 25, 4]
abbrev dktJ27_init_0 : List UInt8 := dkwJ27_init_0 ++ dktJ27_init_1
theorem dksJ27_init_0 : cJ27_init.data.toList.drop 0 = dktJ27_init_0 := by decide +kernel
theorem dksJ27_init_1 : cJ27_init.data.toList.drop 22 = dktJ27_init_1 := dk_seg dksJ27_init_0 22 rfl rfl
theorem dJ27_init_0 : decode cJ27_init 0 = .ok (.aload_n 0, 1) := dk_42 (dk_at dksJ27_init_0 0 rfl rfl)
theorem dJ27_init_1 : decode cJ27_init 1 = .ok (.invokespecial 1, 3) := dk_183 0 1 (dk_at dksJ27_init_0 1 rfl rfl)
theorem dJ27_init_4 : decode cJ27_init 4 = .ok (.aload_n 0, 1) := dk_42 (dk_at dksJ27_init_0 4 rfl rfl)
theorem dJ27_init_5 : decode cJ27_init 5 = .ok (.iload_n 1, 1) := dk_27 (dk_at dksJ27_init_0 5 rfl rfl)
theorem dJ27_init_6 : decode cJ27_init 6 = .ok (.putfield 7, 3) := dk_181 0 7 (dk_at dksJ27_init_0 6 rfl rfl)
theorem dJ27_init_9 : decode cJ27_init 9 = .ok (.aload_n 0, 1) := dk_42 (dk_at dksJ27_init_0 9 rfl rfl)
theorem dJ27_init_10 : decode cJ27_init 10 = .ok (.aload_n 2, 1) := dk_44 (dk_at dksJ27_init_0 10 rfl rfl)
theorem dJ27_init_11 : decode cJ27_init 11 = .ok (.putfield 13, 3) := dk_181 0 13 (dk_at dksJ27_init_0 11 rfl rfl)
theorem dJ27_init_14 : decode cJ27_init 14 = .ok (.aload_n 0, 1) := dk_42 (dk_at dksJ27_init_0 14 rfl rfl)
theorem dJ27_init_15 : decode cJ27_init 15 = .ok (.aload_n 3, 1) := dk_45 (dk_at dksJ27_init_0 15 rfl rfl)
theorem dJ27_init_16 : decode cJ27_init 16 = .ok (.putfield 17, 3) := dk_181 0 17 (dk_at dksJ27_init_0 16 rfl rfl)
theorem dJ27_init_19 : decode cJ27_init 19 = .ok (.aload_n 0, 1) := dk_42 (dk_at dksJ27_init_0 19 rfl rfl)
theorem dJ27_init_20 : decode cJ27_init 20 = .ok (.aload 4, 2) := dk_25 4 (dk_at dksJ27_init_0 20 rfl rfl)
theorem dJ27_init_22 : decode cJ27_init 22 = .ok (.putfield 20, 3) := dk_181 0 20 (dk_at dksJ27_init_1 0 rfl rfl)
theorem dJ27_init_25 : decode cJ27_init 25 = .ok (.return_, 1) := dk_177 (dk_at dksJ27_init_1 3 rfl rfl)
theorem q154 : (Jvm.Cond.initialized "java/util/HashMap$Node") ∈ lw_all := lw_g (lw_at lw_m1 39 rfl) rfl
theorem q1019 : (Jvm.Cond.selects "java/util/HashMap$Node" ({ cls := "java/lang/Object", name := "getClass", desc := "()Ljava/lang/Class;" } : Jvm.MethodName) ({ cls := "java/lang/Object", name := "getClass", desc := "()Ljava/lang/Class;" } : Jvm.MethodName)) ∈ lw_all := lw_g (lw_at lw_m4 184 rfl) rfl
theorem q1558 : (Jvm.Cond.instantiable "java/util/HashMap$Node" (4 : Nat)) ∈ lw_all := lw_g (lw_at lw_m7 3 rfl) rfl
theorem q1560 : (Jvm.Cond.instanceMethod ({ cls := "java/util/HashMap$Node", name := "<init>", desc := "(ILjava/lang/Object;Ljava/lang/Object;Ljava/util/HashMap$Node;)V" } : Jvm.MethodName)) ∈ lw_all := lw_g (lw_at lw_m7 5 rfl) rfl
theorem q1561 : (Jvm.Cond.code ({ cls := "java/util/HashMap$Node", name := "<init>", desc := "(ILjava/lang/Object;Ljava/lang/Object;Ljava/util/HashMap$Node;)V" } : Jvm.MethodName) prog_53_method_1_code (5 : Nat) (Option.none : Option Jvm.ClassFile.FieldType)) ∈ lw_all := lw_g (lw_at lw_m7 6 rfl) rfl
theorem q1562 : (Jvm.Cond.methodLink "java/util/HashMap$Node" (1 : Nat) ({ cls := "java/lang/Object", name := "<init>", desc := "()V" } : Jvm.MethodName)) ∈ lw_all := lw_g (lw_at lw_m7 7 rfl) rfl
theorem q1563 : (Jvm.Cond.fieldLink "java/util/HashMap$Node" (7 : Nat) "java/util/HashMap$Node" "hash" "I") ∈ lw_all := lw_g (lw_at lw_m7 8 rfl) rfl
theorem q1567 : (Jvm.Cond.fieldLink "java/util/HashMap$Node" (13 : Nat) "java/util/HashMap$Node" "key" "Ljava/lang/Object;") ∈ lw_all := lw_g (lw_at lw_m7 12 rfl) rfl
theorem q1571 : (Jvm.Cond.fieldLink "java/util/HashMap$Node" (17 : Nat) "java/util/HashMap$Node" "value" "Ljava/lang/Object;") ∈ lw_all := lw_g (lw_at lw_m7 16 rfl) rfl
theorem q1573 : (Jvm.Cond.fieldLink "java/util/HashMap$Node" (20 : Nat) "java/util/HashMap$Node" "next" "Ljava/util/HashMap$Node;") ∈ lw_all := lw_g (lw_at lw_m7 18 rfl) rfl
theorem q1579 : (Jvm.Cond.laysFinal "java/util/HashMap$Node" "java/util/HashMap$Node" "hash" "I") ∈ lw_all := lw_g (lw_at lw_m7 24 rfl) rfl
theorem q1580 : (Jvm.Cond.soleField "java/util/HashMap$Node" "hash") ∈ lw_all := lw_g (lw_at lw_m7 25 rfl) rfl
theorem q1581 : (Jvm.Cond.laysFinal "java/util/HashMap$Node" "java/util/HashMap$Node" "key" "Ljava/lang/Object;") ∈ lw_all := lw_g (lw_at lw_m7 26 rfl) rfl
theorem q1582 : (Jvm.Cond.soleField "java/util/HashMap$Node" "key") ∈ lw_all := lw_g (lw_at lw_m7 27 rfl) rfl
theorem q1583 : (Jvm.Cond.lays "java/util/HashMap$Node" "java/util/HashMap$Node" "value" "Ljava/lang/Object;") ∈ lw_all := lw_g (lw_at lw_m7 28 rfl) rfl
theorem q1584 : (Jvm.Cond.soleField "java/util/HashMap$Node" "value") ∈ lw_all := lw_g (lw_at lw_m7 29 rfl) rfl
theorem q1585 : (Jvm.Cond.lays "java/util/HashMap$Node" "java/util/HashMap$Node" "next" "Ljava/util/HashMap$Node;") ∈ lw_all := lw_g (lw_at lw_m7 30 rfl) rfl
theorem q1586 : (Jvm.Cond.soleField "java/util/HashMap$Node" "next") ∈ lw_all := lw_g (lw_at lw_m7 31 rfl) rfl
theorem q1587 : (Jvm.Cond.superclass "java/util/HashMap$Node" "java/lang/Object") ∈ lw_all := lw_g (lw_at lw_m7 32 rfl) rfl
theorem q2790 : (Jvm.Cond.castable "java/util/HashMap$Node" "java/lang/Object") ∈ lw_tbl := lw_at lw_m12 35 rfl
theorem in_J27 : ∀ w ∈ wsJ270, w ∈ lw_all := lw_in wsJ270 [1579, 1581, 1583, 1585] (by decide +kernel) (by decide +kernel)
/-! java/util/LinkedHashMap$Entry -/
set_option maxRecDepth 100000
def RJ28 : String := "java/util/LinkedHashMap$Entry"
abbrev cJ28_init : ByteArray := prog_55_method_1_code
def yJ28_init : MethodName := ⟨RJ28, "<init>", "(ILjava/lang/Object;Ljava/lang/Object;Ljava/util/HashMap$Node;)V"⟩
def dkwJ28_init_0 : List UInt8 := [42, 27, 44, 45, 25, 4, 183, 0, 1, 177]
abbrev dktJ28_init_0 : List UInt8 := dkwJ28_init_0 ++ []
theorem dksJ28_init_0 : cJ28_init.data.toList.drop 0 = dktJ28_init_0 := by decide +kernel
theorem dJ28_init_0 : decode cJ28_init 0 = .ok (.aload_n 0, 1) := dk_42 (dk_at dksJ28_init_0 0 rfl rfl)
theorem dJ28_init_1 : decode cJ28_init 1 = .ok (.iload_n 1, 1) := dk_27 (dk_at dksJ28_init_0 1 rfl rfl)
theorem dJ28_init_2 : decode cJ28_init 2 = .ok (.aload_n 2, 1) := dk_44 (dk_at dksJ28_init_0 2 rfl rfl)
theorem dJ28_init_3 : decode cJ28_init 3 = .ok (.aload_n 3, 1) := dk_45 (dk_at dksJ28_init_0 3 rfl rfl)
theorem dJ28_init_4 : decode cJ28_init 4 = .ok (.aload 4, 2) := dk_25 4 (dk_at dksJ28_init_0 4 rfl rfl)
theorem dJ28_init_6 : decode cJ28_init 6 = .ok (.invokespecial 1, 3) := dk_183 0 1 (dk_at dksJ28_init_0 6 rfl rfl)
theorem dJ28_init_9 : decode cJ28_init 9 = .ok (.return_, 1) := dk_177 (dk_at dksJ28_init_0 9 rfl rfl)
theorem q155 : (Jvm.Cond.initialized "java/util/LinkedHashMap$Entry") ∈ lw_all := lw_g (lw_at lw_m1 40 rfl) rfl
theorem q1623 : (Jvm.Cond.instanceMethod ({ cls := "java/util/LinkedHashMap$Entry", name := "<init>", desc := "(ILjava/lang/Object;Ljava/lang/Object;Ljava/util/HashMap$Node;)V" } : Jvm.MethodName)) ∈ lw_all := lw_g (lw_at lw_m7 68 rfl) rfl
theorem q1624 : (Jvm.Cond.code ({ cls := "java/util/LinkedHashMap$Entry", name := "<init>", desc := "(ILjava/lang/Object;Ljava/lang/Object;Ljava/util/HashMap$Node;)V" } : Jvm.MethodName) prog_55_method_1_code (5 : Nat) (Option.none : Option Jvm.ClassFile.FieldType)) ∈ lw_all := lw_g (lw_at lw_m7 69 rfl) rfl
theorem q1625 : (Jvm.Cond.methodLink "java/util/LinkedHashMap$Entry" (1 : Nat) ({ cls := "java/util/HashMap$Node", name := "<init>", desc := "(ILjava/lang/Object;Ljava/lang/Object;Ljava/util/HashMap$Node;)V" } : Jvm.MethodName)) ∈ lw_all := lw_g (lw_at lw_m7 70 rfl) rfl
theorem q1643 : (Jvm.Cond.soleField "java/util/LinkedHashMap$Entry" "before") ∈ lw_all := lw_g (lw_at lw_m7 88 rfl) rfl
theorem q1645 : (Jvm.Cond.soleField "java/util/LinkedHashMap$Entry" "after") ∈ lw_all := lw_g (lw_at lw_m7 90 rfl) rfl
/-! java/util/HashMap$TreeNode -/
set_option maxRecDepth 100000
def RJ29 : String := "java/util/HashMap$TreeNode"
def TJ29 : u_T := fun k => match k with
  | 0 => ("java/util/LinkedHashMap$Entry", "before", "Ljava/util/LinkedHashMap$Entry;", false)
  | 1 => ("java/util/LinkedHashMap$Entry", "after", "Ljava/util/LinkedHashMap$Entry;", false)
  | 2 => ("java/util/HashMap$Node", "hash", "I", true)
  | 3 => ("java/util/HashMap$Node", "key", "Ljava/lang/Object;", true)
  | 4 => ("java/util/HashMap$Node", "value", "Ljava/lang/Object;", false)
  | 5 => ("java/util/HashMap$Node", "next", "Ljava/util/HashMap$Node;", false)
  | 6 => ("java/util/HashMap$TreeNode", "parent", "Ljava/util/HashMap$TreeNode;", false)
  | 7 => ("java/util/HashMap$TreeNode", "left", "Ljava/util/HashMap$TreeNode;", false)
  | 8 => ("java/util/HashMap$TreeNode", "right", "Ljava/util/HashMap$TreeNode;", false)
  | 9 => ("java/util/HashMap$TreeNode", "prev", "Ljava/util/HashMap$TreeNode;", false)
  | _ => ("java/util/HashMap$TreeNode", "red", "Z", false)
def tyJ29 : Nat → FieldType := fun k => match k with
  | 0 => .object "java/util/LinkedHashMap$Entry"
  | 1 => .object "java/util/LinkedHashMap$Entry"
  | 2 => .int
  | 3 => .object "java/lang/Object"
  | 4 => .object "java/lang/Object"
  | 5 => .object "java/util/HashMap$Node"
  | 6 => .object "java/util/HashMap$TreeNode"
  | 7 => .object "java/util/HashMap$TreeNode"
  | 8 => .object "java/util/HashMap$TreeNode"
  | 9 => .object "java/util/HashMap$TreeNode"
  | _ => .boolean
abbrev wsJ290 : List Cond := u_ws RJ29 TJ29 11
theorem nmJ29 : ∀ a, a < 11 → ∀ b, b < 11 → a ≠ b → (TJ29 a).2.1 ≠ (TJ29 b).2.1 := by decide +kernel
theorem tyJ29_ok : ∀ k, k < 11 → parseFieldDescriptor (TJ29 k).2.2.1 = some (tyJ29 k) := by decide +kernel
abbrev cJ29_getTreeNode : ByteArray := prog_54_method_5_code
def yJ29_getTreeNode : MethodName := ⟨RJ29, "getTreeNode", "(ILjava/lang/Object;)Ljava/util/HashMap$TreeNode;"⟩
def dkwJ29_getTreeNode_0 : List UInt8 := [42, 180, 0, 9, 198, 0, 10, 42, 182, 0, 67, 167, 0, 4, 42, 27, 44, 1, 182, 0, 63, 176]
abbrev dktJ29_getTreeNode_0 : List UInt8 := dkwJ29_getTreeNode_0 ++ []
theorem dksJ29_getTreeNode_0 : cJ29_getTreeNode.data.toList.drop 0 = dktJ29_getTreeNode_0 := by decide +kernel
theorem dJ29_getTreeNode_0 : decode cJ29_getTreeNode 0 = .ok (.aload_n 0, 1) := dk_42 (dk_at dksJ29_getTreeNode_0 0 rfl rfl)
theorem dJ29_getTreeNode_1 : decode cJ29_getTreeNode 1 = .ok (.getfield 9, 3) := dk_180 0 9 (dk_at dksJ29_getTreeNode_0 1 rfl rfl)
theorem dJ29_getTreeNode_4 : decode cJ29_getTreeNode 4 = .ok (.ifnull 10, 3) := dk_198 0 10 (dk_at dksJ29_getTreeNode_0 4 rfl rfl)
theorem dJ29_getTreeNode_7 : decode cJ29_getTreeNode 7 = .ok (.aload_n 0, 1) := dk_42 (dk_at dksJ29_getTreeNode_0 7 rfl rfl)
theorem dJ29_getTreeNode_8 : decode cJ29_getTreeNode 8 = .ok (.invokevirtual 67, 3) := dk_182 0 67 (dk_at dksJ29_getTreeNode_0 8 rfl rfl)
theorem dJ29_getTreeNode_11 : decode cJ29_getTreeNode 11 = .ok (.goto 4, 3) := dk_167 0 4 (dk_at dksJ29_getTreeNode_0 11 rfl rfl)
theorem dJ29_getTreeNode_14 : decode cJ29_getTreeNode 14 = .ok (.aload_n 0, 1) := dk_42 (dk_at dksJ29_getTreeNode_0 14 rfl rfl)
theorem dJ29_getTreeNode_15 : decode cJ29_getTreeNode 15 = .ok (.iload_n 1, 1) := dk_27 (dk_at dksJ29_getTreeNode_0 15 rfl rfl)
theorem dJ29_getTreeNode_16 : decode cJ29_getTreeNode 16 = .ok (.aload_n 2, 1) := dk_44 (dk_at dksJ29_getTreeNode_0 16 rfl rfl)
theorem dJ29_getTreeNode_17 : decode cJ29_getTreeNode 17 = .ok (.aconst_null, 1) := dk_1 (dk_at dksJ29_getTreeNode_0 17 rfl rfl)
theorem dJ29_getTreeNode_18 : decode cJ29_getTreeNode 18 = .ok (.invokevirtual 63, 3) := dk_182 0 63 (dk_at dksJ29_getTreeNode_0 18 rfl rfl)
theorem dJ29_getTreeNode_21 : decode cJ29_getTreeNode 21 = .ok (.areturn, 1) := dk_176 (dk_at dksJ29_getTreeNode_0 21 rfl rfl)
abbrev cJ29_root : ByteArray := prog_54_method_2_code
def yJ29_root : MethodName := ⟨RJ29, "root", "()Ljava/util/HashMap$TreeNode;"⟩
def dkwJ29_root_0 : List UInt8 := [42, 76, 43, 180, 0, 9, 89, 77, 199, 0, 5, 43, 176, 44, 76, 167, 255, 243]
abbrev dktJ29_root_0 : List UInt8 := dkwJ29_root_0 ++ []
theorem dksJ29_root_0 : cJ29_root.data.toList.drop 0 = dktJ29_root_0 := by decide +kernel
theorem dJ29_root_0 : decode cJ29_root 0 = .ok (.aload_n 0, 1) := dk_42 (dk_at dksJ29_root_0 0 rfl rfl)
theorem dJ29_root_1 : decode cJ29_root 1 = .ok (.astore_n 1, 1) := dk_76 (dk_at dksJ29_root_0 1 rfl rfl)
theorem dJ29_root_2 : decode cJ29_root 2 = .ok (.aload_n 1, 1) := dk_43 (dk_at dksJ29_root_0 2 rfl rfl)
theorem dJ29_root_3 : decode cJ29_root 3 = .ok (.getfield 9, 3) := dk_180 0 9 (dk_at dksJ29_root_0 3 rfl rfl)
theorem dJ29_root_6 : decode cJ29_root 6 = .ok (.dup, 1) := dk_89 (dk_at dksJ29_root_0 6 rfl rfl)
theorem dJ29_root_7 : decode cJ29_root 7 = .ok (.astore_n 2, 1) := dk_77 (dk_at dksJ29_root_0 7 rfl rfl)
theorem dJ29_root_8 : decode cJ29_root 8 = .ok (.ifnonnull 5, 3) := dk_199 0 5 (dk_at dksJ29_root_0 8 rfl rfl)
theorem dJ29_root_11 : decode cJ29_root 11 = .ok (.aload_n 1, 1) := dk_43 (dk_at dksJ29_root_0 11 rfl rfl)
theorem dJ29_root_12 : decode cJ29_root 12 = .ok (.areturn, 1) := dk_176 (dk_at dksJ29_root_0 12 rfl rfl)
theorem dJ29_root_13 : decode cJ29_root 13 = .ok (.aload_n 2, 1) := dk_44 (dk_at dksJ29_root_0 13 rfl rfl)
theorem dJ29_root_14 : decode cJ29_root 14 = .ok (.astore_n 1, 1) := dk_76 (dk_at dksJ29_root_0 14 rfl rfl)
theorem dJ29_root_15 : decode cJ29_root 15 = .ok (.goto (-13), 3) := dk_167 255 243 (dk_at dksJ29_root_0 15 rfl rfl)
abbrev cJ29_find : ByteArray := prog_54_method_4_code
def yJ29_find : MethodName := ⟨RJ29, "find", "(ILjava/lang/Object;Ljava/lang/Class;)Ljava/util/HashMap$TreeNode;"⟩
def dkwJ29_find_7 : List UInt8 := [58, 4, 25, 4, 199, 255, 92, 1, 176]
abbrev dktJ29_find_7 : List UInt8 := dkwJ29_find_7 ++ []
def dkwJ29_find_6 : List UInt8 := [58, 4, 167, 0, 24, 25, 9, 27, 44, 45, 182, 0, 63, 89, 58, 10, 198, 0, 6, 25, 10, 176, 25, 8]
abbrev dktJ29_find_6 : List UInt8 := dkwJ29_find_6 ++ dktJ29_find_7
def dkwJ29_find_5 : List UInt8 := [44, 25, 7, 184, 0, 59, 89, 54, 6, 153, 0, 20, 21, 6, 156, 0, 8, 25, 8, 167, 0, 5, 25, 9]
abbrev dktJ29_find_5 : List UInt8 := dkwJ29_find_5 ++ dktJ29_find_6
def dkwJ29_find_4 : List UInt8 := [199, 0, 10, 25, 8, 58, 4, 167, 0, 67, 45, 199, 0, 12, 44, 184, 0, 55, 89, 78, 198, 0, 33, 45]
abbrev dktJ29_find_4 : List UInt8 := dkwJ29_find_4 ++ dktJ29_find_5
def dkwJ29_find_3 : List UInt8 := [182, 0, 49, 153, 0, 6, 25, 4, 176, 25, 8, 199, 0, 10, 25, 9, 58, 4, 167, 0, 79, 25, 9]
abbrev dktJ29_find_3 : List UInt8 := dkwJ29_find_3 ++ dktJ29_find_4
def dkwJ29_find_2 : List UInt8 := [167, 0, 119, 25, 4, 180, 0, 45, 89, 58, 7, 44, 165, 0, 16, 44, 198, 0, 15, 44, 25, 7]
abbrev dktJ29_find_2 : List UInt8 := dkwJ29_find_2 ++ dktJ29_find_3
def dkwJ29_find_1 : List UInt8 := [54, 5, 27, 164, 0, 10, 25, 8, 58, 4, 167, 0, 132, 21, 5, 27, 162, 0, 10, 25, 9, 58, 4]
abbrev dktJ29_find_1 : List UInt8 := dkwJ29_find_1 ++ dktJ29_find_2
def dkwJ29_find_0 : List UInt8 := [42, 58, 4, 25, 4, 180, 0, 39, 58, 8, 25, 4, 180, 0, 42, 58, 9, 25, 4, 180, 0, 15, 89]
abbrev dktJ29_find_0 : List UInt8 := dkwJ29_find_0 ++ dktJ29_find_1
theorem dksJ29_find_0 : cJ29_find.data.toList.drop 0 = dktJ29_find_0 := by decide +kernel
theorem dksJ29_find_1 : cJ29_find.data.toList.drop 23 = dktJ29_find_1 := dk_seg dksJ29_find_0 23 rfl rfl
theorem dksJ29_find_2 : cJ29_find.data.toList.drop 46 = dktJ29_find_2 := dk_seg dksJ29_find_1 23 rfl rfl
theorem dksJ29_find_3 : cJ29_find.data.toList.drop 68 = dktJ29_find_3 := dk_seg dksJ29_find_2 22 rfl rfl
theorem dksJ29_find_4 : cJ29_find.data.toList.drop 91 = dktJ29_find_4 := dk_seg dksJ29_find_3 23 rfl rfl
theorem dksJ29_find_5 : cJ29_find.data.toList.drop 115 = dktJ29_find_5 := dk_seg dksJ29_find_4 24 rfl rfl
theorem dksJ29_find_6 : cJ29_find.data.toList.drop 139 = dktJ29_find_6 := dk_seg dksJ29_find_5 24 rfl rfl
theorem dksJ29_find_7 : cJ29_find.data.toList.drop 163 = dktJ29_find_7 := dk_seg dksJ29_find_6 24 rfl rfl
theorem dJ29_find_0 : decode cJ29_find 0 = .ok (.aload_n 0, 1) := dk_42 (dk_at dksJ29_find_0 0 rfl rfl)
theorem dJ29_find_1 : decode cJ29_find 1 = .ok (.astore 4, 2) := dk_58 4 (dk_at dksJ29_find_0 1 rfl rfl)
theorem dJ29_find_3 : decode cJ29_find 3 = .ok (.aload 4, 2) := dk_25 4 (dk_at dksJ29_find_0 3 rfl rfl)
theorem dJ29_find_5 : decode cJ29_find 5 = .ok (.getfield 39, 3) := dk_180 0 39 (dk_at dksJ29_find_0 5 rfl rfl)
theorem dJ29_find_8 : decode cJ29_find 8 = .ok (.astore 8, 2) := dk_58 8 (dk_at dksJ29_find_0 8 rfl rfl)
theorem dJ29_find_10 : decode cJ29_find 10 = .ok (.aload 4, 2) := dk_25 4 (dk_at dksJ29_find_0 10 rfl rfl)
theorem dJ29_find_12 : decode cJ29_find 12 = .ok (.getfield 42, 3) := dk_180 0 42 (dk_at dksJ29_find_0 12 rfl rfl)
theorem dJ29_find_15 : decode cJ29_find 15 = .ok (.astore 9, 2) := dk_58 9 (dk_at dksJ29_find_0 15 rfl rfl)
theorem dJ29_find_17 : decode cJ29_find 17 = .ok (.aload 4, 2) := dk_25 4 (dk_at dksJ29_find_0 17 rfl rfl)
theorem dJ29_find_19 : decode cJ29_find 19 = .ok (.getfield 15, 3) := dk_180 0 15 (dk_at dksJ29_find_0 19 rfl rfl)
theorem dJ29_find_22 : decode cJ29_find 22 = .ok (.dup, 1) := dk_89 (dk_at dksJ29_find_0 22 rfl rfl)
theorem dJ29_find_23 : decode cJ29_find 23 = .ok (.istore 5, 2) := dk_54 5 (dk_at dksJ29_find_1 0 rfl rfl)
theorem dJ29_find_25 : decode cJ29_find 25 = .ok (.iload_n 1, 1) := dk_27 (dk_at dksJ29_find_1 2 rfl rfl)
theorem dJ29_find_26 : decode cJ29_find 26 = .ok (.if_icmp .le 10, 3) := dk_164 0 10 (dk_at dksJ29_find_1 3 rfl rfl)
theorem dJ29_find_29 : decode cJ29_find 29 = .ok (.aload 8, 2) := dk_25 8 (dk_at dksJ29_find_1 6 rfl rfl)
theorem dJ29_find_31 : decode cJ29_find 31 = .ok (.astore 4, 2) := dk_58 4 (dk_at dksJ29_find_1 8 rfl rfl)
theorem dJ29_find_33 : decode cJ29_find 33 = .ok (.goto 132, 3) := dk_167 0 132 (dk_at dksJ29_find_1 10 rfl rfl)
theorem dJ29_find_36 : decode cJ29_find 36 = .ok (.iload 5, 2) := dk_21 5 (dk_at dksJ29_find_1 13 rfl rfl)
theorem dJ29_find_38 : decode cJ29_find 38 = .ok (.iload_n 1, 1) := dk_27 (dk_at dksJ29_find_1 15 rfl rfl)
theorem dJ29_find_39 : decode cJ29_find 39 = .ok (.if_icmp .ge 10, 3) := dk_162 0 10 (dk_at dksJ29_find_1 16 rfl rfl)
theorem dJ29_find_42 : decode cJ29_find 42 = .ok (.aload 9, 2) := dk_25 9 (dk_at dksJ29_find_1 19 rfl rfl)
theorem dJ29_find_44 : decode cJ29_find 44 = .ok (.astore 4, 2) := dk_58 4 (dk_at dksJ29_find_1 21 rfl rfl)
theorem dJ29_find_46 : decode cJ29_find 46 = .ok (.goto 119, 3) := dk_167 0 119 (dk_at dksJ29_find_2 0 rfl rfl)
theorem dJ29_find_49 : decode cJ29_find 49 = .ok (.aload 4, 2) := dk_25 4 (dk_at dksJ29_find_2 3 rfl rfl)
theorem dJ29_find_51 : decode cJ29_find 51 = .ok (.getfield 45, 3) := dk_180 0 45 (dk_at dksJ29_find_2 5 rfl rfl)
theorem dJ29_find_54 : decode cJ29_find 54 = .ok (.dup, 1) := dk_89 (dk_at dksJ29_find_2 8 rfl rfl)
theorem dJ29_find_55 : decode cJ29_find 55 = .ok (.astore 7, 2) := dk_58 7 (dk_at dksJ29_find_2 9 rfl rfl)
theorem dJ29_find_57 : decode cJ29_find 57 = .ok (.aload_n 2, 1) := dk_44 (dk_at dksJ29_find_2 11 rfl rfl)
theorem dJ29_find_58 : decode cJ29_find 58 = .ok (.if_acmp .eq 16, 3) := dk_165 0 16 (dk_at dksJ29_find_2 12 rfl rfl)
theorem dJ29_find_61 : decode cJ29_find 61 = .ok (.aload_n 2, 1) := dk_44 (dk_at dksJ29_find_2 15 rfl rfl)
theorem dJ29_find_62 : decode cJ29_find 62 = .ok (.ifnull 15, 3) := dk_198 0 15 (dk_at dksJ29_find_2 16 rfl rfl)
theorem dJ29_find_65 : decode cJ29_find 65 = .ok (.aload_n 2, 1) := dk_44 (dk_at dksJ29_find_2 19 rfl rfl)
theorem dJ29_find_66 : decode cJ29_find 66 = .ok (.aload 7, 2) := dk_25 7 (dk_at dksJ29_find_2 20 rfl rfl)
theorem dJ29_find_68 : decode cJ29_find 68 = .ok (.invokevirtual 49, 3) := dk_182 0 49 (dk_at dksJ29_find_3 0 rfl rfl)
theorem dJ29_find_71 : decode cJ29_find 71 = .ok (.ifCond .eq 6, 3) := dk_153 0 6 (dk_at dksJ29_find_3 3 rfl rfl)
theorem dJ29_find_74 : decode cJ29_find 74 = .ok (.aload 4, 2) := dk_25 4 (dk_at dksJ29_find_3 6 rfl rfl)
theorem dJ29_find_76 : decode cJ29_find 76 = .ok (.areturn, 1) := dk_176 (dk_at dksJ29_find_3 8 rfl rfl)
theorem dJ29_find_77 : decode cJ29_find 77 = .ok (.aload 8, 2) := dk_25 8 (dk_at dksJ29_find_3 9 rfl rfl)
theorem dJ29_find_79 : decode cJ29_find 79 = .ok (.ifnonnull 10, 3) := dk_199 0 10 (dk_at dksJ29_find_3 11 rfl rfl)
theorem dJ29_find_82 : decode cJ29_find 82 = .ok (.aload 9, 2) := dk_25 9 (dk_at dksJ29_find_3 14 rfl rfl)
theorem dJ29_find_84 : decode cJ29_find 84 = .ok (.astore 4, 2) := dk_58 4 (dk_at dksJ29_find_3 16 rfl rfl)
theorem dJ29_find_86 : decode cJ29_find 86 = .ok (.goto 79, 3) := dk_167 0 79 (dk_at dksJ29_find_3 18 rfl rfl)
theorem dJ29_find_89 : decode cJ29_find 89 = .ok (.aload 9, 2) := dk_25 9 (dk_at dksJ29_find_3 21 rfl rfl)
theorem dJ29_find_91 : decode cJ29_find 91 = .ok (.ifnonnull 10, 3) := dk_199 0 10 (dk_at dksJ29_find_4 0 rfl rfl)
theorem dJ29_find_94 : decode cJ29_find 94 = .ok (.aload 8, 2) := dk_25 8 (dk_at dksJ29_find_4 3 rfl rfl)
theorem dJ29_find_96 : decode cJ29_find 96 = .ok (.astore 4, 2) := dk_58 4 (dk_at dksJ29_find_4 5 rfl rfl)
theorem dJ29_find_98 : decode cJ29_find 98 = .ok (.goto 67, 3) := dk_167 0 67 (dk_at dksJ29_find_4 7 rfl rfl)
theorem dJ29_find_101 : decode cJ29_find 101 = .ok (.aload_n 3, 1) := dk_45 (dk_at dksJ29_find_4 10 rfl rfl)
theorem dJ29_find_102 : decode cJ29_find 102 = .ok (.ifnonnull 12, 3) := dk_199 0 12 (dk_at dksJ29_find_4 11 rfl rfl)
theorem dJ29_find_105 : decode cJ29_find 105 = .ok (.aload_n 2, 1) := dk_44 (dk_at dksJ29_find_4 14 rfl rfl)
theorem dJ29_find_106 : decode cJ29_find 106 = .ok (.invokestatic 55, 3) := dk_184 0 55 (dk_at dksJ29_find_4 15 rfl rfl)
theorem dJ29_find_109 : decode cJ29_find 109 = .ok (.dup, 1) := dk_89 (dk_at dksJ29_find_4 18 rfl rfl)
theorem dJ29_find_110 : decode cJ29_find 110 = .ok (.astore_n 3, 1) := dk_78 (dk_at dksJ29_find_4 19 rfl rfl)
theorem dJ29_find_111 : decode cJ29_find 111 = .ok (.ifnull 33, 3) := dk_198 0 33 (dk_at dksJ29_find_4 20 rfl rfl)
theorem dJ29_find_114 : decode cJ29_find 114 = .ok (.aload_n 3, 1) := dk_45 (dk_at dksJ29_find_4 23 rfl rfl)
theorem dJ29_find_115 : decode cJ29_find 115 = .ok (.aload_n 2, 1) := dk_44 (dk_at dksJ29_find_5 0 rfl rfl)
theorem dJ29_find_116 : decode cJ29_find 116 = .ok (.aload 7, 2) := dk_25 7 (dk_at dksJ29_find_5 1 rfl rfl)
theorem dJ29_find_118 : decode cJ29_find 118 = .ok (.invokestatic 59, 3) := dk_184 0 59 (dk_at dksJ29_find_5 3 rfl rfl)
theorem dJ29_find_121 : decode cJ29_find 121 = .ok (.dup, 1) := dk_89 (dk_at dksJ29_find_5 6 rfl rfl)
theorem dJ29_find_122 : decode cJ29_find 122 = .ok (.istore 6, 2) := dk_54 6 (dk_at dksJ29_find_5 7 rfl rfl)
theorem dJ29_find_124 : decode cJ29_find 124 = .ok (.ifCond .eq 20, 3) := dk_153 0 20 (dk_at dksJ29_find_5 9 rfl rfl)
theorem dJ29_find_127 : decode cJ29_find 127 = .ok (.iload 6, 2) := dk_21 6 (dk_at dksJ29_find_5 12 rfl rfl)
theorem dJ29_find_129 : decode cJ29_find 129 = .ok (.ifCond .ge 8, 3) := dk_156 0 8 (dk_at dksJ29_find_5 14 rfl rfl)
theorem dJ29_find_132 : decode cJ29_find 132 = .ok (.aload 8, 2) := dk_25 8 (dk_at dksJ29_find_5 17 rfl rfl)
theorem dJ29_find_134 : decode cJ29_find 134 = .ok (.goto 5, 3) := dk_167 0 5 (dk_at dksJ29_find_5 19 rfl rfl)
theorem dJ29_find_137 : decode cJ29_find 137 = .ok (.aload 9, 2) := dk_25 9 (dk_at dksJ29_find_5 22 rfl rfl)
theorem dJ29_find_139 : decode cJ29_find 139 = .ok (.astore 4, 2) := dk_58 4 (dk_at dksJ29_find_6 0 rfl rfl)
theorem dJ29_find_141 : decode cJ29_find 141 = .ok (.goto 24, 3) := dk_167 0 24 (dk_at dksJ29_find_6 2 rfl rfl)
theorem dJ29_find_144 : decode cJ29_find 144 = .ok (.aload 9, 2) := dk_25 9 (dk_at dksJ29_find_6 5 rfl rfl)
theorem dJ29_find_146 : decode cJ29_find 146 = .ok (.iload_n 1, 1) := dk_27 (dk_at dksJ29_find_6 7 rfl rfl)
theorem dJ29_find_147 : decode cJ29_find 147 = .ok (.aload_n 2, 1) := dk_44 (dk_at dksJ29_find_6 8 rfl rfl)
theorem dJ29_find_148 : decode cJ29_find 148 = .ok (.aload_n 3, 1) := dk_45 (dk_at dksJ29_find_6 9 rfl rfl)
theorem dJ29_find_149 : decode cJ29_find 149 = .ok (.invokevirtual 63, 3) := dk_182 0 63 (dk_at dksJ29_find_6 10 rfl rfl)
theorem dJ29_find_152 : decode cJ29_find 152 = .ok (.dup, 1) := dk_89 (dk_at dksJ29_find_6 13 rfl rfl)
theorem dJ29_find_153 : decode cJ29_find 153 = .ok (.astore 10, 2) := dk_58 10 (dk_at dksJ29_find_6 14 rfl rfl)
theorem dJ29_find_155 : decode cJ29_find 155 = .ok (.ifnull 6, 3) := dk_198 0 6 (dk_at dksJ29_find_6 16 rfl rfl)
theorem dJ29_find_158 : decode cJ29_find 158 = .ok (.aload 10, 2) := dk_25 10 (dk_at dksJ29_find_6 19 rfl rfl)
theorem dJ29_find_160 : decode cJ29_find 160 = .ok (.areturn, 1) := dk_176 (dk_at dksJ29_find_6 21 rfl rfl)
theorem dJ29_find_161 : decode cJ29_find 161 = .ok (.aload 8, 2) := dk_25 8 (dk_at dksJ29_find_6 22 rfl rfl)
theorem dJ29_find_163 : decode cJ29_find 163 = .ok (.astore 4, 2) := dk_58 4 (dk_at dksJ29_find_7 0 rfl rfl)
theorem dJ29_find_165 : decode cJ29_find 165 = .ok (.aload 4, 2) := dk_25 4 (dk_at dksJ29_find_7 2 rfl rfl)
theorem dJ29_find_167 : decode cJ29_find 167 = .ok (.ifnonnull (-164), 3) := dk_199 255 92 (dk_at dksJ29_find_7 4 rfl rfl)
theorem dJ29_find_170 : decode cJ29_find 170 = .ok (.aconst_null, 1) := dk_1 (dk_at dksJ29_find_7 7 rfl rfl)
theorem dJ29_find_171 : decode cJ29_find 171 = .ok (.areturn, 1) := dk_176 (dk_at dksJ29_find_7 8 rfl rfl)
abbrev cJ29_split : ByteArray := prog_54_method_11_code
def yJ29_split : MethodName := ⟨RJ29, "split", "(Ljava/util/HashMap;[Ljava/util/HashMap$Node;II)V"⟩
def dkwJ29_split_9 : List UInt8 := [198, 0, 9, 25, 8, 44, 182, 0, 126, 177]
abbrev dktJ29_split_9 : List UInt8 := dkwJ29_split_9 ++ []
def dkwJ29_split_8 : List UInt8 := [21, 4, 96, 25, 8, 43, 182, 0, 119, 83, 167, 0, 22, 44, 29, 21, 4, 96, 25, 8, 83, 25, 6]
abbrev dktJ29_split_8 : List UInt8 := dkwJ29_split_8 ++ dktJ29_split_9
def dkwJ29_split_7 : List UInt8 := [198, 0, 9, 25, 6, 44, 182, 0, 126, 25, 8, 198, 0, 44, 21, 11, 16, 6, 163, 0, 18, 44, 29]
abbrev dktJ29_split_7 : List UInt8 := dkwJ29_split_7 ++ dktJ29_split_8
def dkwJ29_split_6 : List UInt8 := [163, 0, 15, 44, 29, 25, 6, 43, 182, 0, 119, 83, 167, 0, 19, 44, 29, 25, 6, 83, 25, 8]
abbrev dktJ29_split_6 : List UInt8 := dkwJ29_split_6 ++ dktJ29_split_7
def dkwJ29_split_5 : List UInt8 := [25, 12, 58, 9, 132, 11, 1, 25, 13, 58, 12, 167, 255, 153, 25, 6, 198, 0, 38, 21, 10, 16, 6]
abbrev dktJ29_split_5 : List UInt8 := dkwJ29_split_5 ++ dktJ29_split_6
def dkwJ29_split_4 : List UInt8 := [25, 9, 90, 181, 0, 19, 199, 0, 10, 25, 12, 58, 8, 167, 0, 10, 25, 9, 25, 12, 181, 0, 22]
abbrev dktJ29_split_4 : List UInt8 := dkwJ29_split_4 ++ dktJ29_split_5
def dkwJ29_split_3 : List UInt8 := [58, 6, 167, 0, 10, 25, 7, 25, 12, 181, 0, 22, 25, 12, 58, 7, 132, 10, 1, 167, 0, 35, 25, 12]
abbrev dktJ29_split_3 : List UInt8 := dkwJ29_split_3 ++ dktJ29_split_4
def dkwJ29_split_2 : List UInt8 := [25, 12, 180, 0, 15, 21, 4, 126, 154, 0, 38, 25, 12, 25, 7, 90, 181, 0, 19, 199, 0, 10, 25, 12]
abbrev dktJ29_split_2 : List UInt8 := dkwJ29_split_2 ++ dktJ29_split_3
def dkwJ29_split_1 : List UInt8 := [58, 12, 25, 12, 198, 0, 104, 25, 12, 180, 0, 22, 192, 0, 10, 58, 13, 25, 12, 1, 181, 0, 22]
abbrev dktJ29_split_1 : List UInt8 := dkwJ29_split_1 ++ dktJ29_split_2
def dkwJ29_split_0 : List UInt8 := [42, 58, 5, 1, 58, 6, 1, 58, 7, 1, 58, 8, 1, 58, 9, 3, 54, 10, 3, 54, 11, 25, 5]
abbrev dktJ29_split_0 : List UInt8 := dkwJ29_split_0 ++ dktJ29_split_1
theorem dksJ29_split_0 : cJ29_split.data.toList.drop 0 = dktJ29_split_0 := by decide +kernel
theorem dksJ29_split_1 : cJ29_split.data.toList.drop 23 = dktJ29_split_1 := dk_seg dksJ29_split_0 23 rfl rfl
theorem dksJ29_split_2 : cJ29_split.data.toList.drop 46 = dktJ29_split_2 := dk_seg dksJ29_split_1 23 rfl rfl
theorem dksJ29_split_3 : cJ29_split.data.toList.drop 70 = dktJ29_split_3 := dk_seg dksJ29_split_2 24 rfl rfl
theorem dksJ29_split_4 : cJ29_split.data.toList.drop 94 = dktJ29_split_4 := dk_seg dksJ29_split_3 24 rfl rfl
theorem dksJ29_split_5 : cJ29_split.data.toList.drop 117 = dktJ29_split_5 := dk_seg dksJ29_split_4 23 rfl rfl
theorem dksJ29_split_6 : cJ29_split.data.toList.drop 140 = dktJ29_split_6 := dk_seg dksJ29_split_5 23 rfl rfl
theorem dksJ29_split_7 : cJ29_split.data.toList.drop 162 = dktJ29_split_7 := dk_seg dksJ29_split_6 22 rfl rfl
theorem dksJ29_split_8 : cJ29_split.data.toList.drop 185 = dktJ29_split_8 := dk_seg dksJ29_split_7 23 rfl rfl
theorem dksJ29_split_9 : cJ29_split.data.toList.drop 208 = dktJ29_split_9 := dk_seg dksJ29_split_8 23 rfl rfl
theorem dJ29_split_0 : decode cJ29_split 0 = .ok (.aload_n 0, 1) := dk_42 (dk_at dksJ29_split_0 0 rfl rfl)
theorem dJ29_split_1 : decode cJ29_split 1 = .ok (.astore 5, 2) := dk_58 5 (dk_at dksJ29_split_0 1 rfl rfl)
theorem dJ29_split_3 : decode cJ29_split 3 = .ok (.aconst_null, 1) := dk_1 (dk_at dksJ29_split_0 3 rfl rfl)
theorem dJ29_split_4 : decode cJ29_split 4 = .ok (.astore 6, 2) := dk_58 6 (dk_at dksJ29_split_0 4 rfl rfl)
theorem dJ29_split_6 : decode cJ29_split 6 = .ok (.aconst_null, 1) := dk_1 (dk_at dksJ29_split_0 6 rfl rfl)
theorem dJ29_split_7 : decode cJ29_split 7 = .ok (.astore 7, 2) := dk_58 7 (dk_at dksJ29_split_0 7 rfl rfl)
theorem dJ29_split_9 : decode cJ29_split 9 = .ok (.aconst_null, 1) := dk_1 (dk_at dksJ29_split_0 9 rfl rfl)
theorem dJ29_split_10 : decode cJ29_split 10 = .ok (.astore 8, 2) := dk_58 8 (dk_at dksJ29_split_0 10 rfl rfl)
theorem dJ29_split_12 : decode cJ29_split 12 = .ok (.aconst_null, 1) := dk_1 (dk_at dksJ29_split_0 12 rfl rfl)
theorem dJ29_split_13 : decode cJ29_split 13 = .ok (.astore 9, 2) := dk_58 9 (dk_at dksJ29_split_0 13 rfl rfl)
theorem dJ29_split_15 : decode cJ29_split 15 = .ok (.iconst 0, 1) := dk_3 (dk_at dksJ29_split_0 15 rfl rfl)
theorem dJ29_split_16 : decode cJ29_split 16 = .ok (.istore 10, 2) := dk_54 10 (dk_at dksJ29_split_0 16 rfl rfl)
theorem dJ29_split_18 : decode cJ29_split 18 = .ok (.iconst 0, 1) := dk_3 (dk_at dksJ29_split_0 18 rfl rfl)
theorem dJ29_split_19 : decode cJ29_split 19 = .ok (.istore 11, 2) := dk_54 11 (dk_at dksJ29_split_0 19 rfl rfl)
theorem dJ29_split_21 : decode cJ29_split 21 = .ok (.aload 5, 2) := dk_25 5 (dk_at dksJ29_split_0 21 rfl rfl)
theorem dJ29_split_23 : decode cJ29_split 23 = .ok (.astore 12, 2) := dk_58 12 (dk_at dksJ29_split_1 0 rfl rfl)
theorem dJ29_split_25 : decode cJ29_split 25 = .ok (.aload 12, 2) := dk_25 12 (dk_at dksJ29_split_1 2 rfl rfl)
theorem dJ29_split_27 : decode cJ29_split 27 = .ok (.ifnull 104, 3) := dk_198 0 104 (dk_at dksJ29_split_1 4 rfl rfl)
theorem dJ29_split_30 : decode cJ29_split 30 = .ok (.aload 12, 2) := dk_25 12 (dk_at dksJ29_split_1 7 rfl rfl)
theorem dJ29_split_32 : decode cJ29_split 32 = .ok (.getfield 22, 3) := dk_180 0 22 (dk_at dksJ29_split_1 9 rfl rfl)
theorem dJ29_split_35 : decode cJ29_split 35 = .ok (.checkcast 10, 3) := dk_192 0 10 (dk_at dksJ29_split_1 12 rfl rfl)
theorem dJ29_split_38 : decode cJ29_split 38 = .ok (.astore 13, 2) := dk_58 13 (dk_at dksJ29_split_1 15 rfl rfl)
theorem dJ29_split_40 : decode cJ29_split 40 = .ok (.aload 12, 2) := dk_25 12 (dk_at dksJ29_split_1 17 rfl rfl)
theorem dJ29_split_42 : decode cJ29_split 42 = .ok (.aconst_null, 1) := dk_1 (dk_at dksJ29_split_1 19 rfl rfl)
theorem dJ29_split_43 : decode cJ29_split 43 = .ok (.putfield 22, 3) := dk_181 0 22 (dk_at dksJ29_split_1 20 rfl rfl)
theorem dJ29_split_46 : decode cJ29_split 46 = .ok (.aload 12, 2) := dk_25 12 (dk_at dksJ29_split_2 0 rfl rfl)
theorem dJ29_split_48 : decode cJ29_split 48 = .ok (.getfield 15, 3) := dk_180 0 15 (dk_at dksJ29_split_2 2 rfl rfl)
theorem dJ29_split_51 : decode cJ29_split 51 = .ok (.iload 4, 2) := dk_21 4 (dk_at dksJ29_split_2 5 rfl rfl)
theorem dJ29_split_53 : decode cJ29_split 53 = .ok (.iand, 1) := dk_126 (dk_at dksJ29_split_2 7 rfl rfl)
theorem dJ29_split_54 : decode cJ29_split 54 = .ok (.ifCond .ne 38, 3) := dk_154 0 38 (dk_at dksJ29_split_2 8 rfl rfl)
theorem dJ29_split_57 : decode cJ29_split 57 = .ok (.aload 12, 2) := dk_25 12 (dk_at dksJ29_split_2 11 rfl rfl)
theorem dJ29_split_59 : decode cJ29_split 59 = .ok (.aload 7, 2) := dk_25 7 (dk_at dksJ29_split_2 13 rfl rfl)
theorem dJ29_split_61 : decode cJ29_split 61 = .ok (.dup_x1, 1) := dk_90 (dk_at dksJ29_split_2 15 rfl rfl)
theorem dJ29_split_62 : decode cJ29_split 62 = .ok (.putfield 19, 3) := dk_181 0 19 (dk_at dksJ29_split_2 16 rfl rfl)
theorem dJ29_split_65 : decode cJ29_split 65 = .ok (.ifnonnull 10, 3) := dk_199 0 10 (dk_at dksJ29_split_2 19 rfl rfl)
theorem dJ29_split_68 : decode cJ29_split 68 = .ok (.aload 12, 2) := dk_25 12 (dk_at dksJ29_split_2 22 rfl rfl)
theorem dJ29_split_70 : decode cJ29_split 70 = .ok (.astore 6, 2) := dk_58 6 (dk_at dksJ29_split_3 0 rfl rfl)
theorem dJ29_split_72 : decode cJ29_split 72 = .ok (.goto 10, 3) := dk_167 0 10 (dk_at dksJ29_split_3 2 rfl rfl)
theorem dJ29_split_75 : decode cJ29_split 75 = .ok (.aload 7, 2) := dk_25 7 (dk_at dksJ29_split_3 5 rfl rfl)
theorem dJ29_split_77 : decode cJ29_split 77 = .ok (.aload 12, 2) := dk_25 12 (dk_at dksJ29_split_3 7 rfl rfl)
theorem dJ29_split_79 : decode cJ29_split 79 = .ok (.putfield 22, 3) := dk_181 0 22 (dk_at dksJ29_split_3 9 rfl rfl)
theorem dJ29_split_82 : decode cJ29_split 82 = .ok (.aload 12, 2) := dk_25 12 (dk_at dksJ29_split_3 12 rfl rfl)
theorem dJ29_split_84 : decode cJ29_split 84 = .ok (.astore 7, 2) := dk_58 7 (dk_at dksJ29_split_3 14 rfl rfl)
theorem dJ29_split_86 : decode cJ29_split 86 = .ok (.iinc 10 1, 3) := dk_132 10 1 (dk_at dksJ29_split_3 16 rfl rfl)
theorem dJ29_split_89 : decode cJ29_split 89 = .ok (.goto 35, 3) := dk_167 0 35 (dk_at dksJ29_split_3 19 rfl rfl)
theorem dJ29_split_92 : decode cJ29_split 92 = .ok (.aload 12, 2) := dk_25 12 (dk_at dksJ29_split_3 22 rfl rfl)
theorem dJ29_split_94 : decode cJ29_split 94 = .ok (.aload 9, 2) := dk_25 9 (dk_at dksJ29_split_4 0 rfl rfl)
theorem dJ29_split_96 : decode cJ29_split 96 = .ok (.dup_x1, 1) := dk_90 (dk_at dksJ29_split_4 2 rfl rfl)
theorem dJ29_split_97 : decode cJ29_split 97 = .ok (.putfield 19, 3) := dk_181 0 19 (dk_at dksJ29_split_4 3 rfl rfl)
theorem dJ29_split_100 : decode cJ29_split 100 = .ok (.ifnonnull 10, 3) := dk_199 0 10 (dk_at dksJ29_split_4 6 rfl rfl)
theorem dJ29_split_103 : decode cJ29_split 103 = .ok (.aload 12, 2) := dk_25 12 (dk_at dksJ29_split_4 9 rfl rfl)
theorem dJ29_split_105 : decode cJ29_split 105 = .ok (.astore 8, 2) := dk_58 8 (dk_at dksJ29_split_4 11 rfl rfl)
theorem dJ29_split_107 : decode cJ29_split 107 = .ok (.goto 10, 3) := dk_167 0 10 (dk_at dksJ29_split_4 13 rfl rfl)
theorem dJ29_split_110 : decode cJ29_split 110 = .ok (.aload 9, 2) := dk_25 9 (dk_at dksJ29_split_4 16 rfl rfl)
theorem dJ29_split_112 : decode cJ29_split 112 = .ok (.aload 12, 2) := dk_25 12 (dk_at dksJ29_split_4 18 rfl rfl)
theorem dJ29_split_114 : decode cJ29_split 114 = .ok (.putfield 22, 3) := dk_181 0 22 (dk_at dksJ29_split_4 20 rfl rfl)
theorem dJ29_split_117 : decode cJ29_split 117 = .ok (.aload 12, 2) := dk_25 12 (dk_at dksJ29_split_5 0 rfl rfl)
theorem dJ29_split_119 : decode cJ29_split 119 = .ok (.astore 9, 2) := dk_58 9 (dk_at dksJ29_split_5 2 rfl rfl)
theorem dJ29_split_121 : decode cJ29_split 121 = .ok (.iinc 11 1, 3) := dk_132 11 1 (dk_at dksJ29_split_5 4 rfl rfl)
theorem dJ29_split_124 : decode cJ29_split 124 = .ok (.aload 13, 2) := dk_25 13 (dk_at dksJ29_split_5 7 rfl rfl)
theorem dJ29_split_126 : decode cJ29_split 126 = .ok (.astore 12, 2) := dk_58 12 (dk_at dksJ29_split_5 9 rfl rfl)
theorem dJ29_split_128 : decode cJ29_split 128 = .ok (.goto (-103), 3) := dk_167 255 153 (dk_at dksJ29_split_5 11 rfl rfl)
theorem dJ29_split_131 : decode cJ29_split 131 = .ok (.aload 6, 2) := dk_25 6 (dk_at dksJ29_split_5 14 rfl rfl)
theorem dJ29_split_133 : decode cJ29_split 133 = .ok (.ifnull 38, 3) := dk_198 0 38 (dk_at dksJ29_split_5 16 rfl rfl)
theorem dJ29_split_136 : decode cJ29_split 136 = .ok (.iload 10, 2) := dk_21 10 (dk_at dksJ29_split_5 19 rfl rfl)
theorem dJ29_split_138 : decode cJ29_split 138 = .ok (.bipush 6, 2) := dk_16 6 (dk_at dksJ29_split_5 21 rfl rfl)
theorem dJ29_split_140 : decode cJ29_split 140 = .ok (.if_icmp .gt 15, 3) := dk_163 0 15 (dk_at dksJ29_split_6 0 rfl rfl)
theorem dJ29_split_143 : decode cJ29_split 143 = .ok (.aload_n 2, 1) := dk_44 (dk_at dksJ29_split_6 3 rfl rfl)
theorem dJ29_split_144 : decode cJ29_split 144 = .ok (.iload_n 3, 1) := dk_29 (dk_at dksJ29_split_6 4 rfl rfl)
theorem dJ29_split_145 : decode cJ29_split 145 = .ok (.aload 6, 2) := dk_25 6 (dk_at dksJ29_split_6 5 rfl rfl)
theorem dJ29_split_147 : decode cJ29_split 147 = .ok (.aload_n 1, 1) := dk_43 (dk_at dksJ29_split_6 7 rfl rfl)
theorem dJ29_split_148 : decode cJ29_split 148 = .ok (.invokevirtual 119, 3) := dk_182 0 119 (dk_at dksJ29_split_6 8 rfl rfl)
theorem dJ29_split_151 : decode cJ29_split 151 = .ok (.aastore, 1) := dk_83 (dk_at dksJ29_split_6 11 rfl rfl)
theorem dJ29_split_152 : decode cJ29_split 152 = .ok (.goto 19, 3) := dk_167 0 19 (dk_at dksJ29_split_6 12 rfl rfl)
theorem dJ29_split_155 : decode cJ29_split 155 = .ok (.aload_n 2, 1) := dk_44 (dk_at dksJ29_split_6 15 rfl rfl)
theorem dJ29_split_156 : decode cJ29_split 156 = .ok (.iload_n 3, 1) := dk_29 (dk_at dksJ29_split_6 16 rfl rfl)
theorem dJ29_split_157 : decode cJ29_split 157 = .ok (.aload 6, 2) := dk_25 6 (dk_at dksJ29_split_6 17 rfl rfl)
theorem dJ29_split_159 : decode cJ29_split 159 = .ok (.aastore, 1) := dk_83 (dk_at dksJ29_split_6 19 rfl rfl)
theorem dJ29_split_160 : decode cJ29_split 160 = .ok (.aload 8, 2) := dk_25 8 (dk_at dksJ29_split_6 20 rfl rfl)
theorem dJ29_split_162 : decode cJ29_split 162 = .ok (.ifnull 9, 3) := dk_198 0 9 (dk_at dksJ29_split_7 0 rfl rfl)
theorem dJ29_split_165 : decode cJ29_split 165 = .ok (.aload 6, 2) := dk_25 6 (dk_at dksJ29_split_7 3 rfl rfl)
theorem dJ29_split_167 : decode cJ29_split 167 = .ok (.aload_n 2, 1) := dk_44 (dk_at dksJ29_split_7 5 rfl rfl)
theorem dJ29_split_168 : decode cJ29_split 168 = .ok (.invokevirtual 126, 3) := dk_182 0 126 (dk_at dksJ29_split_7 6 rfl rfl)
theorem dJ29_split_171 : decode cJ29_split 171 = .ok (.aload 8, 2) := dk_25 8 (dk_at dksJ29_split_7 9 rfl rfl)
theorem dJ29_split_173 : decode cJ29_split 173 = .ok (.ifnull 44, 3) := dk_198 0 44 (dk_at dksJ29_split_7 11 rfl rfl)
theorem dJ29_split_176 : decode cJ29_split 176 = .ok (.iload 11, 2) := dk_21 11 (dk_at dksJ29_split_7 14 rfl rfl)
theorem dJ29_split_178 : decode cJ29_split 178 = .ok (.bipush 6, 2) := dk_16 6 (dk_at dksJ29_split_7 16 rfl rfl)
theorem dJ29_split_180 : decode cJ29_split 180 = .ok (.if_icmp .gt 18, 3) := dk_163 0 18 (dk_at dksJ29_split_7 18 rfl rfl)
theorem dJ29_split_183 : decode cJ29_split 183 = .ok (.aload_n 2, 1) := dk_44 (dk_at dksJ29_split_7 21 rfl rfl)
theorem dJ29_split_184 : decode cJ29_split 184 = .ok (.iload_n 3, 1) := dk_29 (dk_at dksJ29_split_7 22 rfl rfl)
theorem dJ29_split_185 : decode cJ29_split 185 = .ok (.iload 4, 2) := dk_21 4 (dk_at dksJ29_split_8 0 rfl rfl)
theorem dJ29_split_187 : decode cJ29_split 187 = .ok (.iadd, 1) := dk_96 (dk_at dksJ29_split_8 2 rfl rfl)
theorem dJ29_split_188 : decode cJ29_split 188 = .ok (.aload 8, 2) := dk_25 8 (dk_at dksJ29_split_8 3 rfl rfl)
theorem dJ29_split_190 : decode cJ29_split 190 = .ok (.aload_n 1, 1) := dk_43 (dk_at dksJ29_split_8 5 rfl rfl)
theorem dJ29_split_191 : decode cJ29_split 191 = .ok (.invokevirtual 119, 3) := dk_182 0 119 (dk_at dksJ29_split_8 6 rfl rfl)
theorem dJ29_split_194 : decode cJ29_split 194 = .ok (.aastore, 1) := dk_83 (dk_at dksJ29_split_8 9 rfl rfl)
theorem dJ29_split_195 : decode cJ29_split 195 = .ok (.goto 22, 3) := dk_167 0 22 (dk_at dksJ29_split_8 10 rfl rfl)
theorem dJ29_split_198 : decode cJ29_split 198 = .ok (.aload_n 2, 1) := dk_44 (dk_at dksJ29_split_8 13 rfl rfl)
theorem dJ29_split_199 : decode cJ29_split 199 = .ok (.iload_n 3, 1) := dk_29 (dk_at dksJ29_split_8 14 rfl rfl)
theorem dJ29_split_200 : decode cJ29_split 200 = .ok (.iload 4, 2) := dk_21 4 (dk_at dksJ29_split_8 15 rfl rfl)
theorem dJ29_split_202 : decode cJ29_split 202 = .ok (.iadd, 1) := dk_96 (dk_at dksJ29_split_8 17 rfl rfl)
theorem dJ29_split_203 : decode cJ29_split 203 = .ok (.aload 8, 2) := dk_25 8 (dk_at dksJ29_split_8 18 rfl rfl)
theorem dJ29_split_205 : decode cJ29_split 205 = .ok (.aastore, 1) := dk_83 (dk_at dksJ29_split_8 20 rfl rfl)
theorem dJ29_split_206 : decode cJ29_split 206 = .ok (.aload 6, 2) := dk_25 6 (dk_at dksJ29_split_8 21 rfl rfl)
theorem dJ29_split_208 : decode cJ29_split 208 = .ok (.ifnull 9, 3) := dk_198 0 9 (dk_at dksJ29_split_9 0 rfl rfl)
theorem dJ29_split_211 : decode cJ29_split 211 = .ok (.aload 8, 2) := dk_25 8 (dk_at dksJ29_split_9 3 rfl rfl)
theorem dJ29_split_213 : decode cJ29_split 213 = .ok (.aload_n 2, 1) := dk_44 (dk_at dksJ29_split_9 5 rfl rfl)
theorem dJ29_split_214 : decode cJ29_split 214 = .ok (.invokevirtual 126, 3) := dk_182 0 126 (dk_at dksJ29_split_9 6 rfl rfl)
theorem dJ29_split_217 : decode cJ29_split 217 = .ok (.return_, 1) := dk_177 (dk_at dksJ29_split_9 9 rfl rfl)
abbrev cJ29_untreeify : ByteArray := prog_54_method_8_code
def yJ29_untreeify : MethodName := ⟨RJ29, "untreeify", "(Ljava/util/HashMap;)Ljava/util/HashMap$Node;"⟩
def dkwJ29_untreeify_2 : List UInt8 := [58, 4, 167, 255, 216, 44, 176]
abbrev dktJ29_untreeify_2 : List UInt8 := dkwJ29_untreeify_2 ++ []
def dkwJ29_untreeify_1 : List UInt8 := [199, 0, 9, 25, 5, 77, 167, 0, 9, 45, 25, 5, 181, 0, 112, 25, 5, 78, 25, 4, 180, 0, 112]
abbrev dktJ29_untreeify_1 : List UInt8 := dkwJ29_untreeify_1 ++ dktJ29_untreeify_2
def dkwJ29_untreeify_0 : List UInt8 := [1, 77, 1, 78, 42, 58, 4, 25, 4, 198, 0, 41, 43, 25, 4, 1, 182, 0, 108, 58, 5, 45]
abbrev dktJ29_untreeify_0 : List UInt8 := dkwJ29_untreeify_0 ++ dktJ29_untreeify_1
theorem dksJ29_untreeify_0 : cJ29_untreeify.data.toList.drop 0 = dktJ29_untreeify_0 := by decide +kernel
theorem dksJ29_untreeify_1 : cJ29_untreeify.data.toList.drop 22 = dktJ29_untreeify_1 := dk_seg dksJ29_untreeify_0 22 rfl rfl
theorem dksJ29_untreeify_2 : cJ29_untreeify.data.toList.drop 45 = dktJ29_untreeify_2 := dk_seg dksJ29_untreeify_1 23 rfl rfl
theorem dJ29_untreeify_0 : decode cJ29_untreeify 0 = .ok (.aconst_null, 1) := dk_1 (dk_at dksJ29_untreeify_0 0 rfl rfl)
theorem dJ29_untreeify_1 : decode cJ29_untreeify 1 = .ok (.astore_n 2, 1) := dk_77 (dk_at dksJ29_untreeify_0 1 rfl rfl)
theorem dJ29_untreeify_2 : decode cJ29_untreeify 2 = .ok (.aconst_null, 1) := dk_1 (dk_at dksJ29_untreeify_0 2 rfl rfl)
theorem dJ29_untreeify_3 : decode cJ29_untreeify 3 = .ok (.astore_n 3, 1) := dk_78 (dk_at dksJ29_untreeify_0 3 rfl rfl)
theorem dJ29_untreeify_4 : decode cJ29_untreeify 4 = .ok (.aload_n 0, 1) := dk_42 (dk_at dksJ29_untreeify_0 4 rfl rfl)
theorem dJ29_untreeify_5 : decode cJ29_untreeify 5 = .ok (.astore 4, 2) := dk_58 4 (dk_at dksJ29_untreeify_0 5 rfl rfl)
theorem dJ29_untreeify_7 : decode cJ29_untreeify 7 = .ok (.aload 4, 2) := dk_25 4 (dk_at dksJ29_untreeify_0 7 rfl rfl)
theorem dJ29_untreeify_9 : decode cJ29_untreeify 9 = .ok (.ifnull 41, 3) := dk_198 0 41 (dk_at dksJ29_untreeify_0 9 rfl rfl)
theorem dJ29_untreeify_12 : decode cJ29_untreeify 12 = .ok (.aload_n 1, 1) := dk_43 (dk_at dksJ29_untreeify_0 12 rfl rfl)
theorem dJ29_untreeify_13 : decode cJ29_untreeify 13 = .ok (.aload 4, 2) := dk_25 4 (dk_at dksJ29_untreeify_0 13 rfl rfl)
theorem dJ29_untreeify_15 : decode cJ29_untreeify 15 = .ok (.aconst_null, 1) := dk_1 (dk_at dksJ29_untreeify_0 15 rfl rfl)
theorem dJ29_untreeify_16 : decode cJ29_untreeify 16 = .ok (.invokevirtual 108, 3) := dk_182 0 108 (dk_at dksJ29_untreeify_0 16 rfl rfl)
theorem dJ29_untreeify_19 : decode cJ29_untreeify 19 = .ok (.astore 5, 2) := dk_58 5 (dk_at dksJ29_untreeify_0 19 rfl rfl)
theorem dJ29_untreeify_21 : decode cJ29_untreeify 21 = .ok (.aload_n 3, 1) := dk_45 (dk_at dksJ29_untreeify_0 21 rfl rfl)
theorem dJ29_untreeify_22 : decode cJ29_untreeify 22 = .ok (.ifnonnull 9, 3) := dk_199 0 9 (dk_at dksJ29_untreeify_1 0 rfl rfl)
theorem dJ29_untreeify_25 : decode cJ29_untreeify 25 = .ok (.aload 5, 2) := dk_25 5 (dk_at dksJ29_untreeify_1 3 rfl rfl)
theorem dJ29_untreeify_27 : decode cJ29_untreeify 27 = .ok (.astore_n 2, 1) := dk_77 (dk_at dksJ29_untreeify_1 5 rfl rfl)
theorem dJ29_untreeify_28 : decode cJ29_untreeify 28 = .ok (.goto 9, 3) := dk_167 0 9 (dk_at dksJ29_untreeify_1 6 rfl rfl)
theorem dJ29_untreeify_31 : decode cJ29_untreeify 31 = .ok (.aload_n 3, 1) := dk_45 (dk_at dksJ29_untreeify_1 9 rfl rfl)
theorem dJ29_untreeify_32 : decode cJ29_untreeify 32 = .ok (.aload 5, 2) := dk_25 5 (dk_at dksJ29_untreeify_1 10 rfl rfl)
theorem dJ29_untreeify_34 : decode cJ29_untreeify 34 = .ok (.putfield 112, 3) := dk_181 0 112 (dk_at dksJ29_untreeify_1 12 rfl rfl)
theorem dJ29_untreeify_37 : decode cJ29_untreeify 37 = .ok (.aload 5, 2) := dk_25 5 (dk_at dksJ29_untreeify_1 15 rfl rfl)
theorem dJ29_untreeify_39 : decode cJ29_untreeify 39 = .ok (.astore_n 3, 1) := dk_78 (dk_at dksJ29_untreeify_1 17 rfl rfl)
theorem dJ29_untreeify_40 : decode cJ29_untreeify 40 = .ok (.aload 4, 2) := dk_25 4 (dk_at dksJ29_untreeify_1 18 rfl rfl)
theorem dJ29_untreeify_42 : decode cJ29_untreeify 42 = .ok (.getfield 112, 3) := dk_180 0 112 (dk_at dksJ29_untreeify_1 20 rfl rfl)
theorem dJ29_untreeify_45 : decode cJ29_untreeify 45 = .ok (.astore 4, 2) := dk_58 4 (dk_at dksJ29_untreeify_2 0 rfl rfl)
theorem dJ29_untreeify_47 : decode cJ29_untreeify 47 = .ok (.goto (-40), 3) := dk_167 255 216 (dk_at dksJ29_untreeify_2 2 rfl rfl)
theorem dJ29_untreeify_50 : decode cJ29_untreeify 50 = .ok (.aload_n 2, 1) := dk_44 (dk_at dksJ29_untreeify_2 5 rfl rfl)
theorem dJ29_untreeify_51 : decode cJ29_untreeify 51 = .ok (.areturn, 1) := dk_176 (dk_at dksJ29_untreeify_2 6 rfl rfl)
abbrev cJ29_treeify : ByteArray := prog_54_method_7_code
def yJ29_treeify : MethodName := ⟨RJ29, "treeify", "([Ljava/util/HashMap$Node;)V"⟩
def dkwJ29_treeify_9 : List UInt8 := [25, 4, 78, 167, 255, 48, 43, 44, 184, 0, 104, 177]
abbrev dktJ29_treeify_9 : List UInt8 := dkwJ29_treeify_9 ++ []
def dkwJ29_treeify_8 : List UInt8 := [181, 0, 39, 167, 0, 9, 25, 12, 45, 181, 0, 42, 44, 45, 184, 0, 100, 77, 167, 0, 6, 167, 255, 114]
abbrev dktJ29_treeify_8 : List UInt8 := dkwJ29_treeify_8 ++ dktJ29_treeify_9
def dkwJ29_treeify_7 : List UInt8 := [180, 0, 42, 89, 58, 8, 199, 0, 38, 45, 25, 12, 181, 0, 9, 21, 9, 157, 0, 12, 25, 12, 45]
abbrev dktJ29_treeify_7 : List UInt8 := dkwJ29_treeify_7 ++ dktJ29_treeify_8
def dkwJ29_treeify_6 : List UInt8 := [184, 0, 96, 54, 9, 25, 8, 58, 12, 21, 9, 157, 0, 11, 25, 8, 180, 0, 39, 167, 0, 8, 25, 8]
abbrev dktJ29_treeify_6 : List UInt8 := dkwJ29_treeify_6 ++ dktJ29_treeify_7
def dkwJ29_treeify_5 : List UInt8 := [198, 0, 18, 25, 7, 25, 5, 25, 11, 184, 0, 59, 89, 54, 9, 154, 0, 12, 25, 5, 25, 11]
abbrev dktJ29_treeify_5 : List UInt8 := dkwJ29_treeify_5 ++ dktJ29_treeify_6
def dkwJ29_treeify_4 : List UInt8 := [162, 0, 9, 4, 54, 9, 167, 0, 43, 25, 7, 199, 0, 14, 25, 5, 184, 0, 55, 89, 58, 7]
abbrev dktJ29_treeify_4 : List UInt8 := dkwJ29_treeify_4 ++ dktJ29_treeify_5
def dkwJ29_treeify_3 : List UInt8 := [25, 8, 180, 0, 15, 89, 54, 10, 21, 6, 164, 0, 9, 2, 54, 9, 167, 0, 56, 21, 10, 21, 6]
abbrev dktJ29_treeify_3 : List UInt8 := dkwJ29_treeify_3 ++ dktJ29_treeify_4
def dkwJ29_treeify_2 : List UInt8 := [180, 0, 45, 58, 5, 45, 180, 0, 15, 54, 6, 1, 58, 7, 44, 58, 8, 25, 8, 180, 0, 45, 58, 11]
abbrev dktJ29_treeify_2 : List UInt8 := dkwJ29_treeify_2 ++ dktJ29_treeify_3
def dkwJ29_treeify_1 : List UInt8 := [181, 0, 39, 44, 199, 0, 18, 45, 1, 181, 0, 9, 45, 3, 181, 0, 93, 45, 77, 167, 0, 166, 45]
abbrev dktJ29_treeify_1 : List UInt8 := dkwJ29_treeify_1 ++ dktJ29_treeify_2
def dkwJ29_treeify_0 : List UInt8 := [1, 77, 42, 78, 45, 198, 0, 210, 45, 180, 0, 22, 192, 0, 10, 58, 4, 45, 45, 1, 90, 181, 0, 42]
abbrev dktJ29_treeify_0 : List UInt8 := dkwJ29_treeify_0 ++ dktJ29_treeify_1
theorem dksJ29_treeify_0 : cJ29_treeify.data.toList.drop 0 = dktJ29_treeify_0 := by decide +kernel
theorem dksJ29_treeify_1 : cJ29_treeify.data.toList.drop 24 = dktJ29_treeify_1 := dk_seg dksJ29_treeify_0 24 rfl rfl
theorem dksJ29_treeify_2 : cJ29_treeify.data.toList.drop 47 = dktJ29_treeify_2 := dk_seg dksJ29_treeify_1 23 rfl rfl
theorem dksJ29_treeify_3 : cJ29_treeify.data.toList.drop 71 = dktJ29_treeify_3 := dk_seg dksJ29_treeify_2 24 rfl rfl
theorem dksJ29_treeify_4 : cJ29_treeify.data.toList.drop 94 = dktJ29_treeify_4 := dk_seg dksJ29_treeify_3 23 rfl rfl
theorem dksJ29_treeify_5 : cJ29_treeify.data.toList.drop 116 = dktJ29_treeify_5 := dk_seg dksJ29_treeify_4 22 rfl rfl
theorem dksJ29_treeify_6 : cJ29_treeify.data.toList.drop 138 = dktJ29_treeify_6 := dk_seg dksJ29_treeify_5 22 rfl rfl
theorem dksJ29_treeify_7 : cJ29_treeify.data.toList.drop 162 = dktJ29_treeify_7 := dk_seg dksJ29_treeify_6 24 rfl rfl
theorem dksJ29_treeify_8 : cJ29_treeify.data.toList.drop 185 = dktJ29_treeify_8 := dk_seg dksJ29_treeify_7 23 rfl rfl
theorem dksJ29_treeify_9 : cJ29_treeify.data.toList.drop 209 = dktJ29_treeify_9 := dk_seg dksJ29_treeify_8 24 rfl rfl
theorem dJ29_treeify_0 : decode cJ29_treeify 0 = .ok (.aconst_null, 1) := dk_1 (dk_at dksJ29_treeify_0 0 rfl rfl)
theorem dJ29_treeify_1 : decode cJ29_treeify 1 = .ok (.astore_n 2, 1) := dk_77 (dk_at dksJ29_treeify_0 1 rfl rfl)
theorem dJ29_treeify_2 : decode cJ29_treeify 2 = .ok (.aload_n 0, 1) := dk_42 (dk_at dksJ29_treeify_0 2 rfl rfl)
theorem dJ29_treeify_3 : decode cJ29_treeify 3 = .ok (.astore_n 3, 1) := dk_78 (dk_at dksJ29_treeify_0 3 rfl rfl)
theorem dJ29_treeify_4 : decode cJ29_treeify 4 = .ok (.aload_n 3, 1) := dk_45 (dk_at dksJ29_treeify_0 4 rfl rfl)
theorem dJ29_treeify_5 : decode cJ29_treeify 5 = .ok (.ifnull 210, 3) := dk_198 0 210 (dk_at dksJ29_treeify_0 5 rfl rfl)
theorem dJ29_treeify_8 : decode cJ29_treeify 8 = .ok (.aload_n 3, 1) := dk_45 (dk_at dksJ29_treeify_0 8 rfl rfl)
theorem dJ29_treeify_9 : decode cJ29_treeify 9 = .ok (.getfield 22, 3) := dk_180 0 22 (dk_at dksJ29_treeify_0 9 rfl rfl)
theorem dJ29_treeify_12 : decode cJ29_treeify 12 = .ok (.checkcast 10, 3) := dk_192 0 10 (dk_at dksJ29_treeify_0 12 rfl rfl)
theorem dJ29_treeify_15 : decode cJ29_treeify 15 = .ok (.astore 4, 2) := dk_58 4 (dk_at dksJ29_treeify_0 15 rfl rfl)
theorem dJ29_treeify_17 : decode cJ29_treeify 17 = .ok (.aload_n 3, 1) := dk_45 (dk_at dksJ29_treeify_0 17 rfl rfl)
theorem dJ29_treeify_18 : decode cJ29_treeify 18 = .ok (.aload_n 3, 1) := dk_45 (dk_at dksJ29_treeify_0 18 rfl rfl)
theorem dJ29_treeify_19 : decode cJ29_treeify 19 = .ok (.aconst_null, 1) := dk_1 (dk_at dksJ29_treeify_0 19 rfl rfl)
theorem dJ29_treeify_20 : decode cJ29_treeify 20 = .ok (.dup_x1, 1) := dk_90 (dk_at dksJ29_treeify_0 20 rfl rfl)
theorem dJ29_treeify_21 : decode cJ29_treeify 21 = .ok (.putfield 42, 3) := dk_181 0 42 (dk_at dksJ29_treeify_0 21 rfl rfl)
theorem dJ29_treeify_24 : decode cJ29_treeify 24 = .ok (.putfield 39, 3) := dk_181 0 39 (dk_at dksJ29_treeify_1 0 rfl rfl)
theorem dJ29_treeify_27 : decode cJ29_treeify 27 = .ok (.aload_n 2, 1) := dk_44 (dk_at dksJ29_treeify_1 3 rfl rfl)
theorem dJ29_treeify_28 : decode cJ29_treeify 28 = .ok (.ifnonnull 18, 3) := dk_199 0 18 (dk_at dksJ29_treeify_1 4 rfl rfl)
theorem dJ29_treeify_31 : decode cJ29_treeify 31 = .ok (.aload_n 3, 1) := dk_45 (dk_at dksJ29_treeify_1 7 rfl rfl)
theorem dJ29_treeify_32 : decode cJ29_treeify 32 = .ok (.aconst_null, 1) := dk_1 (dk_at dksJ29_treeify_1 8 rfl rfl)
theorem dJ29_treeify_33 : decode cJ29_treeify 33 = .ok (.putfield 9, 3) := dk_181 0 9 (dk_at dksJ29_treeify_1 9 rfl rfl)
theorem dJ29_treeify_36 : decode cJ29_treeify 36 = .ok (.aload_n 3, 1) := dk_45 (dk_at dksJ29_treeify_1 12 rfl rfl)
theorem dJ29_treeify_37 : decode cJ29_treeify 37 = .ok (.iconst 0, 1) := dk_3 (dk_at dksJ29_treeify_1 13 rfl rfl)
theorem dJ29_treeify_38 : decode cJ29_treeify 38 = .ok (.putfield 93, 3) := dk_181 0 93 (dk_at dksJ29_treeify_1 14 rfl rfl)
theorem dJ29_treeify_41 : decode cJ29_treeify 41 = .ok (.aload_n 3, 1) := dk_45 (dk_at dksJ29_treeify_1 17 rfl rfl)
theorem dJ29_treeify_42 : decode cJ29_treeify 42 = .ok (.astore_n 2, 1) := dk_77 (dk_at dksJ29_treeify_1 18 rfl rfl)
theorem dJ29_treeify_43 : decode cJ29_treeify 43 = .ok (.goto 166, 3) := dk_167 0 166 (dk_at dksJ29_treeify_1 19 rfl rfl)
theorem dJ29_treeify_46 : decode cJ29_treeify 46 = .ok (.aload_n 3, 1) := dk_45 (dk_at dksJ29_treeify_1 22 rfl rfl)
theorem dJ29_treeify_47 : decode cJ29_treeify 47 = .ok (.getfield 45, 3) := dk_180 0 45 (dk_at dksJ29_treeify_2 0 rfl rfl)
theorem dJ29_treeify_50 : decode cJ29_treeify 50 = .ok (.astore 5, 2) := dk_58 5 (dk_at dksJ29_treeify_2 3 rfl rfl)
theorem dJ29_treeify_52 : decode cJ29_treeify 52 = .ok (.aload_n 3, 1) := dk_45 (dk_at dksJ29_treeify_2 5 rfl rfl)
theorem dJ29_treeify_53 : decode cJ29_treeify 53 = .ok (.getfield 15, 3) := dk_180 0 15 (dk_at dksJ29_treeify_2 6 rfl rfl)
theorem dJ29_treeify_56 : decode cJ29_treeify 56 = .ok (.istore 6, 2) := dk_54 6 (dk_at dksJ29_treeify_2 9 rfl rfl)
theorem dJ29_treeify_58 : decode cJ29_treeify 58 = .ok (.aconst_null, 1) := dk_1 (dk_at dksJ29_treeify_2 11 rfl rfl)
theorem dJ29_treeify_59 : decode cJ29_treeify 59 = .ok (.astore 7, 2) := dk_58 7 (dk_at dksJ29_treeify_2 12 rfl rfl)
theorem dJ29_treeify_61 : decode cJ29_treeify 61 = .ok (.aload_n 2, 1) := dk_44 (dk_at dksJ29_treeify_2 14 rfl rfl)
theorem dJ29_treeify_62 : decode cJ29_treeify 62 = .ok (.astore 8, 2) := dk_58 8 (dk_at dksJ29_treeify_2 15 rfl rfl)
theorem dJ29_treeify_64 : decode cJ29_treeify 64 = .ok (.aload 8, 2) := dk_25 8 (dk_at dksJ29_treeify_2 17 rfl rfl)
theorem dJ29_treeify_66 : decode cJ29_treeify 66 = .ok (.getfield 45, 3) := dk_180 0 45 (dk_at dksJ29_treeify_2 19 rfl rfl)
theorem dJ29_treeify_69 : decode cJ29_treeify 69 = .ok (.astore 11, 2) := dk_58 11 (dk_at dksJ29_treeify_2 22 rfl rfl)
theorem dJ29_treeify_71 : decode cJ29_treeify 71 = .ok (.aload 8, 2) := dk_25 8 (dk_at dksJ29_treeify_3 0 rfl rfl)
theorem dJ29_treeify_73 : decode cJ29_treeify 73 = .ok (.getfield 15, 3) := dk_180 0 15 (dk_at dksJ29_treeify_3 2 rfl rfl)
theorem dJ29_treeify_76 : decode cJ29_treeify 76 = .ok (.dup, 1) := dk_89 (dk_at dksJ29_treeify_3 5 rfl rfl)
theorem dJ29_treeify_77 : decode cJ29_treeify 77 = .ok (.istore 10, 2) := dk_54 10 (dk_at dksJ29_treeify_3 6 rfl rfl)
theorem dJ29_treeify_79 : decode cJ29_treeify 79 = .ok (.iload 6, 2) := dk_21 6 (dk_at dksJ29_treeify_3 8 rfl rfl)
theorem dJ29_treeify_81 : decode cJ29_treeify 81 = .ok (.if_icmp .le 9, 3) := dk_164 0 9 (dk_at dksJ29_treeify_3 10 rfl rfl)
theorem dJ29_treeify_84 : decode cJ29_treeify 84 = .ok (.iconst (-1), 1) := dk_2 (dk_at dksJ29_treeify_3 13 rfl rfl)
theorem dJ29_treeify_85 : decode cJ29_treeify 85 = .ok (.istore 9, 2) := dk_54 9 (dk_at dksJ29_treeify_3 14 rfl rfl)
theorem dJ29_treeify_87 : decode cJ29_treeify 87 = .ok (.goto 56, 3) := dk_167 0 56 (dk_at dksJ29_treeify_3 16 rfl rfl)
theorem dJ29_treeify_90 : decode cJ29_treeify 90 = .ok (.iload 10, 2) := dk_21 10 (dk_at dksJ29_treeify_3 19 rfl rfl)
theorem dJ29_treeify_92 : decode cJ29_treeify 92 = .ok (.iload 6, 2) := dk_21 6 (dk_at dksJ29_treeify_3 21 rfl rfl)
theorem dJ29_treeify_94 : decode cJ29_treeify 94 = .ok (.if_icmp .ge 9, 3) := dk_162 0 9 (dk_at dksJ29_treeify_4 0 rfl rfl)
theorem dJ29_treeify_97 : decode cJ29_treeify 97 = .ok (.iconst 1, 1) := dk_4 (dk_at dksJ29_treeify_4 3 rfl rfl)
theorem dJ29_treeify_98 : decode cJ29_treeify 98 = .ok (.istore 9, 2) := dk_54 9 (dk_at dksJ29_treeify_4 4 rfl rfl)
theorem dJ29_treeify_100 : decode cJ29_treeify 100 = .ok (.goto 43, 3) := dk_167 0 43 (dk_at dksJ29_treeify_4 6 rfl rfl)
theorem dJ29_treeify_103 : decode cJ29_treeify 103 = .ok (.aload 7, 2) := dk_25 7 (dk_at dksJ29_treeify_4 9 rfl rfl)
theorem dJ29_treeify_105 : decode cJ29_treeify 105 = .ok (.ifnonnull 14, 3) := dk_199 0 14 (dk_at dksJ29_treeify_4 11 rfl rfl)
theorem dJ29_treeify_108 : decode cJ29_treeify 108 = .ok (.aload 5, 2) := dk_25 5 (dk_at dksJ29_treeify_4 14 rfl rfl)
theorem dJ29_treeify_110 : decode cJ29_treeify 110 = .ok (.invokestatic 55, 3) := dk_184 0 55 (dk_at dksJ29_treeify_4 16 rfl rfl)
theorem dJ29_treeify_113 : decode cJ29_treeify 113 = .ok (.dup, 1) := dk_89 (dk_at dksJ29_treeify_4 19 rfl rfl)
theorem dJ29_treeify_114 : decode cJ29_treeify 114 = .ok (.astore 7, 2) := dk_58 7 (dk_at dksJ29_treeify_4 20 rfl rfl)
theorem dJ29_treeify_116 : decode cJ29_treeify 116 = .ok (.ifnull 18, 3) := dk_198 0 18 (dk_at dksJ29_treeify_5 0 rfl rfl)
theorem dJ29_treeify_119 : decode cJ29_treeify 119 = .ok (.aload 7, 2) := dk_25 7 (dk_at dksJ29_treeify_5 3 rfl rfl)
theorem dJ29_treeify_121 : decode cJ29_treeify 121 = .ok (.aload 5, 2) := dk_25 5 (dk_at dksJ29_treeify_5 5 rfl rfl)
theorem dJ29_treeify_123 : decode cJ29_treeify 123 = .ok (.aload 11, 2) := dk_25 11 (dk_at dksJ29_treeify_5 7 rfl rfl)
theorem dJ29_treeify_125 : decode cJ29_treeify 125 = .ok (.invokestatic 59, 3) := dk_184 0 59 (dk_at dksJ29_treeify_5 9 rfl rfl)
theorem dJ29_treeify_128 : decode cJ29_treeify 128 = .ok (.dup, 1) := dk_89 (dk_at dksJ29_treeify_5 12 rfl rfl)
theorem dJ29_treeify_129 : decode cJ29_treeify 129 = .ok (.istore 9, 2) := dk_54 9 (dk_at dksJ29_treeify_5 13 rfl rfl)
theorem dJ29_treeify_131 : decode cJ29_treeify 131 = .ok (.ifCond .ne 12, 3) := dk_154 0 12 (dk_at dksJ29_treeify_5 15 rfl rfl)
theorem dJ29_treeify_134 : decode cJ29_treeify 134 = .ok (.aload 5, 2) := dk_25 5 (dk_at dksJ29_treeify_5 18 rfl rfl)
theorem dJ29_treeify_136 : decode cJ29_treeify 136 = .ok (.aload 11, 2) := dk_25 11 (dk_at dksJ29_treeify_5 20 rfl rfl)
theorem dJ29_treeify_138 : decode cJ29_treeify 138 = .ok (.invokestatic 96, 3) := dk_184 0 96 (dk_at dksJ29_treeify_6 0 rfl rfl)
theorem dJ29_treeify_141 : decode cJ29_treeify 141 = .ok (.istore 9, 2) := dk_54 9 (dk_at dksJ29_treeify_6 3 rfl rfl)
theorem dJ29_treeify_143 : decode cJ29_treeify 143 = .ok (.aload 8, 2) := dk_25 8 (dk_at dksJ29_treeify_6 5 rfl rfl)
theorem dJ29_treeify_145 : decode cJ29_treeify 145 = .ok (.astore 12, 2) := dk_58 12 (dk_at dksJ29_treeify_6 7 rfl rfl)
theorem dJ29_treeify_147 : decode cJ29_treeify 147 = .ok (.iload 9, 2) := dk_21 9 (dk_at dksJ29_treeify_6 9 rfl rfl)
theorem dJ29_treeify_149 : decode cJ29_treeify 149 = .ok (.ifCond .gt 11, 3) := dk_157 0 11 (dk_at dksJ29_treeify_6 11 rfl rfl)
theorem dJ29_treeify_152 : decode cJ29_treeify 152 = .ok (.aload 8, 2) := dk_25 8 (dk_at dksJ29_treeify_6 14 rfl rfl)
theorem dJ29_treeify_154 : decode cJ29_treeify 154 = .ok (.getfield 39, 3) := dk_180 0 39 (dk_at dksJ29_treeify_6 16 rfl rfl)
theorem dJ29_treeify_157 : decode cJ29_treeify 157 = .ok (.goto 8, 3) := dk_167 0 8 (dk_at dksJ29_treeify_6 19 rfl rfl)
theorem dJ29_treeify_160 : decode cJ29_treeify 160 = .ok (.aload 8, 2) := dk_25 8 (dk_at dksJ29_treeify_6 22 rfl rfl)
theorem dJ29_treeify_162 : decode cJ29_treeify 162 = .ok (.getfield 42, 3) := dk_180 0 42 (dk_at dksJ29_treeify_7 0 rfl rfl)
theorem dJ29_treeify_165 : decode cJ29_treeify 165 = .ok (.dup, 1) := dk_89 (dk_at dksJ29_treeify_7 3 rfl rfl)
theorem dJ29_treeify_166 : decode cJ29_treeify 166 = .ok (.astore 8, 2) := dk_58 8 (dk_at dksJ29_treeify_7 4 rfl rfl)
theorem dJ29_treeify_168 : decode cJ29_treeify 168 = .ok (.ifnonnull 38, 3) := dk_199 0 38 (dk_at dksJ29_treeify_7 6 rfl rfl)
theorem dJ29_treeify_171 : decode cJ29_treeify 171 = .ok (.aload_n 3, 1) := dk_45 (dk_at dksJ29_treeify_7 9 rfl rfl)
theorem dJ29_treeify_172 : decode cJ29_treeify 172 = .ok (.aload 12, 2) := dk_25 12 (dk_at dksJ29_treeify_7 10 rfl rfl)
theorem dJ29_treeify_174 : decode cJ29_treeify 174 = .ok (.putfield 9, 3) := dk_181 0 9 (dk_at dksJ29_treeify_7 12 rfl rfl)
theorem dJ29_treeify_177 : decode cJ29_treeify 177 = .ok (.iload 9, 2) := dk_21 9 (dk_at dksJ29_treeify_7 15 rfl rfl)
theorem dJ29_treeify_179 : decode cJ29_treeify 179 = .ok (.ifCond .gt 12, 3) := dk_157 0 12 (dk_at dksJ29_treeify_7 17 rfl rfl)
theorem dJ29_treeify_182 : decode cJ29_treeify 182 = .ok (.aload 12, 2) := dk_25 12 (dk_at dksJ29_treeify_7 20 rfl rfl)
theorem dJ29_treeify_184 : decode cJ29_treeify 184 = .ok (.aload_n 3, 1) := dk_45 (dk_at dksJ29_treeify_7 22 rfl rfl)
theorem dJ29_treeify_185 : decode cJ29_treeify 185 = .ok (.putfield 39, 3) := dk_181 0 39 (dk_at dksJ29_treeify_8 0 rfl rfl)
theorem dJ29_treeify_188 : decode cJ29_treeify 188 = .ok (.goto 9, 3) := dk_167 0 9 (dk_at dksJ29_treeify_8 3 rfl rfl)
theorem dJ29_treeify_191 : decode cJ29_treeify 191 = .ok (.aload 12, 2) := dk_25 12 (dk_at dksJ29_treeify_8 6 rfl rfl)
theorem dJ29_treeify_193 : decode cJ29_treeify 193 = .ok (.aload_n 3, 1) := dk_45 (dk_at dksJ29_treeify_8 8 rfl rfl)
theorem dJ29_treeify_194 : decode cJ29_treeify 194 = .ok (.putfield 42, 3) := dk_181 0 42 (dk_at dksJ29_treeify_8 9 rfl rfl)
theorem dJ29_treeify_197 : decode cJ29_treeify 197 = .ok (.aload_n 2, 1) := dk_44 (dk_at dksJ29_treeify_8 12 rfl rfl)
theorem dJ29_treeify_198 : decode cJ29_treeify 198 = .ok (.aload_n 3, 1) := dk_45 (dk_at dksJ29_treeify_8 13 rfl rfl)
theorem dJ29_treeify_199 : decode cJ29_treeify 199 = .ok (.invokestatic 100, 3) := dk_184 0 100 (dk_at dksJ29_treeify_8 14 rfl rfl)
theorem dJ29_treeify_202 : decode cJ29_treeify 202 = .ok (.astore_n 2, 1) := dk_77 (dk_at dksJ29_treeify_8 17 rfl rfl)
theorem dJ29_treeify_203 : decode cJ29_treeify 203 = .ok (.goto 6, 3) := dk_167 0 6 (dk_at dksJ29_treeify_8 18 rfl rfl)
theorem dJ29_treeify_206 : decode cJ29_treeify 206 = .ok (.goto (-142), 3) := dk_167 255 114 (dk_at dksJ29_treeify_8 21 rfl rfl)
theorem dJ29_treeify_209 : decode cJ29_treeify 209 = .ok (.aload 4, 2) := dk_25 4 (dk_at dksJ29_treeify_9 0 rfl rfl)
theorem dJ29_treeify_211 : decode cJ29_treeify 211 = .ok (.astore_n 3, 1) := dk_78 (dk_at dksJ29_treeify_9 2 rfl rfl)
theorem dJ29_treeify_212 : decode cJ29_treeify 212 = .ok (.goto (-208), 3) := dk_167 255 48 (dk_at dksJ29_treeify_9 3 rfl rfl)
theorem dJ29_treeify_215 : decode cJ29_treeify 215 = .ok (.aload_n 1, 1) := dk_43 (dk_at dksJ29_treeify_9 6 rfl rfl)
theorem dJ29_treeify_216 : decode cJ29_treeify 216 = .ok (.aload_n 2, 1) := dk_44 (dk_at dksJ29_treeify_9 7 rfl rfl)
theorem dJ29_treeify_217 : decode cJ29_treeify 217 = .ok (.invokestatic 104, 3) := dk_184 0 104 (dk_at dksJ29_treeify_9 8 rfl rfl)
theorem dJ29_treeify_220 : decode cJ29_treeify 220 = .ok (.return_, 1) := dk_177 (dk_at dksJ29_treeify_9 11 rfl rfl)
abbrev cJ29_balanceInsertion : ByteArray := prog_54_method_14_code
def yJ29_balanceInsertion : MethodName := ⟨RJ29, "balanceInsertion", "(Ljava/util/HashMap$TreeNode;Ljava/util/HashMap$TreeNode;)Ljava/util/HashMap$TreeNode;"⟩
def dkwJ29_balanceInsertion_10 : List UInt8 := [198, 255, 33, 45, 4, 181, 0, 93, 42, 45, 184, 0, 130, 75, 167, 255, 19]
abbrev dktJ29_balanceInsertion_10 : List UInt8 := dkwJ29_balanceInsertion_10 ++ []
def dkwJ29_balanceInsertion_9 : List UInt8 := [199, 0, 7, 1, 167, 0, 7, 44, 180, 0, 9, 78, 44, 198, 255, 42, 44, 3, 181, 0, 93, 45]
abbrev dktJ29_balanceInsertion_9 : List UInt8 := dkwJ29_balanceInsertion_9 ++ dktJ29_balanceInsertion_10
def dkwJ29_balanceInsertion_8 : List UInt8 := [43, 44, 180, 0, 39, 166, 0, 29, 42, 44, 89, 76, 184, 0, 133, 75, 43, 180, 0, 9, 89, 77]
abbrev dktJ29_balanceInsertion_8 : List UInt8 := dkwJ29_balanceInsertion_8 ++ dktJ29_balanceInsertion_9
def dkwJ29_balanceInsertion_7 : List UInt8 := [153, 0, 24, 25, 4, 3, 181, 0, 93, 44, 3, 181, 0, 93, 45, 4, 181, 0, 93, 45, 76, 167, 255, 80]
abbrev dktJ29_balanceInsertion_7 : List UInt8 := dkwJ29_balanceInsertion_7 ++ dktJ29_balanceInsertion_8
def dkwJ29_balanceInsertion_6 : List UInt8 := [181, 0, 93, 42, 45, 184, 0, 133, 75, 167, 255, 114, 25, 4, 198, 0, 32, 25, 4, 180, 0, 93]
abbrev dktJ29_balanceInsertion_6 : List UInt8 := dkwJ29_balanceInsertion_6 ++ dktJ29_balanceInsertion_7
def dkwJ29_balanceInsertion_5 : List UInt8 := [167, 0, 7, 44, 180, 0, 9, 78, 44, 198, 255, 137, 44, 3, 181, 0, 93, 45, 198, 255, 128, 45, 4]
abbrev dktJ29_balanceInsertion_5 : List UInt8 := dkwJ29_balanceInsertion_5 ++ dktJ29_balanceInsertion_6
def dkwJ29_balanceInsertion_4 : List UInt8 := [180, 0, 42, 166, 0, 29, 42, 44, 89, 76, 184, 0, 130, 75, 43, 180, 0, 9, 89, 77, 199, 0, 7, 1]
abbrev dktJ29_balanceInsertion_4 : List UInt8 := dkwJ29_balanceInsertion_4 ++ dktJ29_balanceInsertion_5
def dkwJ29_balanceInsertion_3 : List UInt8 := [25, 5, 3, 181, 0, 93, 44, 3, 181, 0, 93, 45, 4, 181, 0, 93, 45, 76, 167, 255, 175, 43, 44]
abbrev dktJ29_balanceInsertion_3 : List UInt8 := dkwJ29_balanceInsertion_3 ++ dktJ29_balanceInsertion_4
def dkwJ29_balanceInsertion_2 : List UInt8 := [58, 4, 166, 0, 103, 45, 180, 0, 42, 89, 58, 5, 198, 0, 32, 25, 5, 180, 0, 93, 153, 0, 24]
abbrev dktJ29_balanceInsertion_2 : List UInt8 := dkwJ29_balanceInsertion_2 ++ dktJ29_balanceInsertion_3
def dkwJ29_balanceInsertion_1 : List UInt8 := [180, 0, 93, 153, 0, 12, 44, 180, 0, 9, 89, 78, 199, 0, 5, 42, 176, 44, 45, 180, 0, 39, 89]
abbrev dktJ29_balanceInsertion_1 : List UInt8 := dkwJ29_balanceInsertion_1 ++ dktJ29_balanceInsertion_2
def dkwJ29_balanceInsertion_0 : List UInt8 := [43, 4, 181, 0, 93, 43, 180, 0, 9, 89, 77, 199, 0, 10, 43, 3, 181, 0, 93, 43, 176, 44]
abbrev dktJ29_balanceInsertion_0 : List UInt8 := dkwJ29_balanceInsertion_0 ++ dktJ29_balanceInsertion_1
theorem dksJ29_balanceInsertion_0 : cJ29_balanceInsertion.data.toList.drop 0 = dktJ29_balanceInsertion_0 := by decide +kernel
theorem dksJ29_balanceInsertion_1 : cJ29_balanceInsertion.data.toList.drop 22 = dktJ29_balanceInsertion_1 := dk_seg dksJ29_balanceInsertion_0 22 rfl rfl
theorem dksJ29_balanceInsertion_2 : cJ29_balanceInsertion.data.toList.drop 45 = dktJ29_balanceInsertion_2 := dk_seg dksJ29_balanceInsertion_1 23 rfl rfl
theorem dksJ29_balanceInsertion_3 : cJ29_balanceInsertion.data.toList.drop 68 = dktJ29_balanceInsertion_3 := dk_seg dksJ29_balanceInsertion_2 23 rfl rfl
theorem dksJ29_balanceInsertion_4 : cJ29_balanceInsertion.data.toList.drop 91 = dktJ29_balanceInsertion_4 := dk_seg dksJ29_balanceInsertion_3 23 rfl rfl
theorem dksJ29_balanceInsertion_5 : cJ29_balanceInsertion.data.toList.drop 115 = dktJ29_balanceInsertion_5 := dk_seg dksJ29_balanceInsertion_4 24 rfl rfl
theorem dksJ29_balanceInsertion_6 : cJ29_balanceInsertion.data.toList.drop 138 = dktJ29_balanceInsertion_6 := dk_seg dksJ29_balanceInsertion_5 23 rfl rfl
theorem dksJ29_balanceInsertion_7 : cJ29_balanceInsertion.data.toList.drop 160 = dktJ29_balanceInsertion_7 := dk_seg dksJ29_balanceInsertion_6 22 rfl rfl
theorem dksJ29_balanceInsertion_8 : cJ29_balanceInsertion.data.toList.drop 184 = dktJ29_balanceInsertion_8 := dk_seg dksJ29_balanceInsertion_7 24 rfl rfl
theorem dksJ29_balanceInsertion_9 : cJ29_balanceInsertion.data.toList.drop 206 = dktJ29_balanceInsertion_9 := dk_seg dksJ29_balanceInsertion_8 22 rfl rfl
theorem dksJ29_balanceInsertion_10 : cJ29_balanceInsertion.data.toList.drop 228 = dktJ29_balanceInsertion_10 := dk_seg dksJ29_balanceInsertion_9 22 rfl rfl
theorem dJ29_balanceInsertion_0 : decode cJ29_balanceInsertion 0 = .ok (.aload_n 1, 1) := dk_43 (dk_at dksJ29_balanceInsertion_0 0 rfl rfl)
theorem dJ29_balanceInsertion_1 : decode cJ29_balanceInsertion 1 = .ok (.iconst 1, 1) := dk_4 (dk_at dksJ29_balanceInsertion_0 1 rfl rfl)
theorem dJ29_balanceInsertion_2 : decode cJ29_balanceInsertion 2 = .ok (.putfield 93, 3) := dk_181 0 93 (dk_at dksJ29_balanceInsertion_0 2 rfl rfl)
theorem dJ29_balanceInsertion_5 : decode cJ29_balanceInsertion 5 = .ok (.aload_n 1, 1) := dk_43 (dk_at dksJ29_balanceInsertion_0 5 rfl rfl)
theorem dJ29_balanceInsertion_6 : decode cJ29_balanceInsertion 6 = .ok (.getfield 9, 3) := dk_180 0 9 (dk_at dksJ29_balanceInsertion_0 6 rfl rfl)
theorem dJ29_balanceInsertion_9 : decode cJ29_balanceInsertion 9 = .ok (.dup, 1) := dk_89 (dk_at dksJ29_balanceInsertion_0 9 rfl rfl)
theorem dJ29_balanceInsertion_10 : decode cJ29_balanceInsertion 10 = .ok (.astore_n 2, 1) := dk_77 (dk_at dksJ29_balanceInsertion_0 10 rfl rfl)
theorem dJ29_balanceInsertion_11 : decode cJ29_balanceInsertion 11 = .ok (.ifnonnull 10, 3) := dk_199 0 10 (dk_at dksJ29_balanceInsertion_0 11 rfl rfl)
theorem dJ29_balanceInsertion_14 : decode cJ29_balanceInsertion 14 = .ok (.aload_n 1, 1) := dk_43 (dk_at dksJ29_balanceInsertion_0 14 rfl rfl)
theorem dJ29_balanceInsertion_15 : decode cJ29_balanceInsertion 15 = .ok (.iconst 0, 1) := dk_3 (dk_at dksJ29_balanceInsertion_0 15 rfl rfl)
theorem dJ29_balanceInsertion_16 : decode cJ29_balanceInsertion 16 = .ok (.putfield 93, 3) := dk_181 0 93 (dk_at dksJ29_balanceInsertion_0 16 rfl rfl)
theorem dJ29_balanceInsertion_19 : decode cJ29_balanceInsertion 19 = .ok (.aload_n 1, 1) := dk_43 (dk_at dksJ29_balanceInsertion_0 19 rfl rfl)
theorem dJ29_balanceInsertion_20 : decode cJ29_balanceInsertion 20 = .ok (.areturn, 1) := dk_176 (dk_at dksJ29_balanceInsertion_0 20 rfl rfl)
theorem dJ29_balanceInsertion_21 : decode cJ29_balanceInsertion 21 = .ok (.aload_n 2, 1) := dk_44 (dk_at dksJ29_balanceInsertion_0 21 rfl rfl)
theorem dJ29_balanceInsertion_22 : decode cJ29_balanceInsertion 22 = .ok (.getfield 93, 3) := dk_180 0 93 (dk_at dksJ29_balanceInsertion_1 0 rfl rfl)
theorem dJ29_balanceInsertion_25 : decode cJ29_balanceInsertion 25 = .ok (.ifCond .eq 12, 3) := dk_153 0 12 (dk_at dksJ29_balanceInsertion_1 3 rfl rfl)
theorem dJ29_balanceInsertion_28 : decode cJ29_balanceInsertion 28 = .ok (.aload_n 2, 1) := dk_44 (dk_at dksJ29_balanceInsertion_1 6 rfl rfl)
theorem dJ29_balanceInsertion_29 : decode cJ29_balanceInsertion 29 = .ok (.getfield 9, 3) := dk_180 0 9 (dk_at dksJ29_balanceInsertion_1 7 rfl rfl)
theorem dJ29_balanceInsertion_32 : decode cJ29_balanceInsertion 32 = .ok (.dup, 1) := dk_89 (dk_at dksJ29_balanceInsertion_1 10 rfl rfl)
theorem dJ29_balanceInsertion_33 : decode cJ29_balanceInsertion 33 = .ok (.astore_n 3, 1) := dk_78 (dk_at dksJ29_balanceInsertion_1 11 rfl rfl)
theorem dJ29_balanceInsertion_34 : decode cJ29_balanceInsertion 34 = .ok (.ifnonnull 5, 3) := dk_199 0 5 (dk_at dksJ29_balanceInsertion_1 12 rfl rfl)
theorem dJ29_balanceInsertion_37 : decode cJ29_balanceInsertion 37 = .ok (.aload_n 0, 1) := dk_42 (dk_at dksJ29_balanceInsertion_1 15 rfl rfl)
theorem dJ29_balanceInsertion_38 : decode cJ29_balanceInsertion 38 = .ok (.areturn, 1) := dk_176 (dk_at dksJ29_balanceInsertion_1 16 rfl rfl)
theorem dJ29_balanceInsertion_39 : decode cJ29_balanceInsertion 39 = .ok (.aload_n 2, 1) := dk_44 (dk_at dksJ29_balanceInsertion_1 17 rfl rfl)
theorem dJ29_balanceInsertion_40 : decode cJ29_balanceInsertion 40 = .ok (.aload_n 3, 1) := dk_45 (dk_at dksJ29_balanceInsertion_1 18 rfl rfl)
theorem dJ29_balanceInsertion_41 : decode cJ29_balanceInsertion 41 = .ok (.getfield 39, 3) := dk_180 0 39 (dk_at dksJ29_balanceInsertion_1 19 rfl rfl)
theorem dJ29_balanceInsertion_44 : decode cJ29_balanceInsertion 44 = .ok (.dup, 1) := dk_89 (dk_at dksJ29_balanceInsertion_1 22 rfl rfl)
theorem dJ29_balanceInsertion_45 : decode cJ29_balanceInsertion 45 = .ok (.astore 4, 2) := dk_58 4 (dk_at dksJ29_balanceInsertion_2 0 rfl rfl)
theorem dJ29_balanceInsertion_47 : decode cJ29_balanceInsertion 47 = .ok (.if_acmp .ne 103, 3) := dk_166 0 103 (dk_at dksJ29_balanceInsertion_2 2 rfl rfl)
theorem dJ29_balanceInsertion_50 : decode cJ29_balanceInsertion 50 = .ok (.aload_n 3, 1) := dk_45 (dk_at dksJ29_balanceInsertion_2 5 rfl rfl)
theorem dJ29_balanceInsertion_51 : decode cJ29_balanceInsertion 51 = .ok (.getfield 42, 3) := dk_180 0 42 (dk_at dksJ29_balanceInsertion_2 6 rfl rfl)
theorem dJ29_balanceInsertion_54 : decode cJ29_balanceInsertion 54 = .ok (.dup, 1) := dk_89 (dk_at dksJ29_balanceInsertion_2 9 rfl rfl)
theorem dJ29_balanceInsertion_55 : decode cJ29_balanceInsertion 55 = .ok (.astore 5, 2) := dk_58 5 (dk_at dksJ29_balanceInsertion_2 10 rfl rfl)
theorem dJ29_balanceInsertion_57 : decode cJ29_balanceInsertion 57 = .ok (.ifnull 32, 3) := dk_198 0 32 (dk_at dksJ29_balanceInsertion_2 12 rfl rfl)
theorem dJ29_balanceInsertion_60 : decode cJ29_balanceInsertion 60 = .ok (.aload 5, 2) := dk_25 5 (dk_at dksJ29_balanceInsertion_2 15 rfl rfl)
theorem dJ29_balanceInsertion_62 : decode cJ29_balanceInsertion 62 = .ok (.getfield 93, 3) := dk_180 0 93 (dk_at dksJ29_balanceInsertion_2 17 rfl rfl)
theorem dJ29_balanceInsertion_65 : decode cJ29_balanceInsertion 65 = .ok (.ifCond .eq 24, 3) := dk_153 0 24 (dk_at dksJ29_balanceInsertion_2 20 rfl rfl)
theorem dJ29_balanceInsertion_68 : decode cJ29_balanceInsertion 68 = .ok (.aload 5, 2) := dk_25 5 (dk_at dksJ29_balanceInsertion_3 0 rfl rfl)
theorem dJ29_balanceInsertion_70 : decode cJ29_balanceInsertion 70 = .ok (.iconst 0, 1) := dk_3 (dk_at dksJ29_balanceInsertion_3 2 rfl rfl)
theorem dJ29_balanceInsertion_71 : decode cJ29_balanceInsertion 71 = .ok (.putfield 93, 3) := dk_181 0 93 (dk_at dksJ29_balanceInsertion_3 3 rfl rfl)
theorem dJ29_balanceInsertion_74 : decode cJ29_balanceInsertion 74 = .ok (.aload_n 2, 1) := dk_44 (dk_at dksJ29_balanceInsertion_3 6 rfl rfl)
theorem dJ29_balanceInsertion_75 : decode cJ29_balanceInsertion 75 = .ok (.iconst 0, 1) := dk_3 (dk_at dksJ29_balanceInsertion_3 7 rfl rfl)
theorem dJ29_balanceInsertion_76 : decode cJ29_balanceInsertion 76 = .ok (.putfield 93, 3) := dk_181 0 93 (dk_at dksJ29_balanceInsertion_3 8 rfl rfl)
theorem dJ29_balanceInsertion_79 : decode cJ29_balanceInsertion 79 = .ok (.aload_n 3, 1) := dk_45 (dk_at dksJ29_balanceInsertion_3 11 rfl rfl)
theorem dJ29_balanceInsertion_80 : decode cJ29_balanceInsertion 80 = .ok (.iconst 1, 1) := dk_4 (dk_at dksJ29_balanceInsertion_3 12 rfl rfl)
theorem dJ29_balanceInsertion_81 : decode cJ29_balanceInsertion 81 = .ok (.putfield 93, 3) := dk_181 0 93 (dk_at dksJ29_balanceInsertion_3 13 rfl rfl)
theorem dJ29_balanceInsertion_84 : decode cJ29_balanceInsertion 84 = .ok (.aload_n 3, 1) := dk_45 (dk_at dksJ29_balanceInsertion_3 16 rfl rfl)
theorem dJ29_balanceInsertion_85 : decode cJ29_balanceInsertion 85 = .ok (.astore_n 1, 1) := dk_76 (dk_at dksJ29_balanceInsertion_3 17 rfl rfl)
theorem dJ29_balanceInsertion_86 : decode cJ29_balanceInsertion 86 = .ok (.goto (-81), 3) := dk_167 255 175 (dk_at dksJ29_balanceInsertion_3 18 rfl rfl)
theorem dJ29_balanceInsertion_89 : decode cJ29_balanceInsertion 89 = .ok (.aload_n 1, 1) := dk_43 (dk_at dksJ29_balanceInsertion_3 21 rfl rfl)
theorem dJ29_balanceInsertion_90 : decode cJ29_balanceInsertion 90 = .ok (.aload_n 2, 1) := dk_44 (dk_at dksJ29_balanceInsertion_3 22 rfl rfl)
theorem dJ29_balanceInsertion_91 : decode cJ29_balanceInsertion 91 = .ok (.getfield 42, 3) := dk_180 0 42 (dk_at dksJ29_balanceInsertion_4 0 rfl rfl)
theorem dJ29_balanceInsertion_94 : decode cJ29_balanceInsertion 94 = .ok (.if_acmp .ne 29, 3) := dk_166 0 29 (dk_at dksJ29_balanceInsertion_4 3 rfl rfl)
theorem dJ29_balanceInsertion_97 : decode cJ29_balanceInsertion 97 = .ok (.aload_n 0, 1) := dk_42 (dk_at dksJ29_balanceInsertion_4 6 rfl rfl)
theorem dJ29_balanceInsertion_98 : decode cJ29_balanceInsertion 98 = .ok (.aload_n 2, 1) := dk_44 (dk_at dksJ29_balanceInsertion_4 7 rfl rfl)
theorem dJ29_balanceInsertion_99 : decode cJ29_balanceInsertion 99 = .ok (.dup, 1) := dk_89 (dk_at dksJ29_balanceInsertion_4 8 rfl rfl)
theorem dJ29_balanceInsertion_100 : decode cJ29_balanceInsertion 100 = .ok (.astore_n 1, 1) := dk_76 (dk_at dksJ29_balanceInsertion_4 9 rfl rfl)
theorem dJ29_balanceInsertion_101 : decode cJ29_balanceInsertion 101 = .ok (.invokestatic 130, 3) := dk_184 0 130 (dk_at dksJ29_balanceInsertion_4 10 rfl rfl)
theorem dJ29_balanceInsertion_104 : decode cJ29_balanceInsertion 104 = .ok (.astore_n 0, 1) := dk_75 (dk_at dksJ29_balanceInsertion_4 13 rfl rfl)
theorem dJ29_balanceInsertion_105 : decode cJ29_balanceInsertion 105 = .ok (.aload_n 1, 1) := dk_43 (dk_at dksJ29_balanceInsertion_4 14 rfl rfl)
theorem dJ29_balanceInsertion_106 : decode cJ29_balanceInsertion 106 = .ok (.getfield 9, 3) := dk_180 0 9 (dk_at dksJ29_balanceInsertion_4 15 rfl rfl)
theorem dJ29_balanceInsertion_109 : decode cJ29_balanceInsertion 109 = .ok (.dup, 1) := dk_89 (dk_at dksJ29_balanceInsertion_4 18 rfl rfl)
theorem dJ29_balanceInsertion_110 : decode cJ29_balanceInsertion 110 = .ok (.astore_n 2, 1) := dk_77 (dk_at dksJ29_balanceInsertion_4 19 rfl rfl)
theorem dJ29_balanceInsertion_111 : decode cJ29_balanceInsertion 111 = .ok (.ifnonnull 7, 3) := dk_199 0 7 (dk_at dksJ29_balanceInsertion_4 20 rfl rfl)
theorem dJ29_balanceInsertion_114 : decode cJ29_balanceInsertion 114 = .ok (.aconst_null, 1) := dk_1 (dk_at dksJ29_balanceInsertion_4 23 rfl rfl)
theorem dJ29_balanceInsertion_115 : decode cJ29_balanceInsertion 115 = .ok (.goto 7, 3) := dk_167 0 7 (dk_at dksJ29_balanceInsertion_5 0 rfl rfl)
theorem dJ29_balanceInsertion_118 : decode cJ29_balanceInsertion 118 = .ok (.aload_n 2, 1) := dk_44 (dk_at dksJ29_balanceInsertion_5 3 rfl rfl)
theorem dJ29_balanceInsertion_119 : decode cJ29_balanceInsertion 119 = .ok (.getfield 9, 3) := dk_180 0 9 (dk_at dksJ29_balanceInsertion_5 4 rfl rfl)
theorem dJ29_balanceInsertion_122 : decode cJ29_balanceInsertion 122 = .ok (.astore_n 3, 1) := dk_78 (dk_at dksJ29_balanceInsertion_5 7 rfl rfl)
theorem dJ29_balanceInsertion_123 : decode cJ29_balanceInsertion 123 = .ok (.aload_n 2, 1) := dk_44 (dk_at dksJ29_balanceInsertion_5 8 rfl rfl)
theorem dJ29_balanceInsertion_124 : decode cJ29_balanceInsertion 124 = .ok (.ifnull (-119), 3) := dk_198 255 137 (dk_at dksJ29_balanceInsertion_5 9 rfl rfl)
theorem dJ29_balanceInsertion_127 : decode cJ29_balanceInsertion 127 = .ok (.aload_n 2, 1) := dk_44 (dk_at dksJ29_balanceInsertion_5 12 rfl rfl)
theorem dJ29_balanceInsertion_128 : decode cJ29_balanceInsertion 128 = .ok (.iconst 0, 1) := dk_3 (dk_at dksJ29_balanceInsertion_5 13 rfl rfl)
theorem dJ29_balanceInsertion_129 : decode cJ29_balanceInsertion 129 = .ok (.putfield 93, 3) := dk_181 0 93 (dk_at dksJ29_balanceInsertion_5 14 rfl rfl)
theorem dJ29_balanceInsertion_132 : decode cJ29_balanceInsertion 132 = .ok (.aload_n 3, 1) := dk_45 (dk_at dksJ29_balanceInsertion_5 17 rfl rfl)
theorem dJ29_balanceInsertion_133 : decode cJ29_balanceInsertion 133 = .ok (.ifnull (-128), 3) := dk_198 255 128 (dk_at dksJ29_balanceInsertion_5 18 rfl rfl)
theorem dJ29_balanceInsertion_136 : decode cJ29_balanceInsertion 136 = .ok (.aload_n 3, 1) := dk_45 (dk_at dksJ29_balanceInsertion_5 21 rfl rfl)
theorem dJ29_balanceInsertion_137 : decode cJ29_balanceInsertion 137 = .ok (.iconst 1, 1) := dk_4 (dk_at dksJ29_balanceInsertion_5 22 rfl rfl)
theorem dJ29_balanceInsertion_138 : decode cJ29_balanceInsertion 138 = .ok (.putfield 93, 3) := dk_181 0 93 (dk_at dksJ29_balanceInsertion_6 0 rfl rfl)
theorem dJ29_balanceInsertion_141 : decode cJ29_balanceInsertion 141 = .ok (.aload_n 0, 1) := dk_42 (dk_at dksJ29_balanceInsertion_6 3 rfl rfl)
theorem dJ29_balanceInsertion_142 : decode cJ29_balanceInsertion 142 = .ok (.aload_n 3, 1) := dk_45 (dk_at dksJ29_balanceInsertion_6 4 rfl rfl)
theorem dJ29_balanceInsertion_143 : decode cJ29_balanceInsertion 143 = .ok (.invokestatic 133, 3) := dk_184 0 133 (dk_at dksJ29_balanceInsertion_6 5 rfl rfl)
theorem dJ29_balanceInsertion_146 : decode cJ29_balanceInsertion 146 = .ok (.astore_n 0, 1) := dk_75 (dk_at dksJ29_balanceInsertion_6 8 rfl rfl)
theorem dJ29_balanceInsertion_147 : decode cJ29_balanceInsertion 147 = .ok (.goto (-142), 3) := dk_167 255 114 (dk_at dksJ29_balanceInsertion_6 9 rfl rfl)
theorem dJ29_balanceInsertion_150 : decode cJ29_balanceInsertion 150 = .ok (.aload 4, 2) := dk_25 4 (dk_at dksJ29_balanceInsertion_6 12 rfl rfl)
theorem dJ29_balanceInsertion_152 : decode cJ29_balanceInsertion 152 = .ok (.ifnull 32, 3) := dk_198 0 32 (dk_at dksJ29_balanceInsertion_6 14 rfl rfl)
theorem dJ29_balanceInsertion_155 : decode cJ29_balanceInsertion 155 = .ok (.aload 4, 2) := dk_25 4 (dk_at dksJ29_balanceInsertion_6 17 rfl rfl)
theorem dJ29_balanceInsertion_157 : decode cJ29_balanceInsertion 157 = .ok (.getfield 93, 3) := dk_180 0 93 (dk_at dksJ29_balanceInsertion_6 19 rfl rfl)
theorem dJ29_balanceInsertion_160 : decode cJ29_balanceInsertion 160 = .ok (.ifCond .eq 24, 3) := dk_153 0 24 (dk_at dksJ29_balanceInsertion_7 0 rfl rfl)
theorem dJ29_balanceInsertion_163 : decode cJ29_balanceInsertion 163 = .ok (.aload 4, 2) := dk_25 4 (dk_at dksJ29_balanceInsertion_7 3 rfl rfl)
theorem dJ29_balanceInsertion_165 : decode cJ29_balanceInsertion 165 = .ok (.iconst 0, 1) := dk_3 (dk_at dksJ29_balanceInsertion_7 5 rfl rfl)
theorem dJ29_balanceInsertion_166 : decode cJ29_balanceInsertion 166 = .ok (.putfield 93, 3) := dk_181 0 93 (dk_at dksJ29_balanceInsertion_7 6 rfl rfl)
theorem dJ29_balanceInsertion_169 : decode cJ29_balanceInsertion 169 = .ok (.aload_n 2, 1) := dk_44 (dk_at dksJ29_balanceInsertion_7 9 rfl rfl)
theorem dJ29_balanceInsertion_170 : decode cJ29_balanceInsertion 170 = .ok (.iconst 0, 1) := dk_3 (dk_at dksJ29_balanceInsertion_7 10 rfl rfl)
theorem dJ29_balanceInsertion_171 : decode cJ29_balanceInsertion 171 = .ok (.putfield 93, 3) := dk_181 0 93 (dk_at dksJ29_balanceInsertion_7 11 rfl rfl)
theorem dJ29_balanceInsertion_174 : decode cJ29_balanceInsertion 174 = .ok (.aload_n 3, 1) := dk_45 (dk_at dksJ29_balanceInsertion_7 14 rfl rfl)
theorem dJ29_balanceInsertion_175 : decode cJ29_balanceInsertion 175 = .ok (.iconst 1, 1) := dk_4 (dk_at dksJ29_balanceInsertion_7 15 rfl rfl)
theorem dJ29_balanceInsertion_176 : decode cJ29_balanceInsertion 176 = .ok (.putfield 93, 3) := dk_181 0 93 (dk_at dksJ29_balanceInsertion_7 16 rfl rfl)
theorem dJ29_balanceInsertion_179 : decode cJ29_balanceInsertion 179 = .ok (.aload_n 3, 1) := dk_45 (dk_at dksJ29_balanceInsertion_7 19 rfl rfl)
theorem dJ29_balanceInsertion_180 : decode cJ29_balanceInsertion 180 = .ok (.astore_n 1, 1) := dk_76 (dk_at dksJ29_balanceInsertion_7 20 rfl rfl)
theorem dJ29_balanceInsertion_181 : decode cJ29_balanceInsertion 181 = .ok (.goto (-176), 3) := dk_167 255 80 (dk_at dksJ29_balanceInsertion_7 21 rfl rfl)
theorem dJ29_balanceInsertion_184 : decode cJ29_balanceInsertion 184 = .ok (.aload_n 1, 1) := dk_43 (dk_at dksJ29_balanceInsertion_8 0 rfl rfl)
theorem dJ29_balanceInsertion_185 : decode cJ29_balanceInsertion 185 = .ok (.aload_n 2, 1) := dk_44 (dk_at dksJ29_balanceInsertion_8 1 rfl rfl)
theorem dJ29_balanceInsertion_186 : decode cJ29_balanceInsertion 186 = .ok (.getfield 39, 3) := dk_180 0 39 (dk_at dksJ29_balanceInsertion_8 2 rfl rfl)
theorem dJ29_balanceInsertion_189 : decode cJ29_balanceInsertion 189 = .ok (.if_acmp .ne 29, 3) := dk_166 0 29 (dk_at dksJ29_balanceInsertion_8 5 rfl rfl)
theorem dJ29_balanceInsertion_192 : decode cJ29_balanceInsertion 192 = .ok (.aload_n 0, 1) := dk_42 (dk_at dksJ29_balanceInsertion_8 8 rfl rfl)
theorem dJ29_balanceInsertion_193 : decode cJ29_balanceInsertion 193 = .ok (.aload_n 2, 1) := dk_44 (dk_at dksJ29_balanceInsertion_8 9 rfl rfl)
theorem dJ29_balanceInsertion_194 : decode cJ29_balanceInsertion 194 = .ok (.dup, 1) := dk_89 (dk_at dksJ29_balanceInsertion_8 10 rfl rfl)
theorem dJ29_balanceInsertion_195 : decode cJ29_balanceInsertion 195 = .ok (.astore_n 1, 1) := dk_76 (dk_at dksJ29_balanceInsertion_8 11 rfl rfl)
theorem dJ29_balanceInsertion_196 : decode cJ29_balanceInsertion 196 = .ok (.invokestatic 133, 3) := dk_184 0 133 (dk_at dksJ29_balanceInsertion_8 12 rfl rfl)
theorem dJ29_balanceInsertion_199 : decode cJ29_balanceInsertion 199 = .ok (.astore_n 0, 1) := dk_75 (dk_at dksJ29_balanceInsertion_8 15 rfl rfl)
theorem dJ29_balanceInsertion_200 : decode cJ29_balanceInsertion 200 = .ok (.aload_n 1, 1) := dk_43 (dk_at dksJ29_balanceInsertion_8 16 rfl rfl)
theorem dJ29_balanceInsertion_201 : decode cJ29_balanceInsertion 201 = .ok (.getfield 9, 3) := dk_180 0 9 (dk_at dksJ29_balanceInsertion_8 17 rfl rfl)
theorem dJ29_balanceInsertion_204 : decode cJ29_balanceInsertion 204 = .ok (.dup, 1) := dk_89 (dk_at dksJ29_balanceInsertion_8 20 rfl rfl)
theorem dJ29_balanceInsertion_205 : decode cJ29_balanceInsertion 205 = .ok (.astore_n 2, 1) := dk_77 (dk_at dksJ29_balanceInsertion_8 21 rfl rfl)
theorem dJ29_balanceInsertion_206 : decode cJ29_balanceInsertion 206 = .ok (.ifnonnull 7, 3) := dk_199 0 7 (dk_at dksJ29_balanceInsertion_9 0 rfl rfl)
theorem dJ29_balanceInsertion_209 : decode cJ29_balanceInsertion 209 = .ok (.aconst_null, 1) := dk_1 (dk_at dksJ29_balanceInsertion_9 3 rfl rfl)
theorem dJ29_balanceInsertion_210 : decode cJ29_balanceInsertion 210 = .ok (.goto 7, 3) := dk_167 0 7 (dk_at dksJ29_balanceInsertion_9 4 rfl rfl)
theorem dJ29_balanceInsertion_213 : decode cJ29_balanceInsertion 213 = .ok (.aload_n 2, 1) := dk_44 (dk_at dksJ29_balanceInsertion_9 7 rfl rfl)
theorem dJ29_balanceInsertion_214 : decode cJ29_balanceInsertion 214 = .ok (.getfield 9, 3) := dk_180 0 9 (dk_at dksJ29_balanceInsertion_9 8 rfl rfl)
theorem dJ29_balanceInsertion_217 : decode cJ29_balanceInsertion 217 = .ok (.astore_n 3, 1) := dk_78 (dk_at dksJ29_balanceInsertion_9 11 rfl rfl)
theorem dJ29_balanceInsertion_218 : decode cJ29_balanceInsertion 218 = .ok (.aload_n 2, 1) := dk_44 (dk_at dksJ29_balanceInsertion_9 12 rfl rfl)
theorem dJ29_balanceInsertion_219 : decode cJ29_balanceInsertion 219 = .ok (.ifnull (-214), 3) := dk_198 255 42 (dk_at dksJ29_balanceInsertion_9 13 rfl rfl)
theorem dJ29_balanceInsertion_222 : decode cJ29_balanceInsertion 222 = .ok (.aload_n 2, 1) := dk_44 (dk_at dksJ29_balanceInsertion_9 16 rfl rfl)
theorem dJ29_balanceInsertion_223 : decode cJ29_balanceInsertion 223 = .ok (.iconst 0, 1) := dk_3 (dk_at dksJ29_balanceInsertion_9 17 rfl rfl)
theorem dJ29_balanceInsertion_224 : decode cJ29_balanceInsertion 224 = .ok (.putfield 93, 3) := dk_181 0 93 (dk_at dksJ29_balanceInsertion_9 18 rfl rfl)
theorem dJ29_balanceInsertion_227 : decode cJ29_balanceInsertion 227 = .ok (.aload_n 3, 1) := dk_45 (dk_at dksJ29_balanceInsertion_9 21 rfl rfl)
theorem dJ29_balanceInsertion_228 : decode cJ29_balanceInsertion 228 = .ok (.ifnull (-223), 3) := dk_198 255 33 (dk_at dksJ29_balanceInsertion_10 0 rfl rfl)
theorem dJ29_balanceInsertion_231 : decode cJ29_balanceInsertion 231 = .ok (.aload_n 3, 1) := dk_45 (dk_at dksJ29_balanceInsertion_10 3 rfl rfl)
theorem dJ29_balanceInsertion_232 : decode cJ29_balanceInsertion 232 = .ok (.iconst 1, 1) := dk_4 (dk_at dksJ29_balanceInsertion_10 4 rfl rfl)
theorem dJ29_balanceInsertion_233 : decode cJ29_balanceInsertion 233 = .ok (.putfield 93, 3) := dk_181 0 93 (dk_at dksJ29_balanceInsertion_10 5 rfl rfl)
theorem dJ29_balanceInsertion_236 : decode cJ29_balanceInsertion 236 = .ok (.aload_n 0, 1) := dk_42 (dk_at dksJ29_balanceInsertion_10 8 rfl rfl)
theorem dJ29_balanceInsertion_237 : decode cJ29_balanceInsertion 237 = .ok (.aload_n 3, 1) := dk_45 (dk_at dksJ29_balanceInsertion_10 9 rfl rfl)
theorem dJ29_balanceInsertion_238 : decode cJ29_balanceInsertion 238 = .ok (.invokestatic 130, 3) := dk_184 0 130 (dk_at dksJ29_balanceInsertion_10 10 rfl rfl)
theorem dJ29_balanceInsertion_241 : decode cJ29_balanceInsertion 241 = .ok (.astore_n 0, 1) := dk_75 (dk_at dksJ29_balanceInsertion_10 13 rfl rfl)
theorem dJ29_balanceInsertion_242 : decode cJ29_balanceInsertion 242 = .ok (.goto (-237), 3) := dk_167 255 19 (dk_at dksJ29_balanceInsertion_10 14 rfl rfl)
abbrev cJ29_rotateLeft : ByteArray := prog_54_method_12_code
def yJ29_rotateLeft : MethodName := ⟨RJ29, "rotateLeft", "(Ljava/util/HashMap$TreeNode;Ljava/util/HashMap$TreeNode;)Ljava/util/HashMap$TreeNode;"⟩
def dkwJ29_rotateLeft_3 : List UInt8 := [181, 0, 39, 167, 0, 8, 45, 44, 181, 0, 42, 44, 43, 181, 0, 39, 43, 44, 181, 0, 9, 42, 176]
abbrev dktJ29_rotateLeft_3 : List UInt8 := dkwJ29_rotateLeft_3 ++ []
def dkwJ29_rotateLeft_2 : List UInt8 := [199, 0, 13, 44, 89, 75, 3, 181, 0, 93, 167, 0, 24, 45, 180, 0, 39, 43, 166, 0, 11, 45, 44]
abbrev dktJ29_rotateLeft_2 : List UInt8 := dkwJ29_rotateLeft_2 ++ dktJ29_rotateLeft_3
def dkwJ29_rotateLeft_1 : List UInt8 := [58, 4, 198, 0, 9, 25, 4, 43, 181, 0, 9, 44, 43, 180, 0, 9, 90, 181, 0, 9, 89, 78]
abbrev dktJ29_rotateLeft_1 : List UInt8 := dkwJ29_rotateLeft_1 ++ dktJ29_rotateLeft_2
def dkwJ29_rotateLeft_0 : List UInt8 := [43, 198, 0, 88, 43, 180, 0, 42, 89, 77, 198, 0, 79, 43, 44, 180, 0, 39, 90, 181, 0, 42, 89]
abbrev dktJ29_rotateLeft_0 : List UInt8 := dkwJ29_rotateLeft_0 ++ dktJ29_rotateLeft_1
theorem dksJ29_rotateLeft_0 : cJ29_rotateLeft.data.toList.drop 0 = dktJ29_rotateLeft_0 := by decide +kernel
theorem dksJ29_rotateLeft_1 : cJ29_rotateLeft.data.toList.drop 23 = dktJ29_rotateLeft_1 := dk_seg dksJ29_rotateLeft_0 23 rfl rfl
theorem dksJ29_rotateLeft_2 : cJ29_rotateLeft.data.toList.drop 45 = dktJ29_rotateLeft_2 := dk_seg dksJ29_rotateLeft_1 22 rfl rfl
theorem dksJ29_rotateLeft_3 : cJ29_rotateLeft.data.toList.drop 68 = dktJ29_rotateLeft_3 := dk_seg dksJ29_rotateLeft_2 23 rfl rfl
theorem dJ29_rotateLeft_0 : decode cJ29_rotateLeft 0 = .ok (.aload_n 1, 1) := dk_43 (dk_at dksJ29_rotateLeft_0 0 rfl rfl)
theorem dJ29_rotateLeft_1 : decode cJ29_rotateLeft 1 = .ok (.ifnull 88, 3) := dk_198 0 88 (dk_at dksJ29_rotateLeft_0 1 rfl rfl)
theorem dJ29_rotateLeft_4 : decode cJ29_rotateLeft 4 = .ok (.aload_n 1, 1) := dk_43 (dk_at dksJ29_rotateLeft_0 4 rfl rfl)
theorem dJ29_rotateLeft_5 : decode cJ29_rotateLeft 5 = .ok (.getfield 42, 3) := dk_180 0 42 (dk_at dksJ29_rotateLeft_0 5 rfl rfl)
theorem dJ29_rotateLeft_8 : decode cJ29_rotateLeft 8 = .ok (.dup, 1) := dk_89 (dk_at dksJ29_rotateLeft_0 8 rfl rfl)
theorem dJ29_rotateLeft_9 : decode cJ29_rotateLeft 9 = .ok (.astore_n 2, 1) := dk_77 (dk_at dksJ29_rotateLeft_0 9 rfl rfl)
theorem dJ29_rotateLeft_10 : decode cJ29_rotateLeft 10 = .ok (.ifnull 79, 3) := dk_198 0 79 (dk_at dksJ29_rotateLeft_0 10 rfl rfl)
theorem dJ29_rotateLeft_13 : decode cJ29_rotateLeft 13 = .ok (.aload_n 1, 1) := dk_43 (dk_at dksJ29_rotateLeft_0 13 rfl rfl)
theorem dJ29_rotateLeft_14 : decode cJ29_rotateLeft 14 = .ok (.aload_n 2, 1) := dk_44 (dk_at dksJ29_rotateLeft_0 14 rfl rfl)
theorem dJ29_rotateLeft_15 : decode cJ29_rotateLeft 15 = .ok (.getfield 39, 3) := dk_180 0 39 (dk_at dksJ29_rotateLeft_0 15 rfl rfl)
theorem dJ29_rotateLeft_18 : decode cJ29_rotateLeft 18 = .ok (.dup_x1, 1) := dk_90 (dk_at dksJ29_rotateLeft_0 18 rfl rfl)
theorem dJ29_rotateLeft_19 : decode cJ29_rotateLeft 19 = .ok (.putfield 42, 3) := dk_181 0 42 (dk_at dksJ29_rotateLeft_0 19 rfl rfl)
theorem dJ29_rotateLeft_22 : decode cJ29_rotateLeft 22 = .ok (.dup, 1) := dk_89 (dk_at dksJ29_rotateLeft_0 22 rfl rfl)
theorem dJ29_rotateLeft_23 : decode cJ29_rotateLeft 23 = .ok (.astore 4, 2) := dk_58 4 (dk_at dksJ29_rotateLeft_1 0 rfl rfl)
theorem dJ29_rotateLeft_25 : decode cJ29_rotateLeft 25 = .ok (.ifnull 9, 3) := dk_198 0 9 (dk_at dksJ29_rotateLeft_1 2 rfl rfl)
theorem dJ29_rotateLeft_28 : decode cJ29_rotateLeft 28 = .ok (.aload 4, 2) := dk_25 4 (dk_at dksJ29_rotateLeft_1 5 rfl rfl)
theorem dJ29_rotateLeft_30 : decode cJ29_rotateLeft 30 = .ok (.aload_n 1, 1) := dk_43 (dk_at dksJ29_rotateLeft_1 7 rfl rfl)
theorem dJ29_rotateLeft_31 : decode cJ29_rotateLeft 31 = .ok (.putfield 9, 3) := dk_181 0 9 (dk_at dksJ29_rotateLeft_1 8 rfl rfl)
theorem dJ29_rotateLeft_34 : decode cJ29_rotateLeft 34 = .ok (.aload_n 2, 1) := dk_44 (dk_at dksJ29_rotateLeft_1 11 rfl rfl)
theorem dJ29_rotateLeft_35 : decode cJ29_rotateLeft 35 = .ok (.aload_n 1, 1) := dk_43 (dk_at dksJ29_rotateLeft_1 12 rfl rfl)
theorem dJ29_rotateLeft_36 : decode cJ29_rotateLeft 36 = .ok (.getfield 9, 3) := dk_180 0 9 (dk_at dksJ29_rotateLeft_1 13 rfl rfl)
theorem dJ29_rotateLeft_39 : decode cJ29_rotateLeft 39 = .ok (.dup_x1, 1) := dk_90 (dk_at dksJ29_rotateLeft_1 16 rfl rfl)
theorem dJ29_rotateLeft_40 : decode cJ29_rotateLeft 40 = .ok (.putfield 9, 3) := dk_181 0 9 (dk_at dksJ29_rotateLeft_1 17 rfl rfl)
theorem dJ29_rotateLeft_43 : decode cJ29_rotateLeft 43 = .ok (.dup, 1) := dk_89 (dk_at dksJ29_rotateLeft_1 20 rfl rfl)
theorem dJ29_rotateLeft_44 : decode cJ29_rotateLeft 44 = .ok (.astore_n 3, 1) := dk_78 (dk_at dksJ29_rotateLeft_1 21 rfl rfl)
theorem dJ29_rotateLeft_45 : decode cJ29_rotateLeft 45 = .ok (.ifnonnull 13, 3) := dk_199 0 13 (dk_at dksJ29_rotateLeft_2 0 rfl rfl)
theorem dJ29_rotateLeft_48 : decode cJ29_rotateLeft 48 = .ok (.aload_n 2, 1) := dk_44 (dk_at dksJ29_rotateLeft_2 3 rfl rfl)
theorem dJ29_rotateLeft_49 : decode cJ29_rotateLeft 49 = .ok (.dup, 1) := dk_89 (dk_at dksJ29_rotateLeft_2 4 rfl rfl)
theorem dJ29_rotateLeft_50 : decode cJ29_rotateLeft 50 = .ok (.astore_n 0, 1) := dk_75 (dk_at dksJ29_rotateLeft_2 5 rfl rfl)
theorem dJ29_rotateLeft_51 : decode cJ29_rotateLeft 51 = .ok (.iconst 0, 1) := dk_3 (dk_at dksJ29_rotateLeft_2 6 rfl rfl)
theorem dJ29_rotateLeft_52 : decode cJ29_rotateLeft 52 = .ok (.putfield 93, 3) := dk_181 0 93 (dk_at dksJ29_rotateLeft_2 7 rfl rfl)
theorem dJ29_rotateLeft_55 : decode cJ29_rotateLeft 55 = .ok (.goto 24, 3) := dk_167 0 24 (dk_at dksJ29_rotateLeft_2 10 rfl rfl)
theorem dJ29_rotateLeft_58 : decode cJ29_rotateLeft 58 = .ok (.aload_n 3, 1) := dk_45 (dk_at dksJ29_rotateLeft_2 13 rfl rfl)
theorem dJ29_rotateLeft_59 : decode cJ29_rotateLeft 59 = .ok (.getfield 39, 3) := dk_180 0 39 (dk_at dksJ29_rotateLeft_2 14 rfl rfl)
theorem dJ29_rotateLeft_62 : decode cJ29_rotateLeft 62 = .ok (.aload_n 1, 1) := dk_43 (dk_at dksJ29_rotateLeft_2 17 rfl rfl)
theorem dJ29_rotateLeft_63 : decode cJ29_rotateLeft 63 = .ok (.if_acmp .ne 11, 3) := dk_166 0 11 (dk_at dksJ29_rotateLeft_2 18 rfl rfl)
theorem dJ29_rotateLeft_66 : decode cJ29_rotateLeft 66 = .ok (.aload_n 3, 1) := dk_45 (dk_at dksJ29_rotateLeft_2 21 rfl rfl)
theorem dJ29_rotateLeft_67 : decode cJ29_rotateLeft 67 = .ok (.aload_n 2, 1) := dk_44 (dk_at dksJ29_rotateLeft_2 22 rfl rfl)
theorem dJ29_rotateLeft_68 : decode cJ29_rotateLeft 68 = .ok (.putfield 39, 3) := dk_181 0 39 (dk_at dksJ29_rotateLeft_3 0 rfl rfl)
theorem dJ29_rotateLeft_71 : decode cJ29_rotateLeft 71 = .ok (.goto 8, 3) := dk_167 0 8 (dk_at dksJ29_rotateLeft_3 3 rfl rfl)
theorem dJ29_rotateLeft_74 : decode cJ29_rotateLeft 74 = .ok (.aload_n 3, 1) := dk_45 (dk_at dksJ29_rotateLeft_3 6 rfl rfl)
theorem dJ29_rotateLeft_75 : decode cJ29_rotateLeft 75 = .ok (.aload_n 2, 1) := dk_44 (dk_at dksJ29_rotateLeft_3 7 rfl rfl)
theorem dJ29_rotateLeft_76 : decode cJ29_rotateLeft 76 = .ok (.putfield 42, 3) := dk_181 0 42 (dk_at dksJ29_rotateLeft_3 8 rfl rfl)
theorem dJ29_rotateLeft_79 : decode cJ29_rotateLeft 79 = .ok (.aload_n 2, 1) := dk_44 (dk_at dksJ29_rotateLeft_3 11 rfl rfl)
theorem dJ29_rotateLeft_80 : decode cJ29_rotateLeft 80 = .ok (.aload_n 1, 1) := dk_43 (dk_at dksJ29_rotateLeft_3 12 rfl rfl)
theorem dJ29_rotateLeft_81 : decode cJ29_rotateLeft 81 = .ok (.putfield 39, 3) := dk_181 0 39 (dk_at dksJ29_rotateLeft_3 13 rfl rfl)
theorem dJ29_rotateLeft_84 : decode cJ29_rotateLeft 84 = .ok (.aload_n 1, 1) := dk_43 (dk_at dksJ29_rotateLeft_3 16 rfl rfl)
theorem dJ29_rotateLeft_85 : decode cJ29_rotateLeft 85 = .ok (.aload_n 2, 1) := dk_44 (dk_at dksJ29_rotateLeft_3 17 rfl rfl)
theorem dJ29_rotateLeft_86 : decode cJ29_rotateLeft 86 = .ok (.putfield 9, 3) := dk_181 0 9 (dk_at dksJ29_rotateLeft_3 18 rfl rfl)
theorem dJ29_rotateLeft_89 : decode cJ29_rotateLeft 89 = .ok (.aload_n 0, 1) := dk_42 (dk_at dksJ29_rotateLeft_3 21 rfl rfl)
theorem dJ29_rotateLeft_90 : decode cJ29_rotateLeft 90 = .ok (.areturn, 1) := dk_176 (dk_at dksJ29_rotateLeft_3 22 rfl rfl)
abbrev cJ29_rotateRight : ByteArray := prog_54_method_13_code
def yJ29_rotateRight : MethodName := ⟨RJ29, "rotateRight", "(Ljava/util/HashMap$TreeNode;Ljava/util/HashMap$TreeNode;)Ljava/util/HashMap$TreeNode;"⟩
def dkwJ29_rotateRight_3 : List UInt8 := [181, 0, 42, 167, 0, 8, 45, 44, 181, 0, 39, 44, 43, 181, 0, 42, 43, 44, 181, 0, 9, 42, 176]
abbrev dktJ29_rotateRight_3 : List UInt8 := dkwJ29_rotateRight_3 ++ []
def dkwJ29_rotateRight_2 : List UInt8 := [199, 0, 13, 44, 89, 75, 3, 181, 0, 93, 167, 0, 24, 45, 180, 0, 42, 43, 166, 0, 11, 45, 44]
abbrev dktJ29_rotateRight_2 : List UInt8 := dkwJ29_rotateRight_2 ++ dktJ29_rotateRight_3
def dkwJ29_rotateRight_1 : List UInt8 := [58, 4, 198, 0, 9, 25, 4, 43, 181, 0, 9, 44, 43, 180, 0, 9, 90, 181, 0, 9, 89, 78]
abbrev dktJ29_rotateRight_1 : List UInt8 := dkwJ29_rotateRight_1 ++ dktJ29_rotateRight_2
def dkwJ29_rotateRight_0 : List UInt8 := [43, 198, 0, 88, 43, 180, 0, 39, 89, 77, 198, 0, 79, 43, 44, 180, 0, 42, 90, 181, 0, 39, 89]
abbrev dktJ29_rotateRight_0 : List UInt8 := dkwJ29_rotateRight_0 ++ dktJ29_rotateRight_1
theorem dksJ29_rotateRight_0 : cJ29_rotateRight.data.toList.drop 0 = dktJ29_rotateRight_0 := by decide +kernel
theorem dksJ29_rotateRight_1 : cJ29_rotateRight.data.toList.drop 23 = dktJ29_rotateRight_1 := dk_seg dksJ29_rotateRight_0 23 rfl rfl
theorem dksJ29_rotateRight_2 : cJ29_rotateRight.data.toList.drop 45 = dktJ29_rotateRight_2 := dk_seg dksJ29_rotateRight_1 22 rfl rfl
theorem dksJ29_rotateRight_3 : cJ29_rotateRight.data.toList.drop 68 = dktJ29_rotateRight_3 := dk_seg dksJ29_rotateRight_2 23 rfl rfl
theorem dJ29_rotateRight_0 : decode cJ29_rotateRight 0 = .ok (.aload_n 1, 1) := dk_43 (dk_at dksJ29_rotateRight_0 0 rfl rfl)
theorem dJ29_rotateRight_1 : decode cJ29_rotateRight 1 = .ok (.ifnull 88, 3) := dk_198 0 88 (dk_at dksJ29_rotateRight_0 1 rfl rfl)
theorem dJ29_rotateRight_4 : decode cJ29_rotateRight 4 = .ok (.aload_n 1, 1) := dk_43 (dk_at dksJ29_rotateRight_0 4 rfl rfl)
theorem dJ29_rotateRight_5 : decode cJ29_rotateRight 5 = .ok (.getfield 39, 3) := dk_180 0 39 (dk_at dksJ29_rotateRight_0 5 rfl rfl)
theorem dJ29_rotateRight_8 : decode cJ29_rotateRight 8 = .ok (.dup, 1) := dk_89 (dk_at dksJ29_rotateRight_0 8 rfl rfl)
theorem dJ29_rotateRight_9 : decode cJ29_rotateRight 9 = .ok (.astore_n 2, 1) := dk_77 (dk_at dksJ29_rotateRight_0 9 rfl rfl)
theorem dJ29_rotateRight_10 : decode cJ29_rotateRight 10 = .ok (.ifnull 79, 3) := dk_198 0 79 (dk_at dksJ29_rotateRight_0 10 rfl rfl)
theorem dJ29_rotateRight_13 : decode cJ29_rotateRight 13 = .ok (.aload_n 1, 1) := dk_43 (dk_at dksJ29_rotateRight_0 13 rfl rfl)
theorem dJ29_rotateRight_14 : decode cJ29_rotateRight 14 = .ok (.aload_n 2, 1) := dk_44 (dk_at dksJ29_rotateRight_0 14 rfl rfl)
theorem dJ29_rotateRight_15 : decode cJ29_rotateRight 15 = .ok (.getfield 42, 3) := dk_180 0 42 (dk_at dksJ29_rotateRight_0 15 rfl rfl)
theorem dJ29_rotateRight_18 : decode cJ29_rotateRight 18 = .ok (.dup_x1, 1) := dk_90 (dk_at dksJ29_rotateRight_0 18 rfl rfl)
theorem dJ29_rotateRight_19 : decode cJ29_rotateRight 19 = .ok (.putfield 39, 3) := dk_181 0 39 (dk_at dksJ29_rotateRight_0 19 rfl rfl)
theorem dJ29_rotateRight_22 : decode cJ29_rotateRight 22 = .ok (.dup, 1) := dk_89 (dk_at dksJ29_rotateRight_0 22 rfl rfl)
theorem dJ29_rotateRight_23 : decode cJ29_rotateRight 23 = .ok (.astore 4, 2) := dk_58 4 (dk_at dksJ29_rotateRight_1 0 rfl rfl)
theorem dJ29_rotateRight_25 : decode cJ29_rotateRight 25 = .ok (.ifnull 9, 3) := dk_198 0 9 (dk_at dksJ29_rotateRight_1 2 rfl rfl)
theorem dJ29_rotateRight_28 : decode cJ29_rotateRight 28 = .ok (.aload 4, 2) := dk_25 4 (dk_at dksJ29_rotateRight_1 5 rfl rfl)
theorem dJ29_rotateRight_30 : decode cJ29_rotateRight 30 = .ok (.aload_n 1, 1) := dk_43 (dk_at dksJ29_rotateRight_1 7 rfl rfl)
theorem dJ29_rotateRight_31 : decode cJ29_rotateRight 31 = .ok (.putfield 9, 3) := dk_181 0 9 (dk_at dksJ29_rotateRight_1 8 rfl rfl)
theorem dJ29_rotateRight_34 : decode cJ29_rotateRight 34 = .ok (.aload_n 2, 1) := dk_44 (dk_at dksJ29_rotateRight_1 11 rfl rfl)
theorem dJ29_rotateRight_35 : decode cJ29_rotateRight 35 = .ok (.aload_n 1, 1) := dk_43 (dk_at dksJ29_rotateRight_1 12 rfl rfl)
theorem dJ29_rotateRight_36 : decode cJ29_rotateRight 36 = .ok (.getfield 9, 3) := dk_180 0 9 (dk_at dksJ29_rotateRight_1 13 rfl rfl)
theorem dJ29_rotateRight_39 : decode cJ29_rotateRight 39 = .ok (.dup_x1, 1) := dk_90 (dk_at dksJ29_rotateRight_1 16 rfl rfl)
theorem dJ29_rotateRight_40 : decode cJ29_rotateRight 40 = .ok (.putfield 9, 3) := dk_181 0 9 (dk_at dksJ29_rotateRight_1 17 rfl rfl)
theorem dJ29_rotateRight_43 : decode cJ29_rotateRight 43 = .ok (.dup, 1) := dk_89 (dk_at dksJ29_rotateRight_1 20 rfl rfl)
theorem dJ29_rotateRight_44 : decode cJ29_rotateRight 44 = .ok (.astore_n 3, 1) := dk_78 (dk_at dksJ29_rotateRight_1 21 rfl rfl)
theorem dJ29_rotateRight_45 : decode cJ29_rotateRight 45 = .ok (.ifnonnull 13, 3) := dk_199 0 13 (dk_at dksJ29_rotateRight_2 0 rfl rfl)
theorem dJ29_rotateRight_48 : decode cJ29_rotateRight 48 = .ok (.aload_n 2, 1) := dk_44 (dk_at dksJ29_rotateRight_2 3 rfl rfl)
theorem dJ29_rotateRight_49 : decode cJ29_rotateRight 49 = .ok (.dup, 1) := dk_89 (dk_at dksJ29_rotateRight_2 4 rfl rfl)
theorem dJ29_rotateRight_50 : decode cJ29_rotateRight 50 = .ok (.astore_n 0, 1) := dk_75 (dk_at dksJ29_rotateRight_2 5 rfl rfl)
theorem dJ29_rotateRight_51 : decode cJ29_rotateRight 51 = .ok (.iconst 0, 1) := dk_3 (dk_at dksJ29_rotateRight_2 6 rfl rfl)
theorem dJ29_rotateRight_52 : decode cJ29_rotateRight 52 = .ok (.putfield 93, 3) := dk_181 0 93 (dk_at dksJ29_rotateRight_2 7 rfl rfl)
theorem dJ29_rotateRight_55 : decode cJ29_rotateRight 55 = .ok (.goto 24, 3) := dk_167 0 24 (dk_at dksJ29_rotateRight_2 10 rfl rfl)
theorem dJ29_rotateRight_58 : decode cJ29_rotateRight 58 = .ok (.aload_n 3, 1) := dk_45 (dk_at dksJ29_rotateRight_2 13 rfl rfl)
theorem dJ29_rotateRight_59 : decode cJ29_rotateRight 59 = .ok (.getfield 42, 3) := dk_180 0 42 (dk_at dksJ29_rotateRight_2 14 rfl rfl)
theorem dJ29_rotateRight_62 : decode cJ29_rotateRight 62 = .ok (.aload_n 1, 1) := dk_43 (dk_at dksJ29_rotateRight_2 17 rfl rfl)
theorem dJ29_rotateRight_63 : decode cJ29_rotateRight 63 = .ok (.if_acmp .ne 11, 3) := dk_166 0 11 (dk_at dksJ29_rotateRight_2 18 rfl rfl)
theorem dJ29_rotateRight_66 : decode cJ29_rotateRight 66 = .ok (.aload_n 3, 1) := dk_45 (dk_at dksJ29_rotateRight_2 21 rfl rfl)
theorem dJ29_rotateRight_67 : decode cJ29_rotateRight 67 = .ok (.aload_n 2, 1) := dk_44 (dk_at dksJ29_rotateRight_2 22 rfl rfl)
theorem dJ29_rotateRight_68 : decode cJ29_rotateRight 68 = .ok (.putfield 42, 3) := dk_181 0 42 (dk_at dksJ29_rotateRight_3 0 rfl rfl)
theorem dJ29_rotateRight_71 : decode cJ29_rotateRight 71 = .ok (.goto 8, 3) := dk_167 0 8 (dk_at dksJ29_rotateRight_3 3 rfl rfl)
theorem dJ29_rotateRight_74 : decode cJ29_rotateRight 74 = .ok (.aload_n 3, 1) := dk_45 (dk_at dksJ29_rotateRight_3 6 rfl rfl)
theorem dJ29_rotateRight_75 : decode cJ29_rotateRight 75 = .ok (.aload_n 2, 1) := dk_44 (dk_at dksJ29_rotateRight_3 7 rfl rfl)
theorem dJ29_rotateRight_76 : decode cJ29_rotateRight 76 = .ok (.putfield 39, 3) := dk_181 0 39 (dk_at dksJ29_rotateRight_3 8 rfl rfl)
theorem dJ29_rotateRight_79 : decode cJ29_rotateRight 79 = .ok (.aload_n 2, 1) := dk_44 (dk_at dksJ29_rotateRight_3 11 rfl rfl)
theorem dJ29_rotateRight_80 : decode cJ29_rotateRight 80 = .ok (.aload_n 1, 1) := dk_43 (dk_at dksJ29_rotateRight_3 12 rfl rfl)
theorem dJ29_rotateRight_81 : decode cJ29_rotateRight 81 = .ok (.putfield 42, 3) := dk_181 0 42 (dk_at dksJ29_rotateRight_3 13 rfl rfl)
theorem dJ29_rotateRight_84 : decode cJ29_rotateRight 84 = .ok (.aload_n 1, 1) := dk_43 (dk_at dksJ29_rotateRight_3 16 rfl rfl)
theorem dJ29_rotateRight_85 : decode cJ29_rotateRight 85 = .ok (.aload_n 2, 1) := dk_44 (dk_at dksJ29_rotateRight_3 17 rfl rfl)
theorem dJ29_rotateRight_86 : decode cJ29_rotateRight 86 = .ok (.putfield 9, 3) := dk_181 0 9 (dk_at dksJ29_rotateRight_3 18 rfl rfl)
theorem dJ29_rotateRight_89 : decode cJ29_rotateRight 89 = .ok (.aload_n 0, 1) := dk_42 (dk_at dksJ29_rotateRight_3 21 rfl rfl)
theorem dJ29_rotateRight_90 : decode cJ29_rotateRight 90 = .ok (.areturn, 1) := dk_176 (dk_at dksJ29_rotateRight_3 22 rfl rfl)
abbrev cJ29_moveRootToFront : ByteArray := prog_54_method_3_code
def yJ29_moveRootToFront : MethodName := ⟨RJ29, "moveRootToFront", "([Ljava/util/HashMap$Node;Ljava/util/HashMap$TreeNode;)V"⟩
def dkwJ29_moveRootToFront_5 : List UInt8 := [89, 183, 0, 36, 191, 177]
abbrev dktJ29_moveRootToFront_5 : List UInt8 := dkwJ29_moveRootToFront_5 ++ []
def dkwJ29_moveRootToFront_4 : List UInt8 := [181, 0, 22, 43, 1, 181, 0, 19, 178, 0, 26, 154, 0, 18, 43, 184, 0, 30, 154, 0, 11, 187, 0, 34]
abbrev dktJ29_moveRootToFront_4 : List UInt8 := dkwJ29_moveRootToFront_4 ++ dktJ29_moveRootToFront_5
def dkwJ29_moveRootToFront_3 : List UInt8 := [198, 0, 10, 25, 6, 25, 5, 181, 0, 22, 25, 4, 198, 0, 9, 25, 4, 43, 181, 0, 19, 43, 25, 4]
abbrev dktJ29_moveRootToFront_3 : List UInt8 := dkwJ29_moveRootToFront_3 ++ dktJ29_moveRootToFront_4
def dkwJ29_moveRootToFront_2 : List UInt8 := [43, 180, 0, 22, 89, 58, 5, 198, 0, 13, 25, 5, 192, 0, 10, 25, 6, 181, 0, 19, 25, 6]
abbrev dktJ29_moveRootToFront_2 : List UInt8 := dkwJ29_moveRootToFront_2 ++ dktJ29_moveRootToFront_3
def dkwJ29_moveRootToFront_1 : List UInt8 := [42, 29, 50, 192, 0, 10, 58, 4, 43, 25, 4, 165, 0, 67, 42, 29, 43, 83, 43, 180, 0, 19, 58, 6]
abbrev dktJ29_moveRootToFront_1 : List UInt8 := dkwJ29_moveRootToFront_1 ++ dktJ29_moveRootToFront_2
def dkwJ29_moveRootToFront_0 : List UInt8 := [43, 198, 0, 122, 42, 198, 0, 118, 42, 190, 89, 61, 158, 0, 111, 28, 4, 100, 43, 180, 0, 15, 126, 62]
abbrev dktJ29_moveRootToFront_0 : List UInt8 := dkwJ29_moveRootToFront_0 ++ dktJ29_moveRootToFront_1
theorem dksJ29_moveRootToFront_0 : cJ29_moveRootToFront.data.toList.drop 0 = dktJ29_moveRootToFront_0 := by decide +kernel
theorem dksJ29_moveRootToFront_1 : cJ29_moveRootToFront.data.toList.drop 24 = dktJ29_moveRootToFront_1 := dk_seg dksJ29_moveRootToFront_0 24 rfl rfl
theorem dksJ29_moveRootToFront_2 : cJ29_moveRootToFront.data.toList.drop 48 = dktJ29_moveRootToFront_2 := dk_seg dksJ29_moveRootToFront_1 24 rfl rfl
theorem dksJ29_moveRootToFront_3 : cJ29_moveRootToFront.data.toList.drop 70 = dktJ29_moveRootToFront_3 := dk_seg dksJ29_moveRootToFront_2 22 rfl rfl
theorem dksJ29_moveRootToFront_4 : cJ29_moveRootToFront.data.toList.drop 94 = dktJ29_moveRootToFront_4 := dk_seg dksJ29_moveRootToFront_3 24 rfl rfl
theorem dksJ29_moveRootToFront_5 : cJ29_moveRootToFront.data.toList.drop 118 = dktJ29_moveRootToFront_5 := dk_seg dksJ29_moveRootToFront_4 24 rfl rfl
theorem dJ29_moveRootToFront_0 : decode cJ29_moveRootToFront 0 = .ok (.aload_n 1, 1) := dk_43 (dk_at dksJ29_moveRootToFront_0 0 rfl rfl)
theorem dJ29_moveRootToFront_1 : decode cJ29_moveRootToFront 1 = .ok (.ifnull 122, 3) := dk_198 0 122 (dk_at dksJ29_moveRootToFront_0 1 rfl rfl)
theorem dJ29_moveRootToFront_4 : decode cJ29_moveRootToFront 4 = .ok (.aload_n 0, 1) := dk_42 (dk_at dksJ29_moveRootToFront_0 4 rfl rfl)
theorem dJ29_moveRootToFront_5 : decode cJ29_moveRootToFront 5 = .ok (.ifnull 118, 3) := dk_198 0 118 (dk_at dksJ29_moveRootToFront_0 5 rfl rfl)
theorem dJ29_moveRootToFront_8 : decode cJ29_moveRootToFront 8 = .ok (.aload_n 0, 1) := dk_42 (dk_at dksJ29_moveRootToFront_0 8 rfl rfl)
theorem dJ29_moveRootToFront_9 : decode cJ29_moveRootToFront 9 = .ok (.arraylength, 1) := dk_190 (dk_at dksJ29_moveRootToFront_0 9 rfl rfl)
theorem dJ29_moveRootToFront_10 : decode cJ29_moveRootToFront 10 = .ok (.dup, 1) := dk_89 (dk_at dksJ29_moveRootToFront_0 10 rfl rfl)
theorem dJ29_moveRootToFront_11 : decode cJ29_moveRootToFront 11 = .ok (.istore_n 2, 1) := dk_61 (dk_at dksJ29_moveRootToFront_0 11 rfl rfl)
theorem dJ29_moveRootToFront_12 : decode cJ29_moveRootToFront 12 = .ok (.ifCond .le 111, 3) := dk_158 0 111 (dk_at dksJ29_moveRootToFront_0 12 rfl rfl)
theorem dJ29_moveRootToFront_15 : decode cJ29_moveRootToFront 15 = .ok (.iload_n 2, 1) := dk_28 (dk_at dksJ29_moveRootToFront_0 15 rfl rfl)
theorem dJ29_moveRootToFront_16 : decode cJ29_moveRootToFront 16 = .ok (.iconst 1, 1) := dk_4 (dk_at dksJ29_moveRootToFront_0 16 rfl rfl)
theorem dJ29_moveRootToFront_17 : decode cJ29_moveRootToFront 17 = .ok (.isub, 1) := dk_100 (dk_at dksJ29_moveRootToFront_0 17 rfl rfl)
theorem dJ29_moveRootToFront_18 : decode cJ29_moveRootToFront 18 = .ok (.aload_n 1, 1) := dk_43 (dk_at dksJ29_moveRootToFront_0 18 rfl rfl)
theorem dJ29_moveRootToFront_19 : decode cJ29_moveRootToFront 19 = .ok (.getfield 15, 3) := dk_180 0 15 (dk_at dksJ29_moveRootToFront_0 19 rfl rfl)
theorem dJ29_moveRootToFront_22 : decode cJ29_moveRootToFront 22 = .ok (.iand, 1) := dk_126 (dk_at dksJ29_moveRootToFront_0 22 rfl rfl)
theorem dJ29_moveRootToFront_23 : decode cJ29_moveRootToFront 23 = .ok (.istore_n 3, 1) := dk_62 (dk_at dksJ29_moveRootToFront_0 23 rfl rfl)
theorem dJ29_moveRootToFront_24 : decode cJ29_moveRootToFront 24 = .ok (.aload_n 0, 1) := dk_42 (dk_at dksJ29_moveRootToFront_1 0 rfl rfl)
theorem dJ29_moveRootToFront_25 : decode cJ29_moveRootToFront 25 = .ok (.iload_n 3, 1) := dk_29 (dk_at dksJ29_moveRootToFront_1 1 rfl rfl)
theorem dJ29_moveRootToFront_26 : decode cJ29_moveRootToFront 26 = .ok (.aaload, 1) := dk_50 (dk_at dksJ29_moveRootToFront_1 2 rfl rfl)
theorem dJ29_moveRootToFront_27 : decode cJ29_moveRootToFront 27 = .ok (.checkcast 10, 3) := dk_192 0 10 (dk_at dksJ29_moveRootToFront_1 3 rfl rfl)
theorem dJ29_moveRootToFront_30 : decode cJ29_moveRootToFront 30 = .ok (.astore 4, 2) := dk_58 4 (dk_at dksJ29_moveRootToFront_1 6 rfl rfl)
theorem dJ29_moveRootToFront_32 : decode cJ29_moveRootToFront 32 = .ok (.aload_n 1, 1) := dk_43 (dk_at dksJ29_moveRootToFront_1 8 rfl rfl)
theorem dJ29_moveRootToFront_33 : decode cJ29_moveRootToFront 33 = .ok (.aload 4, 2) := dk_25 4 (dk_at dksJ29_moveRootToFront_1 9 rfl rfl)
theorem dJ29_moveRootToFront_35 : decode cJ29_moveRootToFront 35 = .ok (.if_acmp .eq 67, 3) := dk_165 0 67 (dk_at dksJ29_moveRootToFront_1 11 rfl rfl)
theorem dJ29_moveRootToFront_38 : decode cJ29_moveRootToFront 38 = .ok (.aload_n 0, 1) := dk_42 (dk_at dksJ29_moveRootToFront_1 14 rfl rfl)
theorem dJ29_moveRootToFront_39 : decode cJ29_moveRootToFront 39 = .ok (.iload_n 3, 1) := dk_29 (dk_at dksJ29_moveRootToFront_1 15 rfl rfl)
theorem dJ29_moveRootToFront_40 : decode cJ29_moveRootToFront 40 = .ok (.aload_n 1, 1) := dk_43 (dk_at dksJ29_moveRootToFront_1 16 rfl rfl)
theorem dJ29_moveRootToFront_41 : decode cJ29_moveRootToFront 41 = .ok (.aastore, 1) := dk_83 (dk_at dksJ29_moveRootToFront_1 17 rfl rfl)
theorem dJ29_moveRootToFront_42 : decode cJ29_moveRootToFront 42 = .ok (.aload_n 1, 1) := dk_43 (dk_at dksJ29_moveRootToFront_1 18 rfl rfl)
theorem dJ29_moveRootToFront_43 : decode cJ29_moveRootToFront 43 = .ok (.getfield 19, 3) := dk_180 0 19 (dk_at dksJ29_moveRootToFront_1 19 rfl rfl)
theorem dJ29_moveRootToFront_46 : decode cJ29_moveRootToFront 46 = .ok (.astore 6, 2) := dk_58 6 (dk_at dksJ29_moveRootToFront_1 22 rfl rfl)
theorem dJ29_moveRootToFront_48 : decode cJ29_moveRootToFront 48 = .ok (.aload_n 1, 1) := dk_43 (dk_at dksJ29_moveRootToFront_2 0 rfl rfl)
theorem dJ29_moveRootToFront_49 : decode cJ29_moveRootToFront 49 = .ok (.getfield 22, 3) := dk_180 0 22 (dk_at dksJ29_moveRootToFront_2 1 rfl rfl)
theorem dJ29_moveRootToFront_52 : decode cJ29_moveRootToFront 52 = .ok (.dup, 1) := dk_89 (dk_at dksJ29_moveRootToFront_2 4 rfl rfl)
theorem dJ29_moveRootToFront_53 : decode cJ29_moveRootToFront 53 = .ok (.astore 5, 2) := dk_58 5 (dk_at dksJ29_moveRootToFront_2 5 rfl rfl)
theorem dJ29_moveRootToFront_55 : decode cJ29_moveRootToFront 55 = .ok (.ifnull 13, 3) := dk_198 0 13 (dk_at dksJ29_moveRootToFront_2 7 rfl rfl)
theorem dJ29_moveRootToFront_58 : decode cJ29_moveRootToFront 58 = .ok (.aload 5, 2) := dk_25 5 (dk_at dksJ29_moveRootToFront_2 10 rfl rfl)
theorem dJ29_moveRootToFront_60 : decode cJ29_moveRootToFront 60 = .ok (.checkcast 10, 3) := dk_192 0 10 (dk_at dksJ29_moveRootToFront_2 12 rfl rfl)
theorem dJ29_moveRootToFront_63 : decode cJ29_moveRootToFront 63 = .ok (.aload 6, 2) := dk_25 6 (dk_at dksJ29_moveRootToFront_2 15 rfl rfl)
theorem dJ29_moveRootToFront_65 : decode cJ29_moveRootToFront 65 = .ok (.putfield 19, 3) := dk_181 0 19 (dk_at dksJ29_moveRootToFront_2 17 rfl rfl)
theorem dJ29_moveRootToFront_68 : decode cJ29_moveRootToFront 68 = .ok (.aload 6, 2) := dk_25 6 (dk_at dksJ29_moveRootToFront_2 20 rfl rfl)
theorem dJ29_moveRootToFront_70 : decode cJ29_moveRootToFront 70 = .ok (.ifnull 10, 3) := dk_198 0 10 (dk_at dksJ29_moveRootToFront_3 0 rfl rfl)
theorem dJ29_moveRootToFront_73 : decode cJ29_moveRootToFront 73 = .ok (.aload 6, 2) := dk_25 6 (dk_at dksJ29_moveRootToFront_3 3 rfl rfl)
theorem dJ29_moveRootToFront_75 : decode cJ29_moveRootToFront 75 = .ok (.aload 5, 2) := dk_25 5 (dk_at dksJ29_moveRootToFront_3 5 rfl rfl)
theorem dJ29_moveRootToFront_77 : decode cJ29_moveRootToFront 77 = .ok (.putfield 22, 3) := dk_181 0 22 (dk_at dksJ29_moveRootToFront_3 7 rfl rfl)
theorem dJ29_moveRootToFront_80 : decode cJ29_moveRootToFront 80 = .ok (.aload 4, 2) := dk_25 4 (dk_at dksJ29_moveRootToFront_3 10 rfl rfl)
theorem dJ29_moveRootToFront_82 : decode cJ29_moveRootToFront 82 = .ok (.ifnull 9, 3) := dk_198 0 9 (dk_at dksJ29_moveRootToFront_3 12 rfl rfl)
theorem dJ29_moveRootToFront_85 : decode cJ29_moveRootToFront 85 = .ok (.aload 4, 2) := dk_25 4 (dk_at dksJ29_moveRootToFront_3 15 rfl rfl)
theorem dJ29_moveRootToFront_87 : decode cJ29_moveRootToFront 87 = .ok (.aload_n 1, 1) := dk_43 (dk_at dksJ29_moveRootToFront_3 17 rfl rfl)
theorem dJ29_moveRootToFront_88 : decode cJ29_moveRootToFront 88 = .ok (.putfield 19, 3) := dk_181 0 19 (dk_at dksJ29_moveRootToFront_3 18 rfl rfl)
theorem dJ29_moveRootToFront_91 : decode cJ29_moveRootToFront 91 = .ok (.aload_n 1, 1) := dk_43 (dk_at dksJ29_moveRootToFront_3 21 rfl rfl)
theorem dJ29_moveRootToFront_92 : decode cJ29_moveRootToFront 92 = .ok (.aload 4, 2) := dk_25 4 (dk_at dksJ29_moveRootToFront_3 22 rfl rfl)
theorem dJ29_moveRootToFront_94 : decode cJ29_moveRootToFront 94 = .ok (.putfield 22, 3) := dk_181 0 22 (dk_at dksJ29_moveRootToFront_4 0 rfl rfl)
theorem dJ29_moveRootToFront_97 : decode cJ29_moveRootToFront 97 = .ok (.aload_n 1, 1) := dk_43 (dk_at dksJ29_moveRootToFront_4 3 rfl rfl)
theorem dJ29_moveRootToFront_98 : decode cJ29_moveRootToFront 98 = .ok (.aconst_null, 1) := dk_1 (dk_at dksJ29_moveRootToFront_4 4 rfl rfl)
theorem dJ29_moveRootToFront_99 : decode cJ29_moveRootToFront 99 = .ok (.putfield 19, 3) := dk_181 0 19 (dk_at dksJ29_moveRootToFront_4 5 rfl rfl)
theorem dJ29_moveRootToFront_102 : decode cJ29_moveRootToFront 102 = .ok (.getstatic 26, 3) := dk_178 0 26 (dk_at dksJ29_moveRootToFront_4 8 rfl rfl)
theorem dJ29_moveRootToFront_105 : decode cJ29_moveRootToFront 105 = .ok (.ifCond .ne 18, 3) := dk_154 0 18 (dk_at dksJ29_moveRootToFront_4 11 rfl rfl)
theorem dJ29_moveRootToFront_108 : decode cJ29_moveRootToFront 108 = .ok (.aload_n 1, 1) := dk_43 (dk_at dksJ29_moveRootToFront_4 14 rfl rfl)
theorem dJ29_moveRootToFront_109 : decode cJ29_moveRootToFront 109 = .ok (.invokestatic 30, 3) := dk_184 0 30 (dk_at dksJ29_moveRootToFront_4 15 rfl rfl)
theorem dJ29_moveRootToFront_112 : decode cJ29_moveRootToFront 112 = .ok (.ifCond .ne 11, 3) := dk_154 0 11 (dk_at dksJ29_moveRootToFront_4 18 rfl rfl)
theorem dJ29_moveRootToFront_115 : decode cJ29_moveRootToFront 115 = .ok (.new 34, 3) := dk_187 0 34 (dk_at dksJ29_moveRootToFront_4 21 rfl rfl)
theorem dJ29_moveRootToFront_118 : decode cJ29_moveRootToFront 118 = .ok (.dup, 1) := dk_89 (dk_at dksJ29_moveRootToFront_5 0 rfl rfl)
theorem dJ29_moveRootToFront_119 : decode cJ29_moveRootToFront 119 = .ok (.invokespecial 36, 3) := dk_183 0 36 (dk_at dksJ29_moveRootToFront_5 1 rfl rfl)
theorem dJ29_moveRootToFront_122 : decode cJ29_moveRootToFront 122 = .ok (.athrow, 1) := dk_191 (dk_at dksJ29_moveRootToFront_5 4 rfl rfl)
theorem dJ29_moveRootToFront_123 : decode cJ29_moveRootToFront 123 = .ok (.return_, 1) := dk_177 (dk_at dksJ29_moveRootToFront_5 5 rfl rfl)
abbrev cJ29_putTreeVal : ByteArray := prog_54_method_9_code
def yJ29_putTreeVal : MethodName := ⟨RJ29, "putTreeVal", "(Ljava/util/HashMap;[Ljava/util/HashMap$Node;ILjava/lang/Object;Ljava/lang/Object;)Ljava/util/HashMap$TreeNode;"⟩
def dkwJ29_putTreeVal_13 : List UInt8 := [184, 0, 100, 184, 0, 104, 1, 176, 167, 254, 228]
abbrev dktJ29_putTreeVal_13 : List UInt8 := dkwJ29_putTreeVal_13 ++ []
def dkwJ29_putTreeVal_12 : List UInt8 := [181, 0, 9, 25, 14, 198, 0, 13, 25, 14, 192, 0, 10, 25, 15, 181, 0, 19, 44, 25, 8, 25, 15]
abbrev dktJ29_putTreeVal_12 : List UInt8 := dkwJ29_putTreeVal_12 ++ dktJ29_putTreeVal_13
def dkwJ29_putTreeVal_11 : List UInt8 := [25, 15, 181, 0, 42, 25, 13, 25, 15, 181, 0, 22, 25, 15, 25, 15, 25, 13, 90, 181, 0, 19]
abbrev dktJ29_putTreeVal_11 : List UInt8 := dkwJ29_putTreeVal_11 ++ dktJ29_putTreeVal_12
def dkwJ29_putTreeVal_10 : List UInt8 := [25, 14, 182, 0, 115, 58, 15, 21, 10, 157, 0, 13, 25, 13, 25, 15, 181, 0, 39, 167, 0, 10, 25, 13]
abbrev dktJ29_putTreeVal_10 : List UInt8 := dkwJ29_putTreeVal_10 ++ dktJ29_putTreeVal_11
def dkwJ29_putTreeVal_9 : List UInt8 := [25, 9, 180, 0, 42, 89, 58, 9, 199, 0, 93, 25, 13, 180, 0, 22, 58, 14, 43, 29, 25, 4, 25, 5]
abbrev dktJ29_putTreeVal_9 : List UInt8 := dkwJ29_putTreeVal_9 ++ dktJ29_putTreeVal_10
def dkwJ29_putTreeVal_8 : List UInt8 := [25, 12, 184, 0, 96, 54, 10, 25, 9, 58, 13, 21, 10, 157, 0, 11, 25, 9, 180, 0, 39, 167, 0, 8]
abbrev dktJ29_putTreeVal_8 : List UInt8 := dkwJ29_putTreeVal_8 ++ dktJ29_putTreeVal_9
def dkwJ29_putTreeVal_7 : List UInt8 := [198, 0, 22, 25, 14, 29, 25, 4, 25, 6, 182, 0, 63, 89, 58, 13, 198, 0, 6, 25, 13, 176, 25, 4]
abbrev dktJ29_putTreeVal_7 : List UInt8 := dkwJ29_putTreeVal_7 ++ dktJ29_putTreeVal_8
def dkwJ29_putTreeVal_6 : List UInt8 := [29, 25, 4, 25, 6, 182, 0, 63, 89, 58, 13, 199, 0, 30, 25, 9, 180, 0, 42, 89, 58, 14]
abbrev dktJ29_putTreeVal_6 : List UInt8 := dkwJ29_putTreeVal_6 ++ dktJ29_putTreeVal_7
def dkwJ29_putTreeVal_5 : List UInt8 := [154, 0, 77, 21, 7, 154, 0, 63, 4, 54, 7, 25, 9, 180, 0, 39, 89, 58, 14, 198, 0, 19, 25, 14]
abbrev dktJ29_putTreeVal_5 : List UInt8 := dkwJ29_putTreeVal_5 ++ dktJ29_putTreeVal_6
def dkwJ29_putTreeVal_4 : List UInt8 := [25, 4, 184, 0, 55, 89, 58, 6, 198, 0, 18, 25, 6, 25, 4, 25, 12, 184, 0, 59, 89, 54, 10]
abbrev dktJ29_putTreeVal_4 : List UInt8 := dkwJ29_putTreeVal_4 ++ dktJ29_putTreeVal_5
def dkwJ29_putTreeVal_3 : List UInt8 := [25, 4, 198, 0, 16, 25, 4, 25, 12, 182, 0, 49, 153, 0, 6, 25, 9, 176, 25, 6, 199, 0, 14]
abbrev dktJ29_putTreeVal_3 : List UInt8 := dkwJ29_putTreeVal_3 ++ dktJ29_putTreeVal_4
def dkwJ29_putTreeVal_2 : List UInt8 := [29, 162, 0, 9, 4, 54, 10, 167, 0, 139, 25, 9, 180, 0, 45, 89, 58, 12, 25, 4, 165, 0, 18]
abbrev dktJ29_putTreeVal_2 : List UInt8 := dkwJ29_putTreeVal_2 ++ dktJ29_putTreeVal_3
def dkwJ29_putTreeVal_1 : List UInt8 := [25, 8, 58, 9, 25, 9, 180, 0, 15, 89, 54, 11, 29, 164, 0, 9, 2, 54, 10, 167, 0, 151, 21, 11]
abbrev dktJ29_putTreeVal_1 : List UInt8 := dkwJ29_putTreeVal_1 ++ dktJ29_putTreeVal_2
def dkwJ29_putTreeVal_0 : List UInt8 := [1, 58, 6, 3, 54, 7, 42, 180, 0, 9, 198, 0, 10, 42, 182, 0, 67, 167, 0, 4, 42, 58, 8]
abbrev dktJ29_putTreeVal_0 : List UInt8 := dkwJ29_putTreeVal_0 ++ dktJ29_putTreeVal_1
theorem dksJ29_putTreeVal_0 : cJ29_putTreeVal.data.toList.drop 0 = dktJ29_putTreeVal_0 := by decide +kernel
theorem dksJ29_putTreeVal_1 : cJ29_putTreeVal.data.toList.drop 23 = dktJ29_putTreeVal_1 := dk_seg dksJ29_putTreeVal_0 23 rfl rfl
theorem dksJ29_putTreeVal_2 : cJ29_putTreeVal.data.toList.drop 47 = dktJ29_putTreeVal_2 := dk_seg dksJ29_putTreeVal_1 24 rfl rfl
theorem dksJ29_putTreeVal_3 : cJ29_putTreeVal.data.toList.drop 70 = dktJ29_putTreeVal_3 := dk_seg dksJ29_putTreeVal_2 23 rfl rfl
theorem dksJ29_putTreeVal_4 : cJ29_putTreeVal.data.toList.drop 93 = dktJ29_putTreeVal_4 := dk_seg dksJ29_putTreeVal_3 23 rfl rfl
theorem dksJ29_putTreeVal_5 : cJ29_putTreeVal.data.toList.drop 116 = dktJ29_putTreeVal_5 := dk_seg dksJ29_putTreeVal_4 23 rfl rfl
theorem dksJ29_putTreeVal_6 : cJ29_putTreeVal.data.toList.drop 140 = dktJ29_putTreeVal_6 := dk_seg dksJ29_putTreeVal_5 24 rfl rfl
theorem dksJ29_putTreeVal_7 : cJ29_putTreeVal.data.toList.drop 162 = dktJ29_putTreeVal_7 := dk_seg dksJ29_putTreeVal_6 22 rfl rfl
theorem dksJ29_putTreeVal_8 : cJ29_putTreeVal.data.toList.drop 186 = dktJ29_putTreeVal_8 := dk_seg dksJ29_putTreeVal_7 24 rfl rfl
theorem dksJ29_putTreeVal_9 : cJ29_putTreeVal.data.toList.drop 210 = dktJ29_putTreeVal_9 := dk_seg dksJ29_putTreeVal_8 24 rfl rfl
theorem dksJ29_putTreeVal_10 : cJ29_putTreeVal.data.toList.drop 234 = dktJ29_putTreeVal_10 := dk_seg dksJ29_putTreeVal_9 24 rfl rfl
theorem dksJ29_putTreeVal_11 : cJ29_putTreeVal.data.toList.drop 258 = dktJ29_putTreeVal_11 := dk_seg dksJ29_putTreeVal_10 24 rfl rfl
theorem dksJ29_putTreeVal_12 : cJ29_putTreeVal.data.toList.drop 280 = dktJ29_putTreeVal_12 := dk_seg dksJ29_putTreeVal_11 22 rfl rfl
theorem dksJ29_putTreeVal_13 : cJ29_putTreeVal.data.toList.drop 303 = dktJ29_putTreeVal_13 := dk_seg dksJ29_putTreeVal_12 23 rfl rfl
theorem dJ29_putTreeVal_0 : decode cJ29_putTreeVal 0 = .ok (.aconst_null, 1) := dk_1 (dk_at dksJ29_putTreeVal_0 0 rfl rfl)
theorem dJ29_putTreeVal_1 : decode cJ29_putTreeVal 1 = .ok (.astore 6, 2) := dk_58 6 (dk_at dksJ29_putTreeVal_0 1 rfl rfl)
theorem dJ29_putTreeVal_3 : decode cJ29_putTreeVal 3 = .ok (.iconst 0, 1) := dk_3 (dk_at dksJ29_putTreeVal_0 3 rfl rfl)
theorem dJ29_putTreeVal_4 : decode cJ29_putTreeVal 4 = .ok (.istore 7, 2) := dk_54 7 (dk_at dksJ29_putTreeVal_0 4 rfl rfl)
theorem dJ29_putTreeVal_6 : decode cJ29_putTreeVal 6 = .ok (.aload_n 0, 1) := dk_42 (dk_at dksJ29_putTreeVal_0 6 rfl rfl)
theorem dJ29_putTreeVal_7 : decode cJ29_putTreeVal 7 = .ok (.getfield 9, 3) := dk_180 0 9 (dk_at dksJ29_putTreeVal_0 7 rfl rfl)
theorem dJ29_putTreeVal_10 : decode cJ29_putTreeVal 10 = .ok (.ifnull 10, 3) := dk_198 0 10 (dk_at dksJ29_putTreeVal_0 10 rfl rfl)
theorem dJ29_putTreeVal_13 : decode cJ29_putTreeVal 13 = .ok (.aload_n 0, 1) := dk_42 (dk_at dksJ29_putTreeVal_0 13 rfl rfl)
theorem dJ29_putTreeVal_14 : decode cJ29_putTreeVal 14 = .ok (.invokevirtual 67, 3) := dk_182 0 67 (dk_at dksJ29_putTreeVal_0 14 rfl rfl)
theorem dJ29_putTreeVal_17 : decode cJ29_putTreeVal 17 = .ok (.goto 4, 3) := dk_167 0 4 (dk_at dksJ29_putTreeVal_0 17 rfl rfl)
theorem dJ29_putTreeVal_20 : decode cJ29_putTreeVal 20 = .ok (.aload_n 0, 1) := dk_42 (dk_at dksJ29_putTreeVal_0 20 rfl rfl)
theorem dJ29_putTreeVal_21 : decode cJ29_putTreeVal 21 = .ok (.astore 8, 2) := dk_58 8 (dk_at dksJ29_putTreeVal_0 21 rfl rfl)
theorem dJ29_putTreeVal_23 : decode cJ29_putTreeVal 23 = .ok (.aload 8, 2) := dk_25 8 (dk_at dksJ29_putTreeVal_1 0 rfl rfl)
theorem dJ29_putTreeVal_25 : decode cJ29_putTreeVal 25 = .ok (.astore 9, 2) := dk_58 9 (dk_at dksJ29_putTreeVal_1 2 rfl rfl)
theorem dJ29_putTreeVal_27 : decode cJ29_putTreeVal 27 = .ok (.aload 9, 2) := dk_25 9 (dk_at dksJ29_putTreeVal_1 4 rfl rfl)
theorem dJ29_putTreeVal_29 : decode cJ29_putTreeVal 29 = .ok (.getfield 15, 3) := dk_180 0 15 (dk_at dksJ29_putTreeVal_1 6 rfl rfl)
theorem dJ29_putTreeVal_32 : decode cJ29_putTreeVal 32 = .ok (.dup, 1) := dk_89 (dk_at dksJ29_putTreeVal_1 9 rfl rfl)
theorem dJ29_putTreeVal_33 : decode cJ29_putTreeVal 33 = .ok (.istore 11, 2) := dk_54 11 (dk_at dksJ29_putTreeVal_1 10 rfl rfl)
theorem dJ29_putTreeVal_35 : decode cJ29_putTreeVal 35 = .ok (.iload_n 3, 1) := dk_29 (dk_at dksJ29_putTreeVal_1 12 rfl rfl)
theorem dJ29_putTreeVal_36 : decode cJ29_putTreeVal 36 = .ok (.if_icmp .le 9, 3) := dk_164 0 9 (dk_at dksJ29_putTreeVal_1 13 rfl rfl)
theorem dJ29_putTreeVal_39 : decode cJ29_putTreeVal 39 = .ok (.iconst (-1), 1) := dk_2 (dk_at dksJ29_putTreeVal_1 16 rfl rfl)
theorem dJ29_putTreeVal_40 : decode cJ29_putTreeVal 40 = .ok (.istore 10, 2) := dk_54 10 (dk_at dksJ29_putTreeVal_1 17 rfl rfl)
theorem dJ29_putTreeVal_42 : decode cJ29_putTreeVal 42 = .ok (.goto 151, 3) := dk_167 0 151 (dk_at dksJ29_putTreeVal_1 19 rfl rfl)
theorem dJ29_putTreeVal_45 : decode cJ29_putTreeVal 45 = .ok (.iload 11, 2) := dk_21 11 (dk_at dksJ29_putTreeVal_1 22 rfl rfl)
theorem dJ29_putTreeVal_47 : decode cJ29_putTreeVal 47 = .ok (.iload_n 3, 1) := dk_29 (dk_at dksJ29_putTreeVal_2 0 rfl rfl)
theorem dJ29_putTreeVal_48 : decode cJ29_putTreeVal 48 = .ok (.if_icmp .ge 9, 3) := dk_162 0 9 (dk_at dksJ29_putTreeVal_2 1 rfl rfl)
theorem dJ29_putTreeVal_51 : decode cJ29_putTreeVal 51 = .ok (.iconst 1, 1) := dk_4 (dk_at dksJ29_putTreeVal_2 4 rfl rfl)
theorem dJ29_putTreeVal_52 : decode cJ29_putTreeVal 52 = .ok (.istore 10, 2) := dk_54 10 (dk_at dksJ29_putTreeVal_2 5 rfl rfl)
theorem dJ29_putTreeVal_54 : decode cJ29_putTreeVal 54 = .ok (.goto 139, 3) := dk_167 0 139 (dk_at dksJ29_putTreeVal_2 7 rfl rfl)
theorem dJ29_putTreeVal_57 : decode cJ29_putTreeVal 57 = .ok (.aload 9, 2) := dk_25 9 (dk_at dksJ29_putTreeVal_2 10 rfl rfl)
theorem dJ29_putTreeVal_59 : decode cJ29_putTreeVal 59 = .ok (.getfield 45, 3) := dk_180 0 45 (dk_at dksJ29_putTreeVal_2 12 rfl rfl)
theorem dJ29_putTreeVal_62 : decode cJ29_putTreeVal 62 = .ok (.dup, 1) := dk_89 (dk_at dksJ29_putTreeVal_2 15 rfl rfl)
theorem dJ29_putTreeVal_63 : decode cJ29_putTreeVal 63 = .ok (.astore 12, 2) := dk_58 12 (dk_at dksJ29_putTreeVal_2 16 rfl rfl)
theorem dJ29_putTreeVal_65 : decode cJ29_putTreeVal 65 = .ok (.aload 4, 2) := dk_25 4 (dk_at dksJ29_putTreeVal_2 18 rfl rfl)
theorem dJ29_putTreeVal_67 : decode cJ29_putTreeVal 67 = .ok (.if_acmp .eq 18, 3) := dk_165 0 18 (dk_at dksJ29_putTreeVal_2 20 rfl rfl)
theorem dJ29_putTreeVal_70 : decode cJ29_putTreeVal 70 = .ok (.aload 4, 2) := dk_25 4 (dk_at dksJ29_putTreeVal_3 0 rfl rfl)
theorem dJ29_putTreeVal_72 : decode cJ29_putTreeVal 72 = .ok (.ifnull 16, 3) := dk_198 0 16 (dk_at dksJ29_putTreeVal_3 2 rfl rfl)
theorem dJ29_putTreeVal_75 : decode cJ29_putTreeVal 75 = .ok (.aload 4, 2) := dk_25 4 (dk_at dksJ29_putTreeVal_3 5 rfl rfl)
theorem dJ29_putTreeVal_77 : decode cJ29_putTreeVal 77 = .ok (.aload 12, 2) := dk_25 12 (dk_at dksJ29_putTreeVal_3 7 rfl rfl)
theorem dJ29_putTreeVal_79 : decode cJ29_putTreeVal 79 = .ok (.invokevirtual 49, 3) := dk_182 0 49 (dk_at dksJ29_putTreeVal_3 9 rfl rfl)
theorem dJ29_putTreeVal_82 : decode cJ29_putTreeVal 82 = .ok (.ifCond .eq 6, 3) := dk_153 0 6 (dk_at dksJ29_putTreeVal_3 12 rfl rfl)
theorem dJ29_putTreeVal_85 : decode cJ29_putTreeVal 85 = .ok (.aload 9, 2) := dk_25 9 (dk_at dksJ29_putTreeVal_3 15 rfl rfl)
theorem dJ29_putTreeVal_87 : decode cJ29_putTreeVal 87 = .ok (.areturn, 1) := dk_176 (dk_at dksJ29_putTreeVal_3 17 rfl rfl)
theorem dJ29_putTreeVal_88 : decode cJ29_putTreeVal 88 = .ok (.aload 6, 2) := dk_25 6 (dk_at dksJ29_putTreeVal_3 18 rfl rfl)
theorem dJ29_putTreeVal_90 : decode cJ29_putTreeVal 90 = .ok (.ifnonnull 14, 3) := dk_199 0 14 (dk_at dksJ29_putTreeVal_3 20 rfl rfl)
theorem dJ29_putTreeVal_93 : decode cJ29_putTreeVal 93 = .ok (.aload 4, 2) := dk_25 4 (dk_at dksJ29_putTreeVal_4 0 rfl rfl)
theorem dJ29_putTreeVal_95 : decode cJ29_putTreeVal 95 = .ok (.invokestatic 55, 3) := dk_184 0 55 (dk_at dksJ29_putTreeVal_4 2 rfl rfl)
theorem dJ29_putTreeVal_98 : decode cJ29_putTreeVal 98 = .ok (.dup, 1) := dk_89 (dk_at dksJ29_putTreeVal_4 5 rfl rfl)
theorem dJ29_putTreeVal_99 : decode cJ29_putTreeVal 99 = .ok (.astore 6, 2) := dk_58 6 (dk_at dksJ29_putTreeVal_4 6 rfl rfl)
theorem dJ29_putTreeVal_101 : decode cJ29_putTreeVal 101 = .ok (.ifnull 18, 3) := dk_198 0 18 (dk_at dksJ29_putTreeVal_4 8 rfl rfl)
theorem dJ29_putTreeVal_104 : decode cJ29_putTreeVal 104 = .ok (.aload 6, 2) := dk_25 6 (dk_at dksJ29_putTreeVal_4 11 rfl rfl)
theorem dJ29_putTreeVal_106 : decode cJ29_putTreeVal 106 = .ok (.aload 4, 2) := dk_25 4 (dk_at dksJ29_putTreeVal_4 13 rfl rfl)
theorem dJ29_putTreeVal_108 : decode cJ29_putTreeVal 108 = .ok (.aload 12, 2) := dk_25 12 (dk_at dksJ29_putTreeVal_4 15 rfl rfl)
theorem dJ29_putTreeVal_110 : decode cJ29_putTreeVal 110 = .ok (.invokestatic 59, 3) := dk_184 0 59 (dk_at dksJ29_putTreeVal_4 17 rfl rfl)
theorem dJ29_putTreeVal_113 : decode cJ29_putTreeVal 113 = .ok (.dup, 1) := dk_89 (dk_at dksJ29_putTreeVal_4 20 rfl rfl)
theorem dJ29_putTreeVal_114 : decode cJ29_putTreeVal 114 = .ok (.istore 10, 2) := dk_54 10 (dk_at dksJ29_putTreeVal_4 21 rfl rfl)
theorem dJ29_putTreeVal_116 : decode cJ29_putTreeVal 116 = .ok (.ifCond .ne 77, 3) := dk_154 0 77 (dk_at dksJ29_putTreeVal_5 0 rfl rfl)
theorem dJ29_putTreeVal_119 : decode cJ29_putTreeVal 119 = .ok (.iload 7, 2) := dk_21 7 (dk_at dksJ29_putTreeVal_5 3 rfl rfl)
theorem dJ29_putTreeVal_121 : decode cJ29_putTreeVal 121 = .ok (.ifCond .ne 63, 3) := dk_154 0 63 (dk_at dksJ29_putTreeVal_5 5 rfl rfl)
theorem dJ29_putTreeVal_124 : decode cJ29_putTreeVal 124 = .ok (.iconst 1, 1) := dk_4 (dk_at dksJ29_putTreeVal_5 8 rfl rfl)
theorem dJ29_putTreeVal_125 : decode cJ29_putTreeVal 125 = .ok (.istore 7, 2) := dk_54 7 (dk_at dksJ29_putTreeVal_5 9 rfl rfl)
theorem dJ29_putTreeVal_127 : decode cJ29_putTreeVal 127 = .ok (.aload 9, 2) := dk_25 9 (dk_at dksJ29_putTreeVal_5 11 rfl rfl)
theorem dJ29_putTreeVal_129 : decode cJ29_putTreeVal 129 = .ok (.getfield 39, 3) := dk_180 0 39 (dk_at dksJ29_putTreeVal_5 13 rfl rfl)
theorem dJ29_putTreeVal_132 : decode cJ29_putTreeVal 132 = .ok (.dup, 1) := dk_89 (dk_at dksJ29_putTreeVal_5 16 rfl rfl)
theorem dJ29_putTreeVal_133 : decode cJ29_putTreeVal 133 = .ok (.astore 14, 2) := dk_58 14 (dk_at dksJ29_putTreeVal_5 17 rfl rfl)
theorem dJ29_putTreeVal_135 : decode cJ29_putTreeVal 135 = .ok (.ifnull 19, 3) := dk_198 0 19 (dk_at dksJ29_putTreeVal_5 19 rfl rfl)
theorem dJ29_putTreeVal_138 : decode cJ29_putTreeVal 138 = .ok (.aload 14, 2) := dk_25 14 (dk_at dksJ29_putTreeVal_5 22 rfl rfl)
theorem dJ29_putTreeVal_140 : decode cJ29_putTreeVal 140 = .ok (.iload_n 3, 1) := dk_29 (dk_at dksJ29_putTreeVal_6 0 rfl rfl)
theorem dJ29_putTreeVal_141 : decode cJ29_putTreeVal 141 = .ok (.aload 4, 2) := dk_25 4 (dk_at dksJ29_putTreeVal_6 1 rfl rfl)
theorem dJ29_putTreeVal_143 : decode cJ29_putTreeVal 143 = .ok (.aload 6, 2) := dk_25 6 (dk_at dksJ29_putTreeVal_6 3 rfl rfl)
theorem dJ29_putTreeVal_145 : decode cJ29_putTreeVal 145 = .ok (.invokevirtual 63, 3) := dk_182 0 63 (dk_at dksJ29_putTreeVal_6 5 rfl rfl)
theorem dJ29_putTreeVal_148 : decode cJ29_putTreeVal 148 = .ok (.dup, 1) := dk_89 (dk_at dksJ29_putTreeVal_6 8 rfl rfl)
theorem dJ29_putTreeVal_149 : decode cJ29_putTreeVal 149 = .ok (.astore 13, 2) := dk_58 13 (dk_at dksJ29_putTreeVal_6 9 rfl rfl)
theorem dJ29_putTreeVal_151 : decode cJ29_putTreeVal 151 = .ok (.ifnonnull 30, 3) := dk_199 0 30 (dk_at dksJ29_putTreeVal_6 11 rfl rfl)
theorem dJ29_putTreeVal_154 : decode cJ29_putTreeVal 154 = .ok (.aload 9, 2) := dk_25 9 (dk_at dksJ29_putTreeVal_6 14 rfl rfl)
theorem dJ29_putTreeVal_156 : decode cJ29_putTreeVal 156 = .ok (.getfield 42, 3) := dk_180 0 42 (dk_at dksJ29_putTreeVal_6 16 rfl rfl)
theorem dJ29_putTreeVal_159 : decode cJ29_putTreeVal 159 = .ok (.dup, 1) := dk_89 (dk_at dksJ29_putTreeVal_6 19 rfl rfl)
theorem dJ29_putTreeVal_160 : decode cJ29_putTreeVal 160 = .ok (.astore 14, 2) := dk_58 14 (dk_at dksJ29_putTreeVal_6 20 rfl rfl)
theorem dJ29_putTreeVal_162 : decode cJ29_putTreeVal 162 = .ok (.ifnull 22, 3) := dk_198 0 22 (dk_at dksJ29_putTreeVal_7 0 rfl rfl)
theorem dJ29_putTreeVal_165 : decode cJ29_putTreeVal 165 = .ok (.aload 14, 2) := dk_25 14 (dk_at dksJ29_putTreeVal_7 3 rfl rfl)
theorem dJ29_putTreeVal_167 : decode cJ29_putTreeVal 167 = .ok (.iload_n 3, 1) := dk_29 (dk_at dksJ29_putTreeVal_7 5 rfl rfl)
theorem dJ29_putTreeVal_168 : decode cJ29_putTreeVal 168 = .ok (.aload 4, 2) := dk_25 4 (dk_at dksJ29_putTreeVal_7 6 rfl rfl)
theorem dJ29_putTreeVal_170 : decode cJ29_putTreeVal 170 = .ok (.aload 6, 2) := dk_25 6 (dk_at dksJ29_putTreeVal_7 8 rfl rfl)
theorem dJ29_putTreeVal_172 : decode cJ29_putTreeVal 172 = .ok (.invokevirtual 63, 3) := dk_182 0 63 (dk_at dksJ29_putTreeVal_7 10 rfl rfl)
theorem dJ29_putTreeVal_175 : decode cJ29_putTreeVal 175 = .ok (.dup, 1) := dk_89 (dk_at dksJ29_putTreeVal_7 13 rfl rfl)
theorem dJ29_putTreeVal_176 : decode cJ29_putTreeVal 176 = .ok (.astore 13, 2) := dk_58 13 (dk_at dksJ29_putTreeVal_7 14 rfl rfl)
theorem dJ29_putTreeVal_178 : decode cJ29_putTreeVal 178 = .ok (.ifnull 6, 3) := dk_198 0 6 (dk_at dksJ29_putTreeVal_7 16 rfl rfl)
theorem dJ29_putTreeVal_181 : decode cJ29_putTreeVal 181 = .ok (.aload 13, 2) := dk_25 13 (dk_at dksJ29_putTreeVal_7 19 rfl rfl)
theorem dJ29_putTreeVal_183 : decode cJ29_putTreeVal 183 = .ok (.areturn, 1) := dk_176 (dk_at dksJ29_putTreeVal_7 21 rfl rfl)
theorem dJ29_putTreeVal_184 : decode cJ29_putTreeVal 184 = .ok (.aload 4, 2) := dk_25 4 (dk_at dksJ29_putTreeVal_7 22 rfl rfl)
theorem dJ29_putTreeVal_186 : decode cJ29_putTreeVal 186 = .ok (.aload 12, 2) := dk_25 12 (dk_at dksJ29_putTreeVal_8 0 rfl rfl)
theorem dJ29_putTreeVal_188 : decode cJ29_putTreeVal 188 = .ok (.invokestatic 96, 3) := dk_184 0 96 (dk_at dksJ29_putTreeVal_8 2 rfl rfl)
theorem dJ29_putTreeVal_191 : decode cJ29_putTreeVal 191 = .ok (.istore 10, 2) := dk_54 10 (dk_at dksJ29_putTreeVal_8 5 rfl rfl)
theorem dJ29_putTreeVal_193 : decode cJ29_putTreeVal 193 = .ok (.aload 9, 2) := dk_25 9 (dk_at dksJ29_putTreeVal_8 7 rfl rfl)
theorem dJ29_putTreeVal_195 : decode cJ29_putTreeVal 195 = .ok (.astore 13, 2) := dk_58 13 (dk_at dksJ29_putTreeVal_8 9 rfl rfl)
theorem dJ29_putTreeVal_197 : decode cJ29_putTreeVal 197 = .ok (.iload 10, 2) := dk_21 10 (dk_at dksJ29_putTreeVal_8 11 rfl rfl)
theorem dJ29_putTreeVal_199 : decode cJ29_putTreeVal 199 = .ok (.ifCond .gt 11, 3) := dk_157 0 11 (dk_at dksJ29_putTreeVal_8 13 rfl rfl)
theorem dJ29_putTreeVal_202 : decode cJ29_putTreeVal 202 = .ok (.aload 9, 2) := dk_25 9 (dk_at dksJ29_putTreeVal_8 16 rfl rfl)
theorem dJ29_putTreeVal_204 : decode cJ29_putTreeVal 204 = .ok (.getfield 39, 3) := dk_180 0 39 (dk_at dksJ29_putTreeVal_8 18 rfl rfl)
theorem dJ29_putTreeVal_207 : decode cJ29_putTreeVal 207 = .ok (.goto 8, 3) := dk_167 0 8 (dk_at dksJ29_putTreeVal_8 21 rfl rfl)
theorem dJ29_putTreeVal_210 : decode cJ29_putTreeVal 210 = .ok (.aload 9, 2) := dk_25 9 (dk_at dksJ29_putTreeVal_9 0 rfl rfl)
theorem dJ29_putTreeVal_212 : decode cJ29_putTreeVal 212 = .ok (.getfield 42, 3) := dk_180 0 42 (dk_at dksJ29_putTreeVal_9 2 rfl rfl)
theorem dJ29_putTreeVal_215 : decode cJ29_putTreeVal 215 = .ok (.dup, 1) := dk_89 (dk_at dksJ29_putTreeVal_9 5 rfl rfl)
theorem dJ29_putTreeVal_216 : decode cJ29_putTreeVal 216 = .ok (.astore 9, 2) := dk_58 9 (dk_at dksJ29_putTreeVal_9 6 rfl rfl)
theorem dJ29_putTreeVal_218 : decode cJ29_putTreeVal 218 = .ok (.ifnonnull 93, 3) := dk_199 0 93 (dk_at dksJ29_putTreeVal_9 8 rfl rfl)
theorem dJ29_putTreeVal_221 : decode cJ29_putTreeVal 221 = .ok (.aload 13, 2) := dk_25 13 (dk_at dksJ29_putTreeVal_9 11 rfl rfl)
theorem dJ29_putTreeVal_223 : decode cJ29_putTreeVal 223 = .ok (.getfield 22, 3) := dk_180 0 22 (dk_at dksJ29_putTreeVal_9 13 rfl rfl)
theorem dJ29_putTreeVal_226 : decode cJ29_putTreeVal 226 = .ok (.astore 14, 2) := dk_58 14 (dk_at dksJ29_putTreeVal_9 16 rfl rfl)
theorem dJ29_putTreeVal_228 : decode cJ29_putTreeVal 228 = .ok (.aload_n 1, 1) := dk_43 (dk_at dksJ29_putTreeVal_9 18 rfl rfl)
theorem dJ29_putTreeVal_229 : decode cJ29_putTreeVal 229 = .ok (.iload_n 3, 1) := dk_29 (dk_at dksJ29_putTreeVal_9 19 rfl rfl)
theorem dJ29_putTreeVal_230 : decode cJ29_putTreeVal 230 = .ok (.aload 4, 2) := dk_25 4 (dk_at dksJ29_putTreeVal_9 20 rfl rfl)
theorem dJ29_putTreeVal_232 : decode cJ29_putTreeVal 232 = .ok (.aload 5, 2) := dk_25 5 (dk_at dksJ29_putTreeVal_9 22 rfl rfl)
theorem dJ29_putTreeVal_234 : decode cJ29_putTreeVal 234 = .ok (.aload 14, 2) := dk_25 14 (dk_at dksJ29_putTreeVal_10 0 rfl rfl)
theorem dJ29_putTreeVal_236 : decode cJ29_putTreeVal 236 = .ok (.invokevirtual 115, 3) := dk_182 0 115 (dk_at dksJ29_putTreeVal_10 2 rfl rfl)
theorem dJ29_putTreeVal_239 : decode cJ29_putTreeVal 239 = .ok (.astore 15, 2) := dk_58 15 (dk_at dksJ29_putTreeVal_10 5 rfl rfl)
theorem dJ29_putTreeVal_241 : decode cJ29_putTreeVal 241 = .ok (.iload 10, 2) := dk_21 10 (dk_at dksJ29_putTreeVal_10 7 rfl rfl)
theorem dJ29_putTreeVal_243 : decode cJ29_putTreeVal 243 = .ok (.ifCond .gt 13, 3) := dk_157 0 13 (dk_at dksJ29_putTreeVal_10 9 rfl rfl)
theorem dJ29_putTreeVal_246 : decode cJ29_putTreeVal 246 = .ok (.aload 13, 2) := dk_25 13 (dk_at dksJ29_putTreeVal_10 12 rfl rfl)
theorem dJ29_putTreeVal_248 : decode cJ29_putTreeVal 248 = .ok (.aload 15, 2) := dk_25 15 (dk_at dksJ29_putTreeVal_10 14 rfl rfl)
theorem dJ29_putTreeVal_250 : decode cJ29_putTreeVal 250 = .ok (.putfield 39, 3) := dk_181 0 39 (dk_at dksJ29_putTreeVal_10 16 rfl rfl)
theorem dJ29_putTreeVal_253 : decode cJ29_putTreeVal 253 = .ok (.goto 10, 3) := dk_167 0 10 (dk_at dksJ29_putTreeVal_10 19 rfl rfl)
theorem dJ29_putTreeVal_256 : decode cJ29_putTreeVal 256 = .ok (.aload 13, 2) := dk_25 13 (dk_at dksJ29_putTreeVal_10 22 rfl rfl)
theorem dJ29_putTreeVal_258 : decode cJ29_putTreeVal 258 = .ok (.aload 15, 2) := dk_25 15 (dk_at dksJ29_putTreeVal_11 0 rfl rfl)
theorem dJ29_putTreeVal_260 : decode cJ29_putTreeVal 260 = .ok (.putfield 42, 3) := dk_181 0 42 (dk_at dksJ29_putTreeVal_11 2 rfl rfl)
theorem dJ29_putTreeVal_263 : decode cJ29_putTreeVal 263 = .ok (.aload 13, 2) := dk_25 13 (dk_at dksJ29_putTreeVal_11 5 rfl rfl)
theorem dJ29_putTreeVal_265 : decode cJ29_putTreeVal 265 = .ok (.aload 15, 2) := dk_25 15 (dk_at dksJ29_putTreeVal_11 7 rfl rfl)
theorem dJ29_putTreeVal_267 : decode cJ29_putTreeVal 267 = .ok (.putfield 22, 3) := dk_181 0 22 (dk_at dksJ29_putTreeVal_11 9 rfl rfl)
theorem dJ29_putTreeVal_270 : decode cJ29_putTreeVal 270 = .ok (.aload 15, 2) := dk_25 15 (dk_at dksJ29_putTreeVal_11 12 rfl rfl)
theorem dJ29_putTreeVal_272 : decode cJ29_putTreeVal 272 = .ok (.aload 15, 2) := dk_25 15 (dk_at dksJ29_putTreeVal_11 14 rfl rfl)
theorem dJ29_putTreeVal_274 : decode cJ29_putTreeVal 274 = .ok (.aload 13, 2) := dk_25 13 (dk_at dksJ29_putTreeVal_11 16 rfl rfl)
theorem dJ29_putTreeVal_276 : decode cJ29_putTreeVal 276 = .ok (.dup_x1, 1) := dk_90 (dk_at dksJ29_putTreeVal_11 18 rfl rfl)
theorem dJ29_putTreeVal_277 : decode cJ29_putTreeVal 277 = .ok (.putfield 19, 3) := dk_181 0 19 (dk_at dksJ29_putTreeVal_11 19 rfl rfl)
theorem dJ29_putTreeVal_280 : decode cJ29_putTreeVal 280 = .ok (.putfield 9, 3) := dk_181 0 9 (dk_at dksJ29_putTreeVal_12 0 rfl rfl)
theorem dJ29_putTreeVal_283 : decode cJ29_putTreeVal 283 = .ok (.aload 14, 2) := dk_25 14 (dk_at dksJ29_putTreeVal_12 3 rfl rfl)
theorem dJ29_putTreeVal_285 : decode cJ29_putTreeVal 285 = .ok (.ifnull 13, 3) := dk_198 0 13 (dk_at dksJ29_putTreeVal_12 5 rfl rfl)
theorem dJ29_putTreeVal_288 : decode cJ29_putTreeVal 288 = .ok (.aload 14, 2) := dk_25 14 (dk_at dksJ29_putTreeVal_12 8 rfl rfl)
theorem dJ29_putTreeVal_290 : decode cJ29_putTreeVal 290 = .ok (.checkcast 10, 3) := dk_192 0 10 (dk_at dksJ29_putTreeVal_12 10 rfl rfl)
theorem dJ29_putTreeVal_293 : decode cJ29_putTreeVal 293 = .ok (.aload 15, 2) := dk_25 15 (dk_at dksJ29_putTreeVal_12 13 rfl rfl)
theorem dJ29_putTreeVal_295 : decode cJ29_putTreeVal 295 = .ok (.putfield 19, 3) := dk_181 0 19 (dk_at dksJ29_putTreeVal_12 15 rfl rfl)
theorem dJ29_putTreeVal_298 : decode cJ29_putTreeVal 298 = .ok (.aload_n 2, 1) := dk_44 (dk_at dksJ29_putTreeVal_12 18 rfl rfl)
theorem dJ29_putTreeVal_299 : decode cJ29_putTreeVal 299 = .ok (.aload 8, 2) := dk_25 8 (dk_at dksJ29_putTreeVal_12 19 rfl rfl)
theorem dJ29_putTreeVal_301 : decode cJ29_putTreeVal 301 = .ok (.aload 15, 2) := dk_25 15 (dk_at dksJ29_putTreeVal_12 21 rfl rfl)
theorem dJ29_putTreeVal_303 : decode cJ29_putTreeVal 303 = .ok (.invokestatic 100, 3) := dk_184 0 100 (dk_at dksJ29_putTreeVal_13 0 rfl rfl)
theorem dJ29_putTreeVal_306 : decode cJ29_putTreeVal 306 = .ok (.invokestatic 104, 3) := dk_184 0 104 (dk_at dksJ29_putTreeVal_13 3 rfl rfl)
theorem dJ29_putTreeVal_309 : decode cJ29_putTreeVal 309 = .ok (.aconst_null, 1) := dk_1 (dk_at dksJ29_putTreeVal_13 6 rfl rfl)
theorem dJ29_putTreeVal_310 : decode cJ29_putTreeVal 310 = .ok (.areturn, 1) := dk_176 (dk_at dksJ29_putTreeVal_13 7 rfl rfl)
theorem dJ29_putTreeVal_311 : decode cJ29_putTreeVal 311 = .ok (.goto (-284), 3) := dk_167 254 228 (dk_at dksJ29_putTreeVal_13 8 rfl rfl)
abbrev cJ29_init : ByteArray := prog_54_method_1_code
def yJ29_init : MethodName := ⟨RJ29, "<init>", "(ILjava/lang/Object;Ljava/lang/Object;Ljava/util/HashMap$Node;)V"⟩
def dkwJ29_init_0 : List UInt8 := [42, 27, 44, 45, 25, 4, 183, 0, 3, 177]
abbrev dktJ29_init_0 : List UInt8 := dkwJ29_init_0 ++ []
theorem dksJ29_init_0 : cJ29_init.data.toList.drop 0 = dktJ29_init_0 := by decide +kernel
theorem dJ29_init_0 : decode cJ29_init 0 = .ok (.aload_n 0, 1) := dk_42 (dk_at dksJ29_init_0 0 rfl rfl)
theorem dJ29_init_1 : decode cJ29_init 1 = .ok (.iload_n 1, 1) := dk_27 (dk_at dksJ29_init_0 1 rfl rfl)
theorem dJ29_init_2 : decode cJ29_init 2 = .ok (.aload_n 2, 1) := dk_44 (dk_at dksJ29_init_0 2 rfl rfl)
theorem dJ29_init_3 : decode cJ29_init 3 = .ok (.aload_n 3, 1) := dk_45 (dk_at dksJ29_init_0 3 rfl rfl)
theorem dJ29_init_4 : decode cJ29_init 4 = .ok (.aload 4, 2) := dk_25 4 (dk_at dksJ29_init_0 4 rfl rfl)
theorem dJ29_init_6 : decode cJ29_init 6 = .ok (.invokespecial 3, 3) := dk_183 0 3 (dk_at dksJ29_init_0 6 rfl rfl)
theorem dJ29_init_9 : decode cJ29_init 9 = .ok (.return_, 1) := dk_177 (dk_at dksJ29_init_0 9 rfl rfl)
theorem q156 : (Jvm.Cond.initialized "java/util/HashMap$TreeNode") ∈ lw_all := lw_g (lw_at lw_m1 41 rfl) rfl
theorem q1020 : (Jvm.Cond.selects "java/util/HashMap$TreeNode" ({ cls := "java/lang/Object", name := "getClass", desc := "()Ljava/lang/Class;" } : Jvm.MethodName) ({ cls := "java/lang/Object", name := "getClass", desc := "()Ljava/lang/Class;" } : Jvm.MethodName)) ∈ lw_all := lw_g (lw_at lw_m4 185 rfl) rfl
theorem q1263 : (Jvm.Cond.instanceMethod ({ cls := "java/util/HashMap$TreeNode", name := "getTreeNode", desc := "(ILjava/lang/Object;)Ljava/util/HashMap$TreeNode;" } : Jvm.MethodName)) ∈ lw_all := lw_g (lw_at lw_m5 188 rfl) rfl
theorem q1264 : (Jvm.Cond.selects "java/util/HashMap$TreeNode" ({ cls := "java/util/HashMap$TreeNode", name := "getTreeNode", desc := "(ILjava/lang/Object;)Ljava/util/HashMap$TreeNode;" } : Jvm.MethodName) ({ cls := "java/util/HashMap$TreeNode", name := "getTreeNode", desc := "(ILjava/lang/Object;)Ljava/util/HashMap$TreeNode;" } : Jvm.MethodName)) ∈ lw_all := lw_g (lw_at lw_m5 189 rfl) rfl
theorem q1265 : (Jvm.Cond.code ({ cls := "java/util/HashMap$TreeNode", name := "getTreeNode", desc := "(ILjava/lang/Object;)Ljava/util/HashMap$TreeNode;" } : Jvm.MethodName) prog_54_method_5_code (3 : Nat) (Option.some (Jvm.ClassFile.FieldType.object "java/util/HashMap$TreeNode"))) ∈ lw_all := lw_g (lw_at lw_m5 190 rfl) rfl
theorem q1266 : (Jvm.Cond.methodLink "java/util/HashMap$TreeNode" (67 : Nat) ({ cls := "java/util/HashMap$TreeNode", name := "root", desc := "()Ljava/util/HashMap$TreeNode;" } : Jvm.MethodName)) ∈ lw_all := lw_g (lw_at lw_m5 191 rfl) rfl
theorem q1267 : (Jvm.Cond.instanceMethod ({ cls := "java/util/HashMap$TreeNode", name := "root", desc := "()Ljava/util/HashMap$TreeNode;" } : Jvm.MethodName)) ∈ lw_all := lw_g (lw_at lw_m5 192 rfl) rfl
theorem q1268 : (Jvm.Cond.selects "java/util/HashMap$TreeNode" ({ cls := "java/util/HashMap$TreeNode", name := "root", desc := "()Ljava/util/HashMap$TreeNode;" } : Jvm.MethodName) ({ cls := "java/util/HashMap$TreeNode", name := "root", desc := "()Ljava/util/HashMap$TreeNode;" } : Jvm.MethodName)) ∈ lw_all := lw_g (lw_at lw_m5 193 rfl) rfl
theorem q1269 : (Jvm.Cond.code ({ cls := "java/util/HashMap$TreeNode", name := "root", desc := "()Ljava/util/HashMap$TreeNode;" } : Jvm.MethodName) prog_54_method_2_code (3 : Nat) (Option.some (Jvm.ClassFile.FieldType.object "java/util/HashMap$TreeNode"))) ∈ lw_all := lw_g (lw_at lw_m5 194 rfl) rfl
theorem q1270 : (Jvm.Cond.methodLink "java/util/HashMap$TreeNode" (63 : Nat) ({ cls := "java/util/HashMap$TreeNode", name := "find", desc := "(ILjava/lang/Object;Ljava/lang/Class;)Ljava/util/HashMap$TreeNode;" } : Jvm.MethodName)) ∈ lw_all := lw_g (lw_at lw_m5 195 rfl) rfl
theorem q1271 : (Jvm.Cond.instanceMethod ({ cls := "java/util/HashMap$TreeNode", name := "find", desc := "(ILjava/lang/Object;Ljava/lang/Class;)Ljava/util/HashMap$TreeNode;" } : Jvm.MethodName)) ∈ lw_all := lw_g (lw_at lw_m5 196 rfl) rfl
theorem q1272 : (Jvm.Cond.selects "java/util/HashMap$TreeNode" ({ cls := "java/util/HashMap$TreeNode", name := "find", desc := "(ILjava/lang/Object;Ljava/lang/Class;)Ljava/util/HashMap$TreeNode;" } : Jvm.MethodName) ({ cls := "java/util/HashMap$TreeNode", name := "find", desc := "(ILjava/lang/Object;Ljava/lang/Class;)Ljava/util/HashMap$TreeNode;" } : Jvm.MethodName)) ∈ lw_all := lw_g (lw_at lw_m5 197 rfl) rfl
theorem q1273 : (Jvm.Cond.code ({ cls := "java/util/HashMap$TreeNode", name := "find", desc := "(ILjava/lang/Object;Ljava/lang/Class;)Ljava/util/HashMap$TreeNode;" } : Jvm.MethodName) prog_54_method_4_code (11 : Nat) (Option.some (Jvm.ClassFile.FieldType.object "java/util/HashMap$TreeNode"))) ∈ lw_all := lw_g (lw_at lw_m5 198 rfl) rfl
theorem q1274 : (Jvm.Cond.methodLink "java/util/HashMap$TreeNode" (49 : Nat) ({ cls := "java/lang/Object", name := "equals", desc := "(Ljava/lang/Object;)Z" } : Jvm.MethodName)) ∈ lw_all := lw_g (lw_at lw_m5 199 rfl) rfl
theorem q1275 : (Jvm.Cond.methodLink "java/util/HashMap$TreeNode" (55 : Nat) ({ cls := "java/util/HashMap", name := "comparableClassFor", desc := "(Ljava/lang/Object;)Ljava/lang/Class;" } : Jvm.MethodName)) ∈ lw_all := lw_g (lw_at lw_m5 200 rfl) rfl
theorem q1281 : (Jvm.Cond.methodLink "java/util/HashMap$TreeNode" (59 : Nat) ({ cls := "java/util/HashMap", name := "compareComparables", desc := "(Ljava/lang/Class;Ljava/lang/Object;Ljava/lang/Object;)I" } : Jvm.MethodName)) ∈ lw_all := lw_g (lw_at lw_m5 206 rfl) rfl
theorem q1546 : (Jvm.Cond.instanceMethod ({ cls := "java/util/HashMap$TreeNode", name := "split", desc := "(Ljava/util/HashMap;[Ljava/util/HashMap$Node;II)V" } : Jvm.MethodName)) ∈ lw_all := lw_g (lw_at lw_m6 231 rfl) rfl
theorem q1547 : (Jvm.Cond.selects "java/util/HashMap$TreeNode" ({ cls := "java/util/HashMap$TreeNode", name := "split", desc := "(Ljava/util/HashMap;[Ljava/util/HashMap$Node;II)V" } : Jvm.MethodName) ({ cls := "java/util/HashMap$TreeNode", name := "split", desc := "(Ljava/util/HashMap;[Ljava/util/HashMap$Node;II)V" } : Jvm.MethodName)) ∈ lw_all := lw_g (lw_at lw_m6 232 rfl) rfl
theorem q1548 : (Jvm.Cond.code ({ cls := "java/util/HashMap$TreeNode", name := "split", desc := "(Ljava/util/HashMap;[Ljava/util/HashMap$Node;II)V" } : Jvm.MethodName) prog_54_method_11_code (14 : Nat) (Option.none : Option Jvm.ClassFile.FieldType)) ∈ lw_all := lw_g (lw_at lw_m6 233 rfl) rfl
theorem q1549 : (Jvm.Cond.classLink "java/util/HashMap$TreeNode" (10 : Nat) "java/util/HashMap$TreeNode") ∈ lw_all := lw_g (lw_at lw_m6 234 rfl) rfl
theorem q1550 : (Jvm.Cond.methodLink "java/util/HashMap$TreeNode" (119 : Nat) ({ cls := "java/util/HashMap$TreeNode", name := "untreeify", desc := "(Ljava/util/HashMap;)Ljava/util/HashMap$Node;" } : Jvm.MethodName)) ∈ lw_all := lw_g (lw_at lw_m6 235 rfl) rfl
theorem q1551 : (Jvm.Cond.instanceMethod ({ cls := "java/util/HashMap$TreeNode", name := "untreeify", desc := "(Ljava/util/HashMap;)Ljava/util/HashMap$Node;" } : Jvm.MethodName)) ∈ lw_all := lw_g (lw_at lw_m6 236 rfl) rfl
theorem q1552 : (Jvm.Cond.selects "java/util/HashMap$TreeNode" ({ cls := "java/util/HashMap$TreeNode", name := "untreeify", desc := "(Ljava/util/HashMap;)Ljava/util/HashMap$Node;" } : Jvm.MethodName) ({ cls := "java/util/HashMap$TreeNode", name := "untreeify", desc := "(Ljava/util/HashMap;)Ljava/util/HashMap$Node;" } : Jvm.MethodName)) ∈ lw_all := lw_g (lw_at lw_m6 237 rfl) rfl
theorem q1553 : (Jvm.Cond.code ({ cls := "java/util/HashMap$TreeNode", name := "untreeify", desc := "(Ljava/util/HashMap;)Ljava/util/HashMap$Node;" } : Jvm.MethodName) prog_54_method_8_code (6 : Nat) (Option.some (Jvm.ClassFile.FieldType.object "java/util/HashMap$Node"))) ∈ lw_all := lw_g (lw_at lw_m6 238 rfl) rfl
theorem q1554 : (Jvm.Cond.methodLink "java/util/HashMap$TreeNode" (108 : Nat) ({ cls := "java/util/HashMap", name := "replacementNode", desc := "(Ljava/util/HashMap$Node;Ljava/util/HashMap$Node;)Ljava/util/HashMap$Node;" } : Jvm.MethodName)) ∈ lw_all := lw_g (lw_at lw_m6 239 rfl) rfl
theorem q1564 : (Jvm.Cond.fieldLink "java/util/HashMap$TreeNode" (15 : Nat) "java/util/HashMap$TreeNode" "hash" "I") ∈ lw_all := lw_g (lw_at lw_m7 9 rfl) rfl
theorem q1565 : (Jvm.Cond.sameField "java/util/HashMap$TreeNode" "java/util/HashMap$Node" "hash" "I") ∈ lw_all := lw_g (lw_at lw_m7 10 rfl) rfl
theorem q1568 : (Jvm.Cond.fieldLink "java/util/HashMap$TreeNode" (45 : Nat) "java/util/HashMap$TreeNode" "key" "Ljava/lang/Object;") ∈ lw_all := lw_g (lw_at lw_m7 13 rfl) rfl
theorem q1569 : (Jvm.Cond.sameField "java/util/HashMap$TreeNode" "java/util/HashMap$Node" "key" "Ljava/lang/Object;") ∈ lw_all := lw_g (lw_at lw_m7 14 rfl) rfl
theorem q1574 : (Jvm.Cond.fieldLink "java/util/HashMap$TreeNode" (22 : Nat) "java/util/HashMap$TreeNode" "next" "Ljava/util/HashMap$Node;") ∈ lw_all := lw_g (lw_at lw_m7 19 rfl) rfl
theorem q1575 : (Jvm.Cond.sameField "java/util/HashMap$TreeNode" "java/util/HashMap$Node" "next" "Ljava/util/HashMap$Node;") ∈ lw_all := lw_g (lw_at lw_m7 20 rfl) rfl
theorem q1576 : (Jvm.Cond.fieldLink "java/util/HashMap$TreeNode" (112 : Nat) "java/util/HashMap$Node" "next" "Ljava/util/HashMap$Node;") ∈ lw_all := lw_g (lw_at lw_m7 21 rfl) rfl
theorem q1588 : (Jvm.Cond.methodLink "java/util/HashMap$TreeNode" (126 : Nat) ({ cls := "java/util/HashMap$TreeNode", name := "treeify", desc := "([Ljava/util/HashMap$Node;)V" } : Jvm.MethodName)) ∈ lw_all := lw_g (lw_at lw_m7 33 rfl) rfl
theorem q1589 : (Jvm.Cond.instanceMethod ({ cls := "java/util/HashMap$TreeNode", name := "treeify", desc := "([Ljava/util/HashMap$Node;)V" } : Jvm.MethodName)) ∈ lw_all := lw_g (lw_at lw_m7 34 rfl) rfl
theorem q1590 : (Jvm.Cond.selects "java/util/HashMap$TreeNode" ({ cls := "java/util/HashMap$TreeNode", name := "treeify", desc := "([Ljava/util/HashMap$Node;)V" } : Jvm.MethodName) ({ cls := "java/util/HashMap$TreeNode", name := "treeify", desc := "([Ljava/util/HashMap$Node;)V" } : Jvm.MethodName)) ∈ lw_all := lw_g (lw_at lw_m7 35 rfl) rfl
theorem q1591 : (Jvm.Cond.code ({ cls := "java/util/HashMap$TreeNode", name := "treeify", desc := "([Ljava/util/HashMap$Node;)V" } : Jvm.MethodName) prog_54_method_7_code (13 : Nat) (Option.none : Option Jvm.ClassFile.FieldType)) ∈ lw_all := lw_g (lw_at lw_m7 36 rfl) rfl
theorem q1592 : (Jvm.Cond.methodLink "java/util/HashMap$TreeNode" (100 : Nat) ({ cls := "java/util/HashMap$TreeNode", name := "balanceInsertion", desc := "(Ljava/util/HashMap$TreeNode;Ljava/util/HashMap$TreeNode;)Ljava/util/HashMap$TreeNode;" } : Jvm.MethodName)) ∈ lw_all := lw_g (lw_at lw_m7 37 rfl) rfl
theorem q1593 : (Jvm.Cond.static ({ cls := "java/util/HashMap$TreeNode", name := "balanceInsertion", desc := "(Ljava/util/HashMap$TreeNode;Ljava/util/HashMap$TreeNode;)Ljava/util/HashMap$TreeNode;" } : Jvm.MethodName)) ∈ lw_all := lw_g (lw_at lw_m7 38 rfl) rfl
theorem q1594 : (Jvm.Cond.code ({ cls := "java/util/HashMap$TreeNode", name := "balanceInsertion", desc := "(Ljava/util/HashMap$TreeNode;Ljava/util/HashMap$TreeNode;)Ljava/util/HashMap$TreeNode;" } : Jvm.MethodName) prog_54_method_14_code (6 : Nat) (Option.some (Jvm.ClassFile.FieldType.object "java/util/HashMap$TreeNode"))) ∈ lw_all := lw_g (lw_at lw_m7 39 rfl) rfl
theorem q1595 : (Jvm.Cond.methodLink "java/util/HashMap$TreeNode" (130 : Nat) ({ cls := "java/util/HashMap$TreeNode", name := "rotateLeft", desc := "(Ljava/util/HashMap$TreeNode;Ljava/util/HashMap$TreeNode;)Ljava/util/HashMap$TreeNode;" } : Jvm.MethodName)) ∈ lw_all := lw_g (lw_at lw_m7 40 rfl) rfl
theorem q1596 : (Jvm.Cond.static ({ cls := "java/util/HashMap$TreeNode", name := "rotateLeft", desc := "(Ljava/util/HashMap$TreeNode;Ljava/util/HashMap$TreeNode;)Ljava/util/HashMap$TreeNode;" } : Jvm.MethodName)) ∈ lw_all := lw_g (lw_at lw_m7 41 rfl) rfl
theorem q1597 : (Jvm.Cond.code ({ cls := "java/util/HashMap$TreeNode", name := "rotateLeft", desc := "(Ljava/util/HashMap$TreeNode;Ljava/util/HashMap$TreeNode;)Ljava/util/HashMap$TreeNode;" } : Jvm.MethodName) prog_54_method_12_code (5 : Nat) (Option.some (Jvm.ClassFile.FieldType.object "java/util/HashMap$TreeNode"))) ∈ lw_all := lw_g (lw_at lw_m7 42 rfl) rfl
theorem q1598 : (Jvm.Cond.methodLink "java/util/HashMap$TreeNode" (133 : Nat) ({ cls := "java/util/HashMap$TreeNode", name := "rotateRight", desc := "(Ljava/util/HashMap$TreeNode;Ljava/util/HashMap$TreeNode;)Ljava/util/HashMap$TreeNode;" } : Jvm.MethodName)) ∈ lw_all := lw_g (lw_at lw_m7 43 rfl) rfl
theorem q1599 : (Jvm.Cond.static ({ cls := "java/util/HashMap$TreeNode", name := "rotateRight", desc := "(Ljava/util/HashMap$TreeNode;Ljava/util/HashMap$TreeNode;)Ljava/util/HashMap$TreeNode;" } : Jvm.MethodName)) ∈ lw_all := lw_g (lw_at lw_m7 44 rfl) rfl
theorem q1600 : (Jvm.Cond.code ({ cls := "java/util/HashMap$TreeNode", name := "rotateRight", desc := "(Ljava/util/HashMap$TreeNode;Ljava/util/HashMap$TreeNode;)Ljava/util/HashMap$TreeNode;" } : Jvm.MethodName) prog_54_method_13_code (5 : Nat) (Option.some (Jvm.ClassFile.FieldType.object "java/util/HashMap$TreeNode"))) ∈ lw_all := lw_g (lw_at lw_m7 45 rfl) rfl
theorem q1601 : (Jvm.Cond.methodLink "java/util/HashMap$TreeNode" (104 : Nat) ({ cls := "java/util/HashMap$TreeNode", name := "moveRootToFront", desc := "([Ljava/util/HashMap$Node;Ljava/util/HashMap$TreeNode;)V" } : Jvm.MethodName)) ∈ lw_all := lw_g (lw_at lw_m7 46 rfl) rfl
theorem q1602 : (Jvm.Cond.static ({ cls := "java/util/HashMap$TreeNode", name := "moveRootToFront", desc := "([Ljava/util/HashMap$Node;Ljava/util/HashMap$TreeNode;)V" } : Jvm.MethodName)) ∈ lw_all := lw_g (lw_at lw_m7 47 rfl) rfl
theorem q1603 : (Jvm.Cond.code ({ cls := "java/util/HashMap$TreeNode", name := "moveRootToFront", desc := "([Ljava/util/HashMap$Node;Ljava/util/HashMap$TreeNode;)V" } : Jvm.MethodName) prog_54_method_3_code (7 : Nat) (Option.none : Option Jvm.ClassFile.FieldType)) ∈ lw_all := lw_g (lw_at lw_m7 48 rfl) rfl
theorem q1604 : (Jvm.Cond.fieldLink "java/util/HashMap$TreeNode" (26 : Nat) "java/util/HashMap$TreeNode" "$assertionsDisabled" "Z") ∈ lw_all := lw_g (lw_at lw_m7 49 rfl) rfl
theorem q1605 : (Jvm.Cond.laysStatic "java/util/HashMap$TreeNode" "$assertionsDisabled" "Z") ∈ lw_tbl := lw_at lw_m7 50 rfl
theorem q1611 : (Jvm.Cond.instanceMethod ({ cls := "java/util/HashMap$TreeNode", name := "putTreeVal", desc := "(Ljava/util/HashMap;[Ljava/util/HashMap$Node;ILjava/lang/Object;Ljava/lang/Object;)Ljava/util/HashMap$TreeNode;" } : Jvm.MethodName)) ∈ lw_all := lw_g (lw_at lw_m7 56 rfl) rfl
theorem q1612 : (Jvm.Cond.selects "java/util/HashMap$TreeNode" ({ cls := "java/util/HashMap$TreeNode", name := "putTreeVal", desc := "(Ljava/util/HashMap;[Ljava/util/HashMap$Node;ILjava/lang/Object;Ljava/lang/Object;)Ljava/util/HashMap$TreeNode;" } : Jvm.MethodName) ({ cls := "java/util/HashMap$TreeNode", name := "putTreeVal", desc := "(Ljava/util/HashMap;[Ljava/util/HashMap$Node;ILjava/lang/Object;Ljava/lang/Object;)Ljava/util/HashMap$TreeNode;" } : Jvm.MethodName)) ∈ lw_all := lw_g (lw_at lw_m7 57 rfl) rfl
theorem q1613 : (Jvm.Cond.code ({ cls := "java/util/HashMap$TreeNode", name := "putTreeVal", desc := "(Ljava/util/HashMap;[Ljava/util/HashMap$Node;ILjava/lang/Object;Ljava/lang/Object;)Ljava/util/HashMap$TreeNode;" } : Jvm.MethodName) prog_54_method_9_code (16 : Nat) (Option.some (Jvm.ClassFile.FieldType.object "java/util/HashMap$TreeNode"))) ∈ lw_all := lw_g (lw_at lw_m7 58 rfl) rfl
theorem q1614 : (Jvm.Cond.methodLink "java/util/HashMap$TreeNode" (115 : Nat) ({ cls := "java/util/HashMap", name := "newTreeNode", desc := "(ILjava/lang/Object;Ljava/lang/Object;Ljava/util/HashMap$Node;)Ljava/util/HashMap$TreeNode;" } : Jvm.MethodName)) ∈ lw_all := lw_g (lw_at lw_m7 59 rfl) rfl
theorem q1618 : (Jvm.Cond.instantiable "java/util/HashMap$TreeNode" (11 : Nat)) ∈ lw_all := lw_g (lw_at lw_m7 63 rfl) rfl
theorem q1620 : (Jvm.Cond.instanceMethod ({ cls := "java/util/HashMap$TreeNode", name := "<init>", desc := "(ILjava/lang/Object;Ljava/lang/Object;Ljava/util/HashMap$Node;)V" } : Jvm.MethodName)) ∈ lw_all := lw_g (lw_at lw_m7 65 rfl) rfl
theorem q1621 : (Jvm.Cond.code ({ cls := "java/util/HashMap$TreeNode", name := "<init>", desc := "(ILjava/lang/Object;Ljava/lang/Object;Ljava/util/HashMap$Node;)V" } : Jvm.MethodName) prog_54_method_1_code (5 : Nat) (Option.none : Option Jvm.ClassFile.FieldType)) ∈ lw_all := lw_g (lw_at lw_m7 66 rfl) rfl
theorem q1622 : (Jvm.Cond.methodLink "java/util/HashMap$TreeNode" (3 : Nat) ({ cls := "java/util/LinkedHashMap$Entry", name := "<init>", desc := "(ILjava/lang/Object;Ljava/lang/Object;Ljava/util/HashMap$Node;)V" } : Jvm.MethodName)) ∈ lw_all := lw_g (lw_at lw_m7 67 rfl) rfl
theorem q1626 : (Jvm.Cond.fieldLink "java/util/HashMap$TreeNode" (9 : Nat) "java/util/HashMap$TreeNode" "parent" "Ljava/util/HashMap$TreeNode;") ∈ lw_all := lw_g (lw_at lw_m7 71 rfl) rfl
theorem q1627 : (Jvm.Cond.fieldLink "java/util/HashMap$TreeNode" (39 : Nat) "java/util/HashMap$TreeNode" "left" "Ljava/util/HashMap$TreeNode;") ∈ lw_all := lw_g (lw_at lw_m7 72 rfl) rfl
theorem q1628 : (Jvm.Cond.fieldLink "java/util/HashMap$TreeNode" (42 : Nat) "java/util/HashMap$TreeNode" "right" "Ljava/util/HashMap$TreeNode;") ∈ lw_all := lw_g (lw_at lw_m7 73 rfl) rfl
theorem q1629 : (Jvm.Cond.fieldLink "java/util/HashMap$TreeNode" (19 : Nat) "java/util/HashMap$TreeNode" "prev" "Ljava/util/HashMap$TreeNode;") ∈ lw_all := lw_g (lw_at lw_m7 74 rfl) rfl
theorem q1631 : (Jvm.Cond.fieldLink "java/util/HashMap$TreeNode" (93 : Nat) "java/util/HashMap$TreeNode" "red" "Z") ∈ lw_all := lw_g (lw_at lw_m7 76 rfl) rfl
theorem q1632 : (Jvm.Cond.lays "java/util/HashMap$TreeNode" "java/util/HashMap$TreeNode" "parent" "Ljava/util/HashMap$TreeNode;") ∈ lw_all := lw_g (lw_at lw_m7 77 rfl) rfl
theorem q1633 : (Jvm.Cond.soleField "java/util/HashMap$TreeNode" "parent") ∈ lw_all := lw_g (lw_at lw_m7 78 rfl) rfl
theorem q1634 : (Jvm.Cond.lays "java/util/HashMap$TreeNode" "java/util/HashMap$TreeNode" "left" "Ljava/util/HashMap$TreeNode;") ∈ lw_all := lw_g (lw_at lw_m7 79 rfl) rfl
theorem q1635 : (Jvm.Cond.soleField "java/util/HashMap$TreeNode" "left") ∈ lw_all := lw_g (lw_at lw_m7 80 rfl) rfl
theorem q1636 : (Jvm.Cond.lays "java/util/HashMap$TreeNode" "java/util/HashMap$TreeNode" "right" "Ljava/util/HashMap$TreeNode;") ∈ lw_all := lw_g (lw_at lw_m7 81 rfl) rfl
theorem q1637 : (Jvm.Cond.soleField "java/util/HashMap$TreeNode" "right") ∈ lw_all := lw_g (lw_at lw_m7 82 rfl) rfl
theorem q1638 : (Jvm.Cond.lays "java/util/HashMap$TreeNode" "java/util/HashMap$TreeNode" "prev" "Ljava/util/HashMap$TreeNode;") ∈ lw_all := lw_g (lw_at lw_m7 83 rfl) rfl
theorem q1639 : (Jvm.Cond.soleField "java/util/HashMap$TreeNode" "prev") ∈ lw_all := lw_g (lw_at lw_m7 84 rfl) rfl
theorem q1640 : (Jvm.Cond.lays "java/util/HashMap$TreeNode" "java/util/HashMap$TreeNode" "red" "Z") ∈ lw_all := lw_g (lw_at lw_m7 85 rfl) rfl
theorem q1641 : (Jvm.Cond.soleField "java/util/HashMap$TreeNode" "red") ∈ lw_all := lw_g (lw_at lw_m7 86 rfl) rfl
theorem q1642 : (Jvm.Cond.lays "java/util/HashMap$TreeNode" "java/util/LinkedHashMap$Entry" "before" "Ljava/util/LinkedHashMap$Entry;") ∈ lw_all := lw_g (lw_at lw_m7 87 rfl) rfl
theorem q1644 : (Jvm.Cond.lays "java/util/HashMap$TreeNode" "java/util/LinkedHashMap$Entry" "after" "Ljava/util/LinkedHashMap$Entry;") ∈ lw_all := lw_g (lw_at lw_m7 89 rfl) rfl
theorem q1646 : (Jvm.Cond.laysFinal "java/util/HashMap$TreeNode" "java/util/HashMap$Node" "hash" "I") ∈ lw_all := lw_g (lw_at lw_m7 91 rfl) rfl
theorem q1647 : (Jvm.Cond.laysFinal "java/util/HashMap$TreeNode" "java/util/HashMap$Node" "key" "Ljava/lang/Object;") ∈ lw_all := lw_g (lw_at lw_m7 92 rfl) rfl
theorem q1648 : (Jvm.Cond.lays "java/util/HashMap$TreeNode" "java/util/HashMap$Node" "value" "Ljava/lang/Object;") ∈ lw_all := lw_g (lw_at lw_m7 93 rfl) rfl
theorem q1649 : (Jvm.Cond.lays "java/util/HashMap$TreeNode" "java/util/HashMap$Node" "next" "Ljava/util/HashMap$Node;") ∈ lw_all := lw_g (lw_at lw_m7 94 rfl) rfl
theorem q1650 : (Jvm.Cond.superclass "java/util/HashMap$TreeNode" "java/util/LinkedHashMap$Entry") ∈ lw_all := lw_g (lw_at lw_m7 95 rfl) rfl
theorem q2806 : (Jvm.Cond.castable "java/util/HashMap$TreeNode" "java/lang/Object") ∈ lw_tbl := lw_at lw_m12 51 rfl
theorem q2815 : (Jvm.Cond.castable "java/util/HashMap$TreeNode" "java/util/HashMap$Node") ∈ lw_tbl := lw_at lw_m12 60 rfl
theorem in_J29 : ∀ w ∈ wsJ290, w ∈ lw_all := lw_in wsJ290 [1642, 1644, 1646, 1647, 1648, 1649, 1632, 1634, 1636, 1638, 1640] (by decide +kernel) (by decide +kernel)
/-! java/util/TreeMap$Entry -/
set_option maxRecDepth 100000
def RJ30 : String := "java/util/TreeMap$Entry"
def TJ30 : u_T := fun k => match k with
  | 0 => ("java/util/TreeMap$Entry", "key", "Ljava/lang/Object;", false)
  | 1 => ("java/util/TreeMap$Entry", "value", "Ljava/lang/Object;", false)
  | 2 => ("java/util/TreeMap$Entry", "left", "Ljava/util/TreeMap$Entry;", false)
  | 3 => ("java/util/TreeMap$Entry", "right", "Ljava/util/TreeMap$Entry;", false)
  | 4 => ("java/util/TreeMap$Entry", "parent", "Ljava/util/TreeMap$Entry;", false)
  | _ => ("java/util/TreeMap$Entry", "color", "Z", false)
def tyJ30 : Nat → FieldType := fun k => match k with
  | 0 => .object "java/lang/Object"
  | 1 => .object "java/lang/Object"
  | 2 => .object "java/util/TreeMap$Entry"
  | 3 => .object "java/util/TreeMap$Entry"
  | 4 => .object "java/util/TreeMap$Entry"
  | _ => .boolean
abbrev wsJ300 : List Cond := u_ws RJ30 TJ30 6
theorem nmJ30 : ∀ a, a < 6 → ∀ b, b < 6 → a ≠ b → (TJ30 a).2.1 ≠ (TJ30 b).2.1 := by decide +kernel
theorem tyJ30_ok : ∀ k, k < 6 → parseFieldDescriptor (TJ30 k).2.2.1 = some (tyJ30 k) := by decide +kernel
abbrev cJ30_init : ByteArray := prog_66_method_1_code
def yJ30_init : MethodName := ⟨RJ30, "<init>", "(Ljava/lang/Object;Ljava/lang/Object;Ljava/util/TreeMap$Entry;)V"⟩
def dkwJ30_init_1 : List UInt8 := [177]
abbrev dktJ30_init_1 : List UInt8 := dkwJ30_init_1 ++ []
def dkwJ30_init_0 : List UInt8 := [42, 183, 0, 3, 42, 4, 181, 0, 9, 42, 43, 181, 0, 15, 42, 44, 181, 0, 19, 42, 45, 181, 0, 22]
abbrev dktJ30_init_0 : List UInt8 := dkwJ30_init_0 ++ dktJ30_init_1
theorem dksJ30_init_0 : cJ30_init.data.toList.drop 0 = dktJ30_init_0 := by decide +kernel
theorem dksJ30_init_1 : cJ30_init.data.toList.drop 24 = dktJ30_init_1 := dk_seg dksJ30_init_0 24 rfl rfl
theorem dJ30_init_0 : decode cJ30_init 0 = .ok (.aload_n 0, 1) := dk_42 (dk_at dksJ30_init_0 0 rfl rfl)
theorem dJ30_init_1 : decode cJ30_init 1 = .ok (.invokespecial 3, 3) := dk_183 0 3 (dk_at dksJ30_init_0 1 rfl rfl)
theorem dJ30_init_4 : decode cJ30_init 4 = .ok (.aload_n 0, 1) := dk_42 (dk_at dksJ30_init_0 4 rfl rfl)
theorem dJ30_init_5 : decode cJ30_init 5 = .ok (.iconst 1, 1) := dk_4 (dk_at dksJ30_init_0 5 rfl rfl)
theorem dJ30_init_6 : decode cJ30_init 6 = .ok (.putfield 9, 3) := dk_181 0 9 (dk_at dksJ30_init_0 6 rfl rfl)
theorem dJ30_init_9 : decode cJ30_init 9 = .ok (.aload_n 0, 1) := dk_42 (dk_at dksJ30_init_0 9 rfl rfl)
theorem dJ30_init_10 : decode cJ30_init 10 = .ok (.aload_n 1, 1) := dk_43 (dk_at dksJ30_init_0 10 rfl rfl)
theorem dJ30_init_11 : decode cJ30_init 11 = .ok (.putfield 15, 3) := dk_181 0 15 (dk_at dksJ30_init_0 11 rfl rfl)
theorem dJ30_init_14 : decode cJ30_init 14 = .ok (.aload_n 0, 1) := dk_42 (dk_at dksJ30_init_0 14 rfl rfl)
theorem dJ30_init_15 : decode cJ30_init 15 = .ok (.aload_n 2, 1) := dk_44 (dk_at dksJ30_init_0 15 rfl rfl)
theorem dJ30_init_16 : decode cJ30_init 16 = .ok (.putfield 19, 3) := dk_181 0 19 (dk_at dksJ30_init_0 16 rfl rfl)
theorem dJ30_init_19 : decode cJ30_init 19 = .ok (.aload_n 0, 1) := dk_42 (dk_at dksJ30_init_0 19 rfl rfl)
theorem dJ30_init_20 : decode cJ30_init 20 = .ok (.aload_n 3, 1) := dk_45 (dk_at dksJ30_init_0 20 rfl rfl)
theorem dJ30_init_21 : decode cJ30_init 21 = .ok (.putfield 22, 3) := dk_181 0 22 (dk_at dksJ30_init_0 21 rfl rfl)
theorem dJ30_init_24 : decode cJ30_init 24 = .ok (.return_, 1) := dk_177 (dk_at dksJ30_init_1 0 rfl rfl)
theorem q157 : (Jvm.Cond.initialized "java/util/TreeMap$Entry") ∈ lw_all := lw_g (lw_at lw_m1 42 rfl) rfl
theorem q1022 : (Jvm.Cond.selects "java/util/TreeMap$Entry" ({ cls := "java/lang/Object", name := "getClass", desc := "()Ljava/lang/Class;" } : Jvm.MethodName) ({ cls := "java/lang/Object", name := "getClass", desc := "()Ljava/lang/Class;" } : Jvm.MethodName)) ∈ lw_all := lw_g (lw_at lw_m4 187 rfl) rfl
theorem q1686 : (Jvm.Cond.instantiable "java/util/TreeMap$Entry" (6 : Nat)) ∈ lw_all := lw_g (lw_at lw_m7 131 rfl) rfl
theorem q1688 : (Jvm.Cond.instanceMethod ({ cls := "java/util/TreeMap$Entry", name := "<init>", desc := "(Ljava/lang/Object;Ljava/lang/Object;Ljava/util/TreeMap$Entry;)V" } : Jvm.MethodName)) ∈ lw_all := lw_g (lw_at lw_m7 133 rfl) rfl
theorem q1689 : (Jvm.Cond.code ({ cls := "java/util/TreeMap$Entry", name := "<init>", desc := "(Ljava/lang/Object;Ljava/lang/Object;Ljava/util/TreeMap$Entry;)V" } : Jvm.MethodName) prog_66_method_1_code (4 : Nat) (Option.none : Option Jvm.ClassFile.FieldType)) ∈ lw_all := lw_g (lw_at lw_m7 134 rfl) rfl
theorem q1690 : (Jvm.Cond.methodLink "java/util/TreeMap$Entry" (3 : Nat) ({ cls := "java/lang/Object", name := "<init>", desc := "()V" } : Jvm.MethodName)) ∈ lw_all := lw_g (lw_at lw_m7 135 rfl) rfl
theorem q1691 : (Jvm.Cond.fieldLink "java/util/TreeMap$Entry" (15 : Nat) "java/util/TreeMap$Entry" "key" "Ljava/lang/Object;") ∈ lw_all := lw_g (lw_at lw_m7 136 rfl) rfl
theorem q1693 : (Jvm.Cond.fieldLink "java/util/TreeMap$Entry" (19 : Nat) "java/util/TreeMap$Entry" "value" "Ljava/lang/Object;") ∈ lw_all := lw_g (lw_at lw_m7 138 rfl) rfl
theorem q1697 : (Jvm.Cond.fieldLink "java/util/TreeMap$Entry" (22 : Nat) "java/util/TreeMap$Entry" "parent" "Ljava/util/TreeMap$Entry;") ∈ lw_all := lw_g (lw_at lw_m7 142 rfl) rfl
theorem q1699 : (Jvm.Cond.fieldLink "java/util/TreeMap$Entry" (9 : Nat) "java/util/TreeMap$Entry" "color" "Z") ∈ lw_all := lw_g (lw_at lw_m7 144 rfl) rfl
theorem q1701 : (Jvm.Cond.lays "java/util/TreeMap$Entry" "java/util/TreeMap$Entry" "key" "Ljava/lang/Object;") ∈ lw_all := lw_g (lw_at lw_m7 146 rfl) rfl
theorem q1702 : (Jvm.Cond.soleField "java/util/TreeMap$Entry" "key") ∈ lw_all := lw_g (lw_at lw_m7 147 rfl) rfl
theorem q1703 : (Jvm.Cond.lays "java/util/TreeMap$Entry" "java/util/TreeMap$Entry" "value" "Ljava/lang/Object;") ∈ lw_all := lw_g (lw_at lw_m7 148 rfl) rfl
theorem q1704 : (Jvm.Cond.soleField "java/util/TreeMap$Entry" "value") ∈ lw_all := lw_g (lw_at lw_m7 149 rfl) rfl
theorem q1705 : (Jvm.Cond.lays "java/util/TreeMap$Entry" "java/util/TreeMap$Entry" "left" "Ljava/util/TreeMap$Entry;") ∈ lw_all := lw_g (lw_at lw_m7 150 rfl) rfl
theorem q1706 : (Jvm.Cond.soleField "java/util/TreeMap$Entry" "left") ∈ lw_all := lw_g (lw_at lw_m7 151 rfl) rfl
theorem q1707 : (Jvm.Cond.lays "java/util/TreeMap$Entry" "java/util/TreeMap$Entry" "right" "Ljava/util/TreeMap$Entry;") ∈ lw_all := lw_g (lw_at lw_m7 152 rfl) rfl
theorem q1708 : (Jvm.Cond.soleField "java/util/TreeMap$Entry" "right") ∈ lw_all := lw_g (lw_at lw_m7 153 rfl) rfl
theorem q1709 : (Jvm.Cond.lays "java/util/TreeMap$Entry" "java/util/TreeMap$Entry" "parent" "Ljava/util/TreeMap$Entry;") ∈ lw_all := lw_g (lw_at lw_m7 154 rfl) rfl
theorem q1710 : (Jvm.Cond.soleField "java/util/TreeMap$Entry" "parent") ∈ lw_all := lw_g (lw_at lw_m7 155 rfl) rfl
theorem q1711 : (Jvm.Cond.lays "java/util/TreeMap$Entry" "java/util/TreeMap$Entry" "color" "Z") ∈ lw_all := lw_g (lw_at lw_m7 156 rfl) rfl
theorem q1712 : (Jvm.Cond.soleField "java/util/TreeMap$Entry" "color") ∈ lw_all := lw_g (lw_at lw_m7 157 rfl) rfl
theorem q1713 : (Jvm.Cond.superclass "java/util/TreeMap$Entry" "java/lang/Object") ∈ lw_all := lw_g (lw_at lw_m7 158 rfl) rfl
theorem q2807 : (Jvm.Cond.castable "java/util/TreeMap$Entry" "java/lang/Object") ∈ lw_tbl := lw_at lw_m12 52 rfl
theorem in_J30 : ∀ w ∈ wsJ300, w ∈ lw_all := lw_in wsJ300 [1701, 1703, 1705, 1707, 1709, 1711] (by decide +kernel) (by decide +kernel)
/-! java/lang/IndexOutOfBoundsException -/
set_option maxRecDepth 100000
def RJ31 : String := "java/lang/IndexOutOfBoundsException"
def TJ31 : u_T := fun k => match k with
  | 0 => ("java/lang/Throwable", "cause", "Ljava/lang/Throwable;", false)
  | 1 => ("java/lang/Throwable", "stackTrace", "[Ljava/lang/StackTraceElement;", false)
  | 2 => ("java/lang/Throwable", "suppressedExceptions", "Ljava/util/List;", false)
  | 3 => ("java/lang/Throwable", "detailMessage", "Ljava/lang/String;", false)
  | 4 => ("java/lang/Throwable", "backtrace", "Ljava/lang/Object;", false)
  | _ => ("java/lang/Throwable", "depth", "I", false)
def tyJ31 : Nat → FieldType := fun k => match k with
  | 0 => .object "java/lang/Throwable"
  | 1 => .array (.object "java/lang/StackTraceElement")
  | 2 => .object "java/util/List"
  | 3 => .object "java/lang/String"
  | 4 => .object "java/lang/Object"
  | _ => .int
abbrev wsJ310 : List Cond := u_ws RJ31 TJ31 6
theorem nmJ31 : ∀ a, a < 6 → ∀ b, b < 6 → a ≠ b → (TJ31 a).2.1 ≠ (TJ31 b).2.1 := by decide +kernel
theorem tyJ31_ok : ∀ k, k < 6 → parseFieldDescriptor (TJ31 k).2.2.1 = some (tyJ31 k) := by decide +kernel
abbrev cJ31_init : ByteArray := prog_26_method_2_code
def yJ31_init : MethodName := ⟨RJ31, "<init>", "(Ljava/lang/String;)V"⟩
def dkwJ31_init_0 : List UInt8 := [42, 43, 183, 0, 7, 177]
abbrev dktJ31_init_0 : List UInt8 := dkwJ31_init_0 ++ []
theorem dksJ31_init_0 : cJ31_init.data.toList.drop 0 = dktJ31_init_0 := by decide +kernel
theorem dJ31_init_0 : decode cJ31_init 0 = .ok (.aload_n 0, 1) := dk_42 (dk_at dksJ31_init_0 0 rfl rfl)
theorem dJ31_init_1 : decode cJ31_init 1 = .ok (.aload_n 1, 1) := dk_43 (dk_at dksJ31_init_0 1 rfl rfl)
theorem dJ31_init_2 : decode cJ31_init 2 = .ok (.invokespecial 7, 3) := dk_183 0 7 (dk_at dksJ31_init_0 2 rfl rfl)
theorem dJ31_init_5 : decode cJ31_init 5 = .ok (.return_, 1) := dk_177 (dk_at dksJ31_init_0 5 rfl rfl)
theorem q160 : (Jvm.Cond.initialized "java/lang/IndexOutOfBoundsException") ∈ lw_all := lw_g (lw_at lw_m1 45 rfl) rfl
theorem q445 : (Jvm.Cond.selects "java/lang/IndexOutOfBoundsException" ({ cls := "java/lang/Throwable", name := "fillInStackTrace", desc := "()Ljava/lang/Throwable;" } : Jvm.MethodName) ({ cls := "java/lang/Throwable", name := "fillInStackTrace", desc := "()Ljava/lang/Throwable;" } : Jvm.MethodName)) ∈ lw_all := lw_g (lw_at lw_m2 90 rfl) rfl
theorem q1012 : (Jvm.Cond.selects "java/lang/IndexOutOfBoundsException" ({ cls := "java/lang/Object", name := "getClass", desc := "()Ljava/lang/Class;" } : Jvm.MethodName) ({ cls := "java/lang/Object", name := "getClass", desc := "()Ljava/lang/Class;" } : Jvm.MethodName)) ∈ lw_all := lw_g (lw_at lw_m4 177 rfl) rfl
theorem q1150 : (Jvm.Cond.selects "java/lang/IndexOutOfBoundsException" ({ cls := "java/lang/Object", name := "hashCode", desc := "()I" } : Jvm.MethodName) ({ cls := "java/lang/Object", name := "hashCode", desc := "()I" } : Jvm.MethodName)) ∈ lw_all := lw_g (lw_at lw_m5 75 rfl) rfl
theorem q1241 : (Jvm.Cond.selects "java/lang/IndexOutOfBoundsException" ({ cls := "java/lang/Object", name := "equals", desc := "(Ljava/lang/Object;)Z" } : Jvm.MethodName) ({ cls := "java/lang/Object", name := "equals", desc := "(Ljava/lang/Object;)Z" } : Jvm.MethodName)) ∈ lw_all := lw_g (lw_at lw_m5 166 rfl) rfl
theorem q1964 : (Jvm.Cond.instanceMethod ({ cls := "java/lang/IndexOutOfBoundsException", name := "<init>", desc := "(Ljava/lang/String;)V" } : Jvm.MethodName)) ∈ lw_all := lw_g (lw_at lw_m8 169 rfl) rfl
theorem q1965 : (Jvm.Cond.code ({ cls := "java/lang/IndexOutOfBoundsException", name := "<init>", desc := "(Ljava/lang/String;)V" } : Jvm.MethodName) prog_26_method_2_code (2 : Nat) (Option.none : Option Jvm.ClassFile.FieldType)) ∈ lw_all := lw_g (lw_at lw_m8 170 rfl) rfl
theorem q1966 : (Jvm.Cond.methodLink "java/lang/IndexOutOfBoundsException" (7 : Nat) ({ cls := "java/lang/RuntimeException", name := "<init>", desc := "(Ljava/lang/String;)V" } : Jvm.MethodName)) ∈ lw_all := lw_g (lw_at lw_m8 171 rfl) rfl
theorem q1975 : (Jvm.Cond.declares ({ cls := "java/lang/IndexOutOfBoundsException", name := "<init>", desc := "()V" } : Jvm.MethodName)) ∈ lw_tbl := lw_at lw_m8 180 rfl
theorem q1976 : (Jvm.Cond.declares ({ cls := "java/lang/IndexOutOfBoundsException", name := "<init>", desc := "(Ljava/lang/String;)V" } : Jvm.MethodName)) ∈ lw_tbl := lw_at lw_m8 181 rfl
theorem q1986 : (Jvm.Cond.instantiable "java/lang/IndexOutOfBoundsException" (6 : Nat)) ∈ lw_all := lw_g (lw_at lw_m8 191 rfl) rfl
theorem q1987 : (Jvm.Cond.castable "java/lang/IndexOutOfBoundsException" "java/lang/IndexOutOfBoundsException") ∈ lw_tbl := lw_at lw_m8 192 rfl
theorem q1988 : (Jvm.Cond.selects "java/lang/IndexOutOfBoundsException" ({ cls := "java/lang/Throwable", name := "fillInStackTrace", desc := "(I)Ljava/lang/Throwable;" } : Jvm.MethodName) ({ cls := "java/lang/Throwable", name := "fillInStackTrace", desc := "(I)Ljava/lang/Throwable;" } : Jvm.MethodName)) ∈ lw_all := lw_g (lw_at lw_m8 193 rfl) rfl
theorem q1989 : (Jvm.Cond.lays "java/lang/IndexOutOfBoundsException" "java/lang/Throwable" "cause" "Ljava/lang/Throwable;") ∈ lw_all := lw_g (lw_at lw_m8 194 rfl) rfl
theorem q1990 : (Jvm.Cond.lays "java/lang/IndexOutOfBoundsException" "java/lang/Throwable" "stackTrace" "[Ljava/lang/StackTraceElement;") ∈ lw_all := lw_g (lw_at lw_m8 195 rfl) rfl
theorem q1991 : (Jvm.Cond.lays "java/lang/IndexOutOfBoundsException" "java/lang/Throwable" "suppressedExceptions" "Ljava/util/List;") ∈ lw_all := lw_g (lw_at lw_m8 196 rfl) rfl
theorem q1992 : (Jvm.Cond.lays "java/lang/IndexOutOfBoundsException" "java/lang/Throwable" "detailMessage" "Ljava/lang/String;") ∈ lw_all := lw_g (lw_at lw_m8 197 rfl) rfl
theorem q1993 : (Jvm.Cond.lays "java/lang/IndexOutOfBoundsException" "java/lang/Throwable" "backtrace" "Ljava/lang/Object;") ∈ lw_all := lw_g (lw_at lw_m8 198 rfl) rfl
theorem q1996 : (Jvm.Cond.lays "java/lang/IndexOutOfBoundsException" "java/lang/Throwable" "depth" "I") ∈ lw_all := lw_g (lw_at lw_m8 201 rfl) rfl
theorem q1997 : (Jvm.Cond.superclass "java/lang/IndexOutOfBoundsException" "java/lang/RuntimeException") ∈ lw_all := lw_g (lw_at lw_m8 202 rfl) rfl
theorem q2811 : (Jvm.Cond.castable "java/lang/IndexOutOfBoundsException" "java/lang/Object") ∈ lw_tbl := lw_at lw_m12 56 rfl
theorem in_J31 : ∀ w ∈ wsJ310, w ∈ lw_all := lw_in wsJ310 [1989, 1990, 1991, 1992, 1993, 1996] (by decide +kernel) (by decide +kernel)
/-! java/lang/ArrayIndexOutOfBoundsException -/
set_option maxRecDepth 100000
def RJ32 : String := "java/lang/ArrayIndexOutOfBoundsException"
def TJ32 : u_T := fun k => match k with
  | 0 => ("java/lang/Throwable", "backtrace", "Ljava/lang/Object;", false)
  | 1 => ("java/lang/Throwable", "detailMessage", "Ljava/lang/String;", false)
  | 2 => ("java/lang/Throwable", "cause", "Ljava/lang/Throwable;", false)
  | 3 => ("java/lang/Throwable", "stackTrace", "[Ljava/lang/StackTraceElement;", false)
  | 4 => ("java/lang/Throwable", "depth", "I", false)
  | _ => ("java/lang/Throwable", "suppressedExceptions", "Ljava/util/List;", false)
def tyJ32 : Nat → FieldType := fun k => match k with
  | 0 => .object "java/lang/Object"
  | 1 => .object "java/lang/String"
  | 2 => .object "java/lang/Throwable"
  | 3 => .array (.object "java/lang/StackTraceElement")
  | 4 => .int
  | _ => .object "java/util/List"
abbrev wsJ320 : List Cond := u_ws RJ32 TJ32 6
theorem nmJ32 : ∀ a, a < 6 → ∀ b, b < 6 → a ≠ b → (TJ32 a).2.1 ≠ (TJ32 b).2.1 := by decide +kernel
theorem tyJ32_ok : ∀ k, k < 6 → parseFieldDescriptor (TJ32 k).2.2.1 = some (tyJ32 k) := by decide +kernel
abbrev cJ32_init : ByteArray := prog_16_method_2_code
def yJ32_init : MethodName := ⟨RJ32, "<init>", "(Ljava/lang/String;)V"⟩
def dkwJ32_init_0 : List UInt8 := [42, 43, 183, 0, 7, 177]
abbrev dktJ32_init_0 : List UInt8 := dkwJ32_init_0 ++ []
theorem dksJ32_init_0 : cJ32_init.data.toList.drop 0 = dktJ32_init_0 := by decide +kernel
theorem dJ32_init_0 : decode cJ32_init 0 = .ok (.aload_n 0, 1) := dk_42 (dk_at dksJ32_init_0 0 rfl rfl)
theorem dJ32_init_1 : decode cJ32_init 1 = .ok (.aload_n 1, 1) := dk_43 (dk_at dksJ32_init_0 1 rfl rfl)
theorem dJ32_init_2 : decode cJ32_init 2 = .ok (.invokespecial 7, 3) := dk_183 0 7 (dk_at dksJ32_init_0 2 rfl rfl)
theorem dJ32_init_5 : decode cJ32_init 5 = .ok (.return_, 1) := dk_177 (dk_at dksJ32_init_0 5 rfl rfl)
theorem q161 : (Jvm.Cond.initialized "java/lang/ArrayIndexOutOfBoundsException") ∈ lw_all := lw_g (lw_at lw_m1 46 rfl) rfl
theorem q443 : (Jvm.Cond.selects "java/lang/ArrayIndexOutOfBoundsException" ({ cls := "java/lang/Throwable", name := "fillInStackTrace", desc := "()Ljava/lang/Throwable;" } : Jvm.MethodName) ({ cls := "java/lang/Throwable", name := "fillInStackTrace", desc := "()Ljava/lang/Throwable;" } : Jvm.MethodName)) ∈ lw_all := lw_g (lw_at lw_m2 88 rfl) rfl
theorem q1009 : (Jvm.Cond.selects "java/lang/ArrayIndexOutOfBoundsException" ({ cls := "java/lang/Object", name := "getClass", desc := "()Ljava/lang/Class;" } : Jvm.MethodName) ({ cls := "java/lang/Object", name := "getClass", desc := "()Ljava/lang/Class;" } : Jvm.MethodName)) ∈ lw_all := lw_g (lw_at lw_m4 174 rfl) rfl
theorem q1147 : (Jvm.Cond.selects "java/lang/ArrayIndexOutOfBoundsException" ({ cls := "java/lang/Object", name := "hashCode", desc := "()I" } : Jvm.MethodName) ({ cls := "java/lang/Object", name := "hashCode", desc := "()I" } : Jvm.MethodName)) ∈ lw_all := lw_g (lw_at lw_m5 72 rfl) rfl
theorem q1238 : (Jvm.Cond.selects "java/lang/ArrayIndexOutOfBoundsException" ({ cls := "java/lang/Object", name := "equals", desc := "(Ljava/lang/Object;)Z" } : Jvm.MethodName) ({ cls := "java/lang/Object", name := "equals", desc := "(Ljava/lang/Object;)Z" } : Jvm.MethodName)) ∈ lw_all := lw_g (lw_at lw_m5 163 rfl) rfl
theorem q1960 : (Jvm.Cond.instantiable "java/lang/ArrayIndexOutOfBoundsException" (6 : Nat)) ∈ lw_all := lw_g (lw_at lw_m8 165 rfl) rfl
theorem q1961 : (Jvm.Cond.instanceMethod ({ cls := "java/lang/ArrayIndexOutOfBoundsException", name := "<init>", desc := "(Ljava/lang/String;)V" } : Jvm.MethodName)) ∈ lw_all := lw_g (lw_at lw_m8 166 rfl) rfl
theorem q1962 : (Jvm.Cond.code ({ cls := "java/lang/ArrayIndexOutOfBoundsException", name := "<init>", desc := "(Ljava/lang/String;)V" } : Jvm.MethodName) prog_16_method_2_code (2 : Nat) (Option.none : Option Jvm.ClassFile.FieldType)) ∈ lw_all := lw_g (lw_at lw_m8 167 rfl) rfl
theorem q1963 : (Jvm.Cond.methodLink "java/lang/ArrayIndexOutOfBoundsException" (7 : Nat) ({ cls := "java/lang/IndexOutOfBoundsException", name := "<init>", desc := "(Ljava/lang/String;)V" } : Jvm.MethodName)) ∈ lw_all := lw_g (lw_at lw_m8 168 rfl) rfl
theorem q1967 : (Jvm.Cond.lays "java/lang/ArrayIndexOutOfBoundsException" "java/lang/Throwable" "backtrace" "Ljava/lang/Object;") ∈ lw_all := lw_g (lw_at lw_m8 172 rfl) rfl
theorem q1968 : (Jvm.Cond.lays "java/lang/ArrayIndexOutOfBoundsException" "java/lang/Throwable" "detailMessage" "Ljava/lang/String;") ∈ lw_all := lw_g (lw_at lw_m8 173 rfl) rfl
theorem q1969 : (Jvm.Cond.lays "java/lang/ArrayIndexOutOfBoundsException" "java/lang/Throwable" "cause" "Ljava/lang/Throwable;") ∈ lw_all := lw_g (lw_at lw_m8 174 rfl) rfl
theorem q1970 : (Jvm.Cond.lays "java/lang/ArrayIndexOutOfBoundsException" "java/lang/Throwable" "stackTrace" "[Ljava/lang/StackTraceElement;") ∈ lw_all := lw_g (lw_at lw_m8 175 rfl) rfl
theorem q1971 : (Jvm.Cond.lays "java/lang/ArrayIndexOutOfBoundsException" "java/lang/Throwable" "depth" "I") ∈ lw_all := lw_g (lw_at lw_m8 176 rfl) rfl
theorem q1972 : (Jvm.Cond.lays "java/lang/ArrayIndexOutOfBoundsException" "java/lang/Throwable" "suppressedExceptions" "Ljava/util/List;") ∈ lw_all := lw_g (lw_at lw_m8 177 rfl) rfl
theorem q1973 : (Jvm.Cond.superclass "java/lang/ArrayIndexOutOfBoundsException" "java/lang/IndexOutOfBoundsException") ∈ lw_all := lw_g (lw_at lw_m8 178 rfl) rfl
theorem q1974 : (Jvm.Cond.castable "java/lang/ArrayIndexOutOfBoundsException" "java/lang/ArrayIndexOutOfBoundsException") ∈ lw_tbl := lw_at lw_m8 179 rfl
theorem q1977 : (Jvm.Cond.selects "java/lang/ArrayIndexOutOfBoundsException" ({ cls := "java/lang/Throwable", name := "fillInStackTrace", desc := "(I)Ljava/lang/Throwable;" } : Jvm.MethodName) ({ cls := "java/lang/Throwable", name := "fillInStackTrace", desc := "(I)Ljava/lang/Throwable;" } : Jvm.MethodName)) ∈ lw_all := lw_g (lw_at lw_m8 182 rfl) rfl
theorem q2786 : (Jvm.Cond.castable "java/lang/ArrayIndexOutOfBoundsException" "java/lang/IndexOutOfBoundsException") ∈ lw_tbl := lw_at lw_m12 31 rfl
theorem q2810 : (Jvm.Cond.castable "java/lang/ArrayIndexOutOfBoundsException" "java/lang/Object") ∈ lw_tbl := lw_at lw_m12 55 rfl
theorem in_J32 : ∀ w ∈ wsJ320, w ∈ lw_all := lw_in wsJ320 [1967, 1968, 1969, 1970, 1971, 1972] (by decide +kernel) (by decide +kernel)
/-! java/lang/Record -/
set_option maxRecDepth 100000
def RJ33 : String := "java/lang/Record"
abbrev cJ33_init : ByteArray := prog_33_method_1_code
def yJ33_init : MethodName := ⟨RJ33, "<init>", "()V"⟩
theorem dJ33_init_0 : decode cJ33_init 0 = .ok (.aload_n 0, 1) := by decide +kernel
theorem dJ33_init_1 : decode cJ33_init 1 = .ok (.invokespecial 1, 3) := by decide +kernel
theorem dJ33_init_4 : decode cJ33_init 4 = .ok (.return_, 1) := by decide +kernel
theorem q162 : (Jvm.Cond.initialized "java/lang/Record") ∈ lw_all := lw_g (lw_at lw_m1 47 rfl) rfl
theorem q2060 : (Jvm.Cond.instanceMethod ({ cls := "java/lang/Record", name := "<init>", desc := "()V" } : Jvm.MethodName)) ∈ lw_all := lw_g (lw_at lw_m9 25 rfl) rfl
theorem q2061 : (Jvm.Cond.code ({ cls := "java/lang/Record", name := "<init>", desc := "()V" } : Jvm.MethodName) prog_33_method_1_code (1 : Nat) (Option.none : Option Jvm.ClassFile.FieldType)) ∈ lw_all := lw_g (lw_at lw_m9 26 rfl) rfl
theorem q2062 : (Jvm.Cond.methodLink "java/lang/Record" (1 : Nat) ({ cls := "java/lang/Object", name := "<init>", desc := "()V" } : Jvm.MethodName)) ∈ lw_all := lw_g (lw_at lw_m9 27 rfl) rfl
/-! java/lang/Object -/
set_option maxRecDepth 100000
def RJ34 : String := "java/lang/Object"
abbrev cJ34_init : ByteArray := object_method_1_code
def yJ34_init : MethodName := ⟨RJ34, "<init>", "()V"⟩
theorem dJ34_init_0 : decode cJ34_init 0 = .ok (.return_, 1) := by decide +kernel
abbrev cJ34_equals : ByteArray := object_method_4_code
def yJ34_equals : MethodName := ⟨RJ34, "equals", "(Ljava/lang/Object;)Z"⟩
def dkwJ34_equals_0 : List UInt8 := [42, 43, 166, 0, 7, 4, 167, 0, 4, 3, 172]
abbrev dktJ34_equals_0 : List UInt8 := dkwJ34_equals_0 ++ []
theorem dksJ34_equals_0 : cJ34_equals.data.toList.drop 0 = dktJ34_equals_0 := by decide +kernel
theorem dJ34_equals_0 : decode cJ34_equals 0 = .ok (.aload_n 0, 1) := dk_42 (dk_at dksJ34_equals_0 0 rfl rfl)
theorem dJ34_equals_1 : decode cJ34_equals 1 = .ok (.aload_n 1, 1) := dk_43 (dk_at dksJ34_equals_0 1 rfl rfl)
theorem dJ34_equals_2 : decode cJ34_equals 2 = .ok (.if_acmp .ne 7, 3) := dk_166 0 7 (dk_at dksJ34_equals_0 2 rfl rfl)
theorem dJ34_equals_5 : decode cJ34_equals 5 = .ok (.iconst 1, 1) := dk_4 (dk_at dksJ34_equals_0 5 rfl rfl)
theorem dJ34_equals_6 : decode cJ34_equals 6 = .ok (.goto 4, 3) := dk_167 0 4 (dk_at dksJ34_equals_0 6 rfl rfl)
theorem dJ34_equals_9 : decode cJ34_equals 9 = .ok (.iconst 0, 1) := dk_3 (dk_at dksJ34_equals_0 9 rfl rfl)
theorem dJ34_equals_10 : decode cJ34_equals 10 = .ok (.ireturn, 1) := dk_172 (dk_at dksJ34_equals_0 10 rfl rfl)
theorem q171 : (Jvm.Cond.instanceMethod ({ cls := "java/lang/Object", name := "<init>", desc := "()V" } : Jvm.MethodName)) ∈ lw_all := lw_g (lw_at lw_m1 56 rfl) rfl
theorem q172 : (Jvm.Cond.code ({ cls := "java/lang/Object", name := "<init>", desc := "()V" } : Jvm.MethodName) object_method_1_code (1 : Nat) (Option.none : Option Jvm.ClassFile.FieldType)) ∈ lw_all := lw_g (lw_at lw_m1 57 rfl) rfl
theorem q551 : (Jvm.Cond.native ({ cls := "java/lang/Object", name := "clone", desc := "()Ljava/lang/Object;" } : Jvm.MethodName)) ∈ lw_all := lw_g (lw_at lw_m2 196 rfl) rfl
theorem q552 : (Jvm.Cond.instanceMethod ({ cls := "java/lang/Object", name := "clone", desc := "()Ljava/lang/Object;" } : Jvm.MethodName)) ∈ lw_all := lw_g (lw_at lw_m2 197 rfl) rfl
theorem q996 : (Jvm.Cond.instanceMethod ({ cls := "java/lang/Object", name := "getClass", desc := "()Ljava/lang/Class;" } : Jvm.MethodName)) ∈ lw_all := lw_g (lw_at lw_m4 161 rfl) rfl
theorem q997 : (Jvm.Cond.sameMethod "java/lang/Object" "java/lang/Object" "getClass" "()Ljava/lang/Class;") ∈ lw_all := lw_g (lw_at lw_m4 162 rfl) rfl
theorem q1024 : (Jvm.Cond.native ({ cls := "java/lang/Object", name := "getClass", desc := "()Ljava/lang/Class;" } : Jvm.MethodName)) ∈ lw_all := lw_g (lw_at lw_m4 189 rfl) rfl
theorem q1123 : (Jvm.Cond.declares ({ cls := "java/lang/Object", name := "hashCode", desc := "()I" } : Jvm.MethodName)) ∈ lw_tbl := lw_at lw_m5 48 rfl
theorem q1125 : (Jvm.Cond.instanceMethod ({ cls := "java/lang/Object", name := "hashCode", desc := "()I" } : Jvm.MethodName)) ∈ lw_all := lw_g (lw_at lw_m5 50 rfl) rfl
theorem q1126 : (Jvm.Cond.sameMethod "java/lang/Object" "java/lang/Object" "hashCode" "()I") ∈ lw_all := lw_g (lw_at lw_m5 51 rfl) rfl
theorem q1216 : (Jvm.Cond.native ({ cls := "java/lang/Object", name := "hashCode", desc := "()I" } : Jvm.MethodName)) ∈ lw_all := lw_g (lw_at lw_m5 141 rfl) rfl
theorem q1217 : (Jvm.Cond.declares ({ cls := "java/lang/Object", name := "equals", desc := "(Ljava/lang/Object;)Z" } : Jvm.MethodName)) ∈ lw_tbl := lw_at lw_m5 142 rfl
theorem q1219 : (Jvm.Cond.instanceMethod ({ cls := "java/lang/Object", name := "equals", desc := "(Ljava/lang/Object;)Z" } : Jvm.MethodName)) ∈ lw_all := lw_g (lw_at lw_m5 144 rfl) rfl
theorem q1220 : (Jvm.Cond.sameMethod "java/lang/Object" "java/lang/Object" "equals" "(Ljava/lang/Object;)Z") ∈ lw_all := lw_g (lw_at lw_m5 145 rfl) rfl
theorem q1260 : (Jvm.Cond.code ({ cls := "java/lang/Object", name := "equals", desc := "(Ljava/lang/Object;)Z" } : Jvm.MethodName) object_method_4_code (2 : Nat) (Option.some Jvm.ClassFile.FieldType.boolean)) ∈ lw_all := lw_g (lw_at lw_m5 185 rfl) rfl
theorem q2785 : (Jvm.Cond.initialized "java/lang/Object") ∈ lw_all := lw_g (lw_at lw_m12 30 rfl) rfl
theorem q2818 : (Jvm.Cond.declares ({ cls := "java/lang/Object", name := "getClass", desc := "()Ljava/lang/Class;" } : Jvm.MethodName)) ∈ lw_tbl := lw_at lw_m12 63 rfl
/-! java/lang/System$2 -/
set_option maxRecDepth 100000
def RJ35 : String := "java/lang/System$2"
abbrev cJ35_getUTF16Char : ByteArray := prog_40_method_45_code
def yJ35_getUTF16Char : MethodName := ⟨RJ35, "getUTF16Char", "([BI)C"⟩
def dkwJ35_getUTF16Char_0 : List UInt8 := [43, 28, 184, 0, 185, 172]
abbrev dktJ35_getUTF16Char_0 : List UInt8 := dkwJ35_getUTF16Char_0 ++ []
theorem dksJ35_getUTF16Char_0 : cJ35_getUTF16Char.data.toList.drop 0 = dktJ35_getUTF16Char_0 := by decide +kernel
theorem dJ35_getUTF16Char_0 : decode cJ35_getUTF16Char 0 = .ok (.aload_n 1, 1) := dk_43 (dk_at dksJ35_getUTF16Char_0 0 rfl rfl)
theorem dJ35_getUTF16Char_1 : decode cJ35_getUTF16Char 1 = .ok (.iload_n 2, 1) := dk_28 (dk_at dksJ35_getUTF16Char_0 1 rfl rfl)
theorem dJ35_getUTF16Char_2 : decode cJ35_getUTF16Char 2 = .ok (.invokestatic 185, 3) := dk_184 0 185 (dk_at dksJ35_getUTF16Char_0 2 rfl rfl)
theorem dJ35_getUTF16Char_5 : decode cJ35_getUTF16Char 5 = .ok (.ireturn, 1) := dk_172 (dk_at dksJ35_getUTF16Char_0 5 rfl rfl)
theorem q1016 : (Jvm.Cond.selects "java/lang/System$2" ({ cls := "java/lang/Object", name := "getClass", desc := "()Ljava/lang/Class;" } : Jvm.MethodName) ({ cls := "java/lang/Object", name := "getClass", desc := "()Ljava/lang/Class;" } : Jvm.MethodName)) ∈ lw_all := lw_g (lw_at lw_m4 181 rfl) rfl
theorem q1179 : (Jvm.Cond.castable "java/lang/System$2" "jdk/internal/access/JavaLangAccess") ∈ lw_tbl := lw_at lw_m5 104 rfl
theorem q1180 : (Jvm.Cond.selects "java/lang/System$2" ({ cls := "jdk/internal/access/JavaLangAccess", name := "getUTF16Char", desc := "([BI)C" } : Jvm.MethodName) ({ cls := "java/lang/System$2", name := "getUTF16Char", desc := "([BI)C" } : Jvm.MethodName)) ∈ lw_all := lw_g (lw_at lw_m5 105 rfl) rfl
theorem q1181 : (Jvm.Cond.unhidden "java/lang/System$2" "getUTF16Char" "([BI)C") ∈ lw_tbl := lw_at lw_m5 106 rfl
theorem q1182 : (Jvm.Cond.instanceMethod ({ cls := "java/lang/System$2", name := "getUTF16Char", desc := "([BI)C" } : Jvm.MethodName)) ∈ lw_all := lw_g (lw_at lw_m5 107 rfl) rfl
theorem q1183 : (Jvm.Cond.publicMethod ({ cls := "java/lang/System$2", name := "getUTF16Char", desc := "([BI)C" } : Jvm.MethodName)) ∈ lw_tbl := lw_at lw_m5 108 rfl
theorem q1184 : (Jvm.Cond.code ({ cls := "java/lang/System$2", name := "getUTF16Char", desc := "([BI)C" } : Jvm.MethodName) prog_40_method_45_code (3 : Nat) (Option.some Jvm.ClassFile.FieldType.char)) ∈ lw_all := lw_g (lw_at lw_m5 109 rfl) rfl
theorem q1185 : (Jvm.Cond.methodLink "java/lang/System$2" (185 : Nat) ({ cls := "java/lang/StringUTF16", name := "getChar", desc := "([BI)C" } : Jvm.MethodName)) ∈ lw_all := lw_g (lw_at lw_m5 110 rfl) rfl
theorem q1214 : (Jvm.Cond.selects "java/lang/System$2" ({ cls := "java/lang/Object", name := "hashCode", desc := "()I" } : Jvm.MethodName) ({ cls := "java/lang/Object", name := "hashCode", desc := "()I" } : Jvm.MethodName)) ∈ lw_all := lw_g (lw_at lw_m5 139 rfl) rfl
theorem q1258 : (Jvm.Cond.selects "java/lang/System$2" ({ cls := "java/lang/Object", name := "equals", desc := "(Ljava/lang/Object;)Z" } : Jvm.MethodName) ({ cls := "java/lang/Object", name := "equals", desc := "(Ljava/lang/Object;)Z" } : Jvm.MethodName)) ∈ lw_all := lw_g (lw_at lw_m5 183 rfl) rfl
theorem q2804 : (Jvm.Cond.castable "java/lang/System$2" "java/lang/Object") ∈ lw_tbl := lw_at lw_m12 49 rfl
theorem q550 : (Jvm.Cond.sameMethod "[B" "java/lang/Object" "clone" "()Ljava/lang/Object;") ∈ lw_all := lw_g (lw_at lw_m2 195 rfl) rfl
set_option maxRecDepth 100000
theorem q553 : (Jvm.Cond.selects "[B" ({ cls := "[B", name := "clone", desc := "()Ljava/lang/Object;" } : Jvm.MethodName) ({ cls := "java/lang/Object", name := "clone", desc := "()Ljava/lang/Object;" } : Jvm.MethodName)) ∈ lw_all := lw_g (lw_at lw_m2 198 rfl) rfl
theorem q554 : (Jvm.Cond.castable "[B" "java/lang/Cloneable") ∈ lw_tbl := lw_at lw_m2 199 rfl
theorem q2819 : (Jvm.Cond.castable "[B" "java/lang/Object") ∈ lw_tbl := lw_at lw_m12 64 rfl
theorem q2821 : (Jvm.Cond.castable "[I" "java/lang/Object") ∈ lw_tbl := lw_at lw_m12 66 rfl
set_option maxRecDepth 100000
theorem q2826 : (Jvm.Cond.castable "[J" "java/lang/Object") ∈ lw_tbl := lw_at lw_m12 71 rfl
set_option maxRecDepth 100000
theorem q2820 : (Jvm.Cond.castable "[LProbeConsole$Frame;" "java/lang/Object") ∈ lw_tbl := lw_at lw_m12 65 rfl
set_option maxRecDepth 100000
theorem q1052 : (Jvm.Cond.sameMethod "[LProbeConsole$Kind;" "java/lang/Object" "clone" "()Ljava/lang/Object;") ∈ lw_all := lw_g (lw_at lw_m4 217 rfl) rfl
set_option maxRecDepth 100000
theorem q1053 : (Jvm.Cond.selects "[LProbeConsole$Kind;" ({ cls := "[LProbeConsole$Kind;", name := "clone", desc := "()Ljava/lang/Object;" } : Jvm.MethodName) ({ cls := "java/lang/Object", name := "clone", desc := "()Ljava/lang/Object;" } : Jvm.MethodName)) ∈ lw_all := lw_g (lw_at lw_m4 218 rfl) rfl
theorem q1054 : (Jvm.Cond.castable "[LProbeConsole$Kind;" "java/lang/Cloneable") ∈ lw_tbl := lw_at lw_m4 219 rfl
theorem q2823 : (Jvm.Cond.castable "[LProbeConsole$Kind;" "java/lang/Object") ∈ lw_tbl := lw_at lw_m12 68 rfl
theorem q2816 : (Jvm.Cond.sameMethod "[Ljava/lang/Object;" "java/lang/Object" "getClass" "()Ljava/lang/Class;") ∈ lw_all := lw_g (lw_at lw_m12 61 rfl) rfl
set_option maxRecDepth 100000
theorem q2817 : (Jvm.Cond.selects "[Ljava/lang/Object;" ({ cls := "java/lang/Object", name := "getClass", desc := "()Ljava/lang/Class;" } : Jvm.MethodName) ({ cls := "java/lang/Object", name := "getClass", desc := "()Ljava/lang/Class;" } : Jvm.MethodName)) ∈ lw_all := lw_g (lw_at lw_m12 62 rfl) rfl
theorem q2822 : (Jvm.Cond.castable "[Ljava/lang/Object;" "java/lang/Object") ∈ lw_tbl := lw_at lw_m12 67 rfl
theorem q2825 : (Jvm.Cond.castable "[Ljava/lang/String;" "java/lang/Object") ∈ lw_tbl := lw_at lw_m12 70 rfl
set_option maxRecDepth 100000
theorem q2824 : (Jvm.Cond.castable "[Ljava/util/HashMap$Node;" "java/lang/Object") ∈ lw_tbl := lw_at lw_m12 69 rfl
set_option maxRecDepth 100000
theorem q2827 : (Jvm.Cond.castable "[Z" "java/lang/Object") ∈ lw_tbl := lw_at lw_m12 72 rfl
set_option maxRecDepth 100000
theorem q2830 : (Jvm.Cond.fieldLink "java/lang/Class" (13 : Nat) "java/lang/Class" "componentType" "Ljava/lang/Class;") ∈ lw_all := lw_g (lw_at lw_m12 75 rfl) rfl
set_option maxRecDepth 100000
theorem q1286 : (Jvm.Cond.interfaceMethod "java/lang/Comparable" "java/lang/Comparable" "compareTo" "(Ljava/lang/Object;)I") ∈ lw_tbl := lw_at lw_m5 211 rfl
set_option maxRecDepth 100000
theorem q1287 : (Jvm.Cond.declares ({ cls := "java/lang/Comparable", name := "compareTo", desc := "(Ljava/lang/Object;)I" } : Jvm.MethodName)) ∈ lw_tbl := lw_at lw_m5 212 rfl
theorem q158 : (Jvm.Cond.initialized "java/lang/Integer$IntegerCache") ∈ lw_all := lw_g (lw_at lw_m1 43 rfl) rfl
set_option maxRecDepth 100000
theorem q1793 : (Jvm.Cond.laysStatic "java/lang/Integer$IntegerCache" "high" "I") ∈ lw_tbl := lw_at lw_m7 238 rfl
theorem q1795 : (Jvm.Cond.laysStatic "java/lang/Integer$IntegerCache" "cache" "[Ljava/lang/Integer;") ∈ lw_tbl := lw_at lw_m8 0 rfl
theorem q139 : (Jvm.Cond.initialized "java/lang/System") ∈ lw_all := lw_g (lw_at lw_m1 24 rfl) rfl
set_option maxRecDepth 100000
theorem q560 : (Jvm.Cond.static ({ cls := "java/lang/System", name := "arraycopy", desc := "(Ljava/lang/Object;ILjava/lang/Object;II)V" } : Jvm.MethodName)) ∈ lw_all := lw_g (lw_at lw_m2 205 rfl) rfl
theorem q561 : (Jvm.Cond.native ({ cls := "java/lang/System", name := "arraycopy", desc := "(Ljava/lang/Object;ILjava/lang/Object;II)V" } : Jvm.MethodName)) ∈ lw_all := lw_g (lw_at lw_m2 206 rfl) rfl
theorem q1137 : (Jvm.Cond.static ({ cls := "java/lang/System", name := "identityHashCode", desc := "(Ljava/lang/Object;)I" } : Jvm.MethodName)) ∈ lw_all := lw_g (lw_at lw_m5 62 rfl) rfl
theorem q1138 : (Jvm.Cond.native ({ cls := "java/lang/System", name := "identityHashCode", desc := "(Ljava/lang/Object;)I" } : Jvm.MethodName)) ∈ lw_all := lw_g (lw_at lw_m5 63 rfl) rfl
theorem q148 : (Jvm.Cond.initialized "java/lang/reflect/Array") ∈ lw_all := lw_g (lw_at lw_m1 33 rfl) rfl
set_option maxRecDepth 100000
theorem q1511 : (Jvm.Cond.interfaceMethod "java/util/Comparator" "java/util/Comparator" "compare" "(Ljava/lang/Object;Ljava/lang/Object;)I") ∈ lw_tbl := lw_at lw_m6 196 rfl
set_option maxRecDepth 100000
theorem q1512 : (Jvm.Cond.declares ({ cls := "java/util/Comparator", name := "compare", desc := "(Ljava/lang/Object;Ljava/lang/Object;)I" } : Jvm.MethodName)) ∈ lw_tbl := lw_at lw_m6 197 rfl
theorem q379 : (Jvm.Cond.interfaceMethod "java/util/List" "java/util/List" "size" "()I") ∈ lw_tbl := lw_at lw_m2 24 rfl
set_option maxRecDepth 100000
theorem q380 : (Jvm.Cond.declares ({ cls := "java/util/List", name := "size", desc := "()I" } : Jvm.MethodName)) ∈ lw_tbl := lw_at lw_m2 25 rfl
theorem q972 : (Jvm.Cond.interfaceMethod "java/util/List" "java/util/List" "add" "(Ljava/lang/Object;)Z") ∈ lw_tbl := lw_at lw_m4 137 rfl
theorem q973 : (Jvm.Cond.declares ({ cls := "java/util/List", name := "add", desc := "(Ljava/lang/Object;)Z" } : Jvm.MethodName)) ∈ lw_tbl := lw_at lw_m4 138 rfl
theorem q1931 : (Jvm.Cond.interfaceMethod "java/util/List" "java/util/List" "clear" "()V") ∈ lw_tbl := lw_at lw_m8 136 rfl
theorem q1932 : (Jvm.Cond.declares ({ cls := "java/util/List", name := "clear", desc := "()V" } : Jvm.MethodName)) ∈ lw_tbl := lw_at lw_m8 137 rfl
theorem q2000 : (Jvm.Cond.interfaceMethod "java/util/List" "java/util/List" "get" "(I)Ljava/lang/Object;") ∈ lw_tbl := lw_at lw_m8 205 rfl
theorem q2001 : (Jvm.Cond.declares ({ cls := "java/util/List", name := "get", desc := "(I)Ljava/lang/Object;" } : Jvm.MethodName)) ∈ lw_tbl := lw_at lw_m8 206 rfl
theorem q1108 : (Jvm.Cond.interfaceMethod "java/util/Map" "java/util/Map" "containsKey" "(Ljava/lang/Object;)Z") ∈ lw_tbl := lw_at lw_m5 33 rfl
set_option maxRecDepth 100000
theorem q1109 : (Jvm.Cond.declares ({ cls := "java/util/Map", name := "containsKey", desc := "(Ljava/lang/Object;)Z" } : Jvm.MethodName)) ∈ lw_tbl := lw_at lw_m5 34 rfl
theorem q1525 : (Jvm.Cond.interfaceMethod "java/util/Map" "java/util/Map" "put" "(Ljava/lang/Object;Ljava/lang/Object;)Ljava/lang/Object;") ∈ lw_tbl := lw_at lw_m6 210 rfl
theorem q1526 : (Jvm.Cond.declares ({ cls := "java/util/Map", name := "put", desc := "(Ljava/lang/Object;Ljava/lang/Object;)Ljava/lang/Object;" } : Jvm.MethodName)) ∈ lw_tbl := lw_at lw_m6 211 rfl
theorem q1177 : (Jvm.Cond.interfaceMethod "jdk/internal/access/JavaLangAccess" "jdk/internal/access/JavaLangAccess" "getUTF16Char" "([BI)C") ∈ lw_tbl := lw_at lw_m5 102 rfl
set_option maxRecDepth 100000
theorem q1178 : (Jvm.Cond.declares ({ cls := "jdk/internal/access/JavaLangAccess", name := "getUTF16Char", desc := "([BI)C" } : Jvm.MethodName)) ∈ lw_tbl := lw_at lw_m5 103 rfl
theorem q151 : (Jvm.Cond.initialized "jdk/internal/misc/UnsafeConstants") ∈ lw_all := lw_g (lw_at lw_m1 36 rfl) rfl
set_option maxRecDepth 100000
theorem q1375 : (Jvm.Cond.laysStatic "jdk/internal/misc/UnsafeConstants" "BIG_ENDIAN" "Z") ∈ lw_tbl := lw_at lw_m6 60 rfl
theorem q210 : (Jvm.Cond.arrayClass Jvm.ClassFile.FieldType.byte) ∈ lw_all := lw_g (lw_at lw_m1 95 rfl) rfl
set_option maxRecDepth 100000
theorem q303 : (Jvm.Cond.arrayOver (Jvm.ClassFile.FieldType.object "ProbeConsole$Frame")) ∈ lw_tbl := lw_at lw_m1 188 rfl
theorem q314 : (Jvm.Cond.arrayClass Jvm.ClassFile.FieldType.int) ∈ lw_all := lw_g (lw_at lw_m1 199 rfl) rfl
theorem q882 : (Jvm.Cond.arrayOver (Jvm.ClassFile.FieldType.object "java/lang/Object")) ∈ lw_tbl := lw_at lw_m4 47 rfl
theorem q1055 : (Jvm.Cond.arrayOver (Jvm.ClassFile.FieldType.object "ProbeConsole$Kind")) ∈ lw_tbl := lw_at lw_m4 220 rfl
theorem q1544 : (Jvm.Cond.arrayOver (Jvm.ClassFile.FieldType.object "java/util/HashMap$Node")) ∈ lw_tbl := lw_at lw_m6 229 rfl
theorem q1758 : (Jvm.Cond.arrayOver (Jvm.ClassFile.FieldType.object "java/lang/String")) ∈ lw_tbl := lw_at lw_m7 203 rfl
theorem q2421 : (Jvm.Cond.arrayClass Jvm.ClassFile.FieldType.long) ∈ lw_all := lw_g (lw_at lw_m10 146 rfl) rfl
theorem q2422 : (Jvm.Cond.arrayClass Jvm.ClassFile.FieldType.boolean) ∈ lw_all := lw_g (lw_at lw_m10 147 rfl) rfl
theorem q2828 : (Jvm.Cond.arrayClass Jvm.ClassFile.FieldType.char) ∈ lw_all := lw_g (lw_at lw_m12 73 rfl) rfl
theorem q2829 : (Jvm.Cond.arrayClass Jvm.ClassFile.FieldType.short) ∈ lw_all := lw_g (lw_at lw_m12 74 rfl) rfl
