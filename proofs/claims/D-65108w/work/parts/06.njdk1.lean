/-! java/util/AbstractMap -/
set_option maxRecDepth 100000
def RJ0 : String := "java/util/AbstractMap"
abbrev cJ0_init : ByteArray := prog_47_method_1_code
def yJ0_init : MethodName := ⟨RJ0, "<init>", "()V"⟩
theorem dJ0_init_0 : decode cJ0_init 0 = .ok (.aload_n 0, 1) := by decide +kernel
theorem dJ0_init_1 : decode cJ0_init 1 = .ok (.invokespecial 1, 3) := by decide +kernel
theorem dJ0_init_4 : decode cJ0_init 4 = .ok (.return_, 1) := by decide +kernel
theorem q119 : (Jvm.Cond.initialized "java/util/AbstractMap") ∈ lw_all := lw_g (lw_at lw_m1 4 rfl) rfl
theorem q223 : (Jvm.Cond.instanceMethod ({ cls := "java/util/AbstractMap", name := "<init>", desc := "()V" } : Jvm.MethodName)) ∈ lw_all := lw_g (lw_at lw_m1 108 rfl) rfl
theorem q224 : (Jvm.Cond.code ({ cls := "java/util/AbstractMap", name := "<init>", desc := "()V" } : Jvm.MethodName) prog_47_method_1_code (1 : Nat) (Option.none : Option Jvm.ClassFile.FieldType)) ∈ lw_all := lw_g (lw_at lw_m1 109 rfl) rfl
theorem q225 : (Jvm.Cond.methodLink "java/util/AbstractMap" (1 : Nat) ({ cls := "java/lang/Object", name := "<init>", desc := "()V" } : Jvm.MethodName)) ∈ lw_all := lw_g (lw_at lw_m1 110 rfl) rfl
theorem q245 : (Jvm.Cond.soleField "java/util/AbstractMap" "keySet") ∈ lw_all := lw_g (lw_at lw_m1 130 rfl) rfl
theorem q247 : (Jvm.Cond.soleField "java/util/AbstractMap" "values") ∈ lw_all := lw_g (lw_at lw_m1 132 rfl) rfl
/-! java/util/HashMap -/
set_option maxRecDepth 100000
def RJ1 : String := "java/util/HashMap"
def TJ1 : u_T := fun k => match k with
  | 0 => ("java/util/AbstractMap", "keySet", "Ljava/util/Set;", false)
  | 1 => ("java/util/AbstractMap", "values", "Ljava/util/Collection;", false)
  | 2 => ("java/util/HashMap", "table", "[Ljava/util/HashMap$Node;", false)
  | 3 => ("java/util/HashMap", "entrySet", "Ljava/util/Set;", false)
  | 4 => ("java/util/HashMap", "size", "I", false)
  | 5 => ("java/util/HashMap", "modCount", "I", false)
  | 6 => ("java/util/HashMap", "threshold", "I", false)
  | _ => ("java/util/HashMap", "loadFactor", "F", true)
def tyJ1 : Nat → FieldType := fun k => match k with
  | 0 => .object "java/util/Set"
  | 1 => .object "java/util/Collection"
  | 2 => .array (.object "java/util/HashMap$Node")
  | 3 => .object "java/util/Set"
  | 4 => .int
  | 5 => .int
  | 6 => .int
  | _ => .float
abbrev wsJ10 : List Cond := u_ws RJ1 TJ1 8
theorem nmJ1 : ∀ a, a < 8 → ∀ b, b < 8 → a ≠ b → (TJ1 a).2.1 ≠ (TJ1 b).2.1 := by decide +kernel
theorem tyJ1_ok : ∀ k, k < 8 → parseFieldDescriptor (TJ1 k).2.2.1 = some (tyJ1 k) := by decide +kernel
abbrev cJ1_init : ByteArray := prog_52_method_7_code
def yJ1_init : MethodName := ⟨RJ1, "<init>", "()V"⟩
def dkwJ1_init_0 : List UInt8 := [42, 183, 0, 43, 42, 18, 92, 181, 0, 81, 177]
abbrev dktJ1_init_0 : List UInt8 := dkwJ1_init_0 ++ []
theorem dksJ1_init_0 : cJ1_init.data.toList.drop 0 = dktJ1_init_0 := by decide +kernel
theorem dJ1_init_0 : decode cJ1_init 0 = .ok (.aload_n 0, 1) := dk_42 (dk_at dksJ1_init_0 0 rfl rfl)
theorem dJ1_init_1 : decode cJ1_init 1 = .ok (.invokespecial 43, 3) := dk_183 0 43 (dk_at dksJ1_init_0 1 rfl rfl)
theorem dJ1_init_4 : decode cJ1_init 4 = .ok (.aload_n 0, 1) := dk_42 (dk_at dksJ1_init_0 4 rfl rfl)
theorem dJ1_init_5 : decode cJ1_init 5 = .ok (.ldc 92, 2) := dk_18 92 (dk_at dksJ1_init_0 5 rfl rfl)
theorem dJ1_init_7 : decode cJ1_init 7 = .ok (.putfield 81, 3) := dk_181 0 81 (dk_at dksJ1_init_0 7 rfl rfl)
theorem dJ1_init_10 : decode cJ1_init 10 = .ok (.return_, 1) := dk_177 (dk_at dksJ1_init_0 10 rfl rfl)
abbrev cJ1_containsKey : ByteArray := prog_52_method_14_code
def yJ1_containsKey : MethodName := ⟨RJ1, "containsKey", "(Ljava/lang/Object;)Z"⟩
def dkwJ1_containsKey_0 : List UInt8 := [42, 43, 182, 0, 158, 198, 0, 7, 4, 167, 0, 4, 3, 172]
abbrev dktJ1_containsKey_0 : List UInt8 := dkwJ1_containsKey_0 ++ []
theorem dksJ1_containsKey_0 : cJ1_containsKey.data.toList.drop 0 = dktJ1_containsKey_0 := by decide +kernel
theorem dJ1_containsKey_0 : decode cJ1_containsKey 0 = .ok (.aload_n 0, 1) := dk_42 (dk_at dksJ1_containsKey_0 0 rfl rfl)
theorem dJ1_containsKey_1 : decode cJ1_containsKey 1 = .ok (.aload_n 1, 1) := dk_43 (dk_at dksJ1_containsKey_0 1 rfl rfl)
theorem dJ1_containsKey_2 : decode cJ1_containsKey 2 = .ok (.invokevirtual 158, 3) := dk_182 0 158 (dk_at dksJ1_containsKey_0 2 rfl rfl)
theorem dJ1_containsKey_5 : decode cJ1_containsKey 5 = .ok (.ifnull 7, 3) := dk_198 0 7 (dk_at dksJ1_containsKey_0 5 rfl rfl)
theorem dJ1_containsKey_8 : decode cJ1_containsKey 8 = .ok (.iconst 1, 1) := dk_4 (dk_at dksJ1_containsKey_0 8 rfl rfl)
theorem dJ1_containsKey_9 : decode cJ1_containsKey 9 = .ok (.goto 4, 3) := dk_167 0 4 (dk_at dksJ1_containsKey_0 9 rfl rfl)
theorem dJ1_containsKey_12 : decode cJ1_containsKey 12 = .ok (.iconst 0, 1) := dk_3 (dk_at dksJ1_containsKey_0 12 rfl rfl)
theorem dJ1_containsKey_13 : decode cJ1_containsKey 13 = .ok (.ireturn, 1) := dk_172 (dk_at dksJ1_containsKey_0 13 rfl rfl)
abbrev cJ1_getNode : ByteArray := prog_52_method_13_code
def yJ1_getNode : MethodName := ⟨RJ1, "getNode", "(Ljava/lang/Object;)Ljava/util/HashMap$Node;"⟩
def dkwJ1_getNode_6 : List UInt8 := [89, 58, 4, 199, 255, 210, 1, 176]
abbrev dktJ1_getNode_6 : List UInt8 := dkwJ1_getNode_6 ++ []
def dkwJ1_getNode_5 : List UInt8 := [165, 0, 16, 43, 198, 0, 15, 43, 25, 7, 182, 0, 173, 153, 0, 6, 25, 4, 176, 25, 4, 180, 0, 177]
abbrev dktJ1_getNode_5 : List UInt8 := dkwJ1_getNode_5 ++ dktJ1_getNode_6
def dkwJ1_getNode_4 : List UInt8 := [43, 182, 0, 182, 176, 25, 4, 180, 0, 168, 21, 6, 160, 0, 31, 25, 4, 180, 0, 170, 89, 58, 7, 43]
abbrev dktJ1_getNode_4 : List UInt8 := dkwJ1_getNode_4 ++ dktJ1_getNode_5
def dkwJ1_getNode_3 : List UInt8 := [176, 45, 180, 0, 177, 89, 58, 4, 198, 0, 70, 45, 193, 0, 180, 153, 0, 14, 45, 192, 0, 180, 21, 6]
abbrev dktJ1_getNode_3 : List UInt8 := dkwJ1_getNode_3 ++ dktJ1_getNode_4
def dkwJ1_getNode_2 : List UInt8 := [180, 0, 170, 89, 58, 7, 43, 165, 0, 16, 43, 198, 0, 14, 43, 25, 7, 182, 0, 173, 153, 0, 5, 45]
abbrev dktJ1_getNode_2 : List UInt8 := dkwJ1_getNode_2 ++ dktJ1_getNode_3
def dkwJ1_getNode_1 : List UInt8 := [184, 0, 149, 89, 54, 6, 126, 50, 89, 78, 198, 0, 115, 45, 180, 0, 168, 21, 6, 160, 0, 29, 45]
abbrev dktJ1_getNode_1 : List UInt8 := dkwJ1_getNode_1 ++ dktJ1_getNode_2
def dkwJ1_getNode_0 : List UInt8 := [42, 180, 0, 105, 89, 77, 198, 0, 142, 44, 190, 89, 54, 5, 158, 0, 134, 44, 21, 5, 4, 100, 43]
abbrev dktJ1_getNode_0 : List UInt8 := dkwJ1_getNode_0 ++ dktJ1_getNode_1
theorem dksJ1_getNode_0 : cJ1_getNode.data.toList.drop 0 = dktJ1_getNode_0 := by decide +kernel
theorem dksJ1_getNode_1 : cJ1_getNode.data.toList.drop 23 = dktJ1_getNode_1 := dk_seg dksJ1_getNode_0 23 rfl rfl
theorem dksJ1_getNode_2 : cJ1_getNode.data.toList.drop 46 = dktJ1_getNode_2 := dk_seg dksJ1_getNode_1 23 rfl rfl
theorem dksJ1_getNode_3 : cJ1_getNode.data.toList.drop 70 = dktJ1_getNode_3 := dk_seg dksJ1_getNode_2 24 rfl rfl
theorem dksJ1_getNode_4 : cJ1_getNode.data.toList.drop 94 = dktJ1_getNode_4 := dk_seg dksJ1_getNode_3 24 rfl rfl
theorem dksJ1_getNode_5 : cJ1_getNode.data.toList.drop 118 = dktJ1_getNode_5 := dk_seg dksJ1_getNode_4 24 rfl rfl
theorem dksJ1_getNode_6 : cJ1_getNode.data.toList.drop 142 = dktJ1_getNode_6 := dk_seg dksJ1_getNode_5 24 rfl rfl
theorem dJ1_getNode_0 : decode cJ1_getNode 0 = .ok (.aload_n 0, 1) := dk_42 (dk_at dksJ1_getNode_0 0 rfl rfl)
theorem dJ1_getNode_1 : decode cJ1_getNode 1 = .ok (.getfield 105, 3) := dk_180 0 105 (dk_at dksJ1_getNode_0 1 rfl rfl)
theorem dJ1_getNode_4 : decode cJ1_getNode 4 = .ok (.dup, 1) := dk_89 (dk_at dksJ1_getNode_0 4 rfl rfl)
theorem dJ1_getNode_5 : decode cJ1_getNode 5 = .ok (.astore_n 2, 1) := dk_77 (dk_at dksJ1_getNode_0 5 rfl rfl)
theorem dJ1_getNode_6 : decode cJ1_getNode 6 = .ok (.ifnull 142, 3) := dk_198 0 142 (dk_at dksJ1_getNode_0 6 rfl rfl)
theorem dJ1_getNode_9 : decode cJ1_getNode 9 = .ok (.aload_n 2, 1) := dk_44 (dk_at dksJ1_getNode_0 9 rfl rfl)
theorem dJ1_getNode_10 : decode cJ1_getNode 10 = .ok (.arraylength, 1) := dk_190 (dk_at dksJ1_getNode_0 10 rfl rfl)
theorem dJ1_getNode_11 : decode cJ1_getNode 11 = .ok (.dup, 1) := dk_89 (dk_at dksJ1_getNode_0 11 rfl rfl)
theorem dJ1_getNode_12 : decode cJ1_getNode 12 = .ok (.istore 5, 2) := dk_54 5 (dk_at dksJ1_getNode_0 12 rfl rfl)
theorem dJ1_getNode_14 : decode cJ1_getNode 14 = .ok (.ifCond .le 134, 3) := dk_158 0 134 (dk_at dksJ1_getNode_0 14 rfl rfl)
theorem dJ1_getNode_17 : decode cJ1_getNode 17 = .ok (.aload_n 2, 1) := dk_44 (dk_at dksJ1_getNode_0 17 rfl rfl)
theorem dJ1_getNode_18 : decode cJ1_getNode 18 = .ok (.iload 5, 2) := dk_21 5 (dk_at dksJ1_getNode_0 18 rfl rfl)
theorem dJ1_getNode_20 : decode cJ1_getNode 20 = .ok (.iconst 1, 1) := dk_4 (dk_at dksJ1_getNode_0 20 rfl rfl)
theorem dJ1_getNode_21 : decode cJ1_getNode 21 = .ok (.isub, 1) := dk_100 (dk_at dksJ1_getNode_0 21 rfl rfl)
theorem dJ1_getNode_22 : decode cJ1_getNode 22 = .ok (.aload_n 1, 1) := dk_43 (dk_at dksJ1_getNode_0 22 rfl rfl)
theorem dJ1_getNode_23 : decode cJ1_getNode 23 = .ok (.invokestatic 149, 3) := dk_184 0 149 (dk_at dksJ1_getNode_1 0 rfl rfl)
theorem dJ1_getNode_26 : decode cJ1_getNode 26 = .ok (.dup, 1) := dk_89 (dk_at dksJ1_getNode_1 3 rfl rfl)
theorem dJ1_getNode_27 : decode cJ1_getNode 27 = .ok (.istore 6, 2) := dk_54 6 (dk_at dksJ1_getNode_1 4 rfl rfl)
theorem dJ1_getNode_29 : decode cJ1_getNode 29 = .ok (.iand, 1) := dk_126 (dk_at dksJ1_getNode_1 6 rfl rfl)
theorem dJ1_getNode_30 : decode cJ1_getNode 30 = .ok (.aaload, 1) := dk_50 (dk_at dksJ1_getNode_1 7 rfl rfl)
theorem dJ1_getNode_31 : decode cJ1_getNode 31 = .ok (.dup, 1) := dk_89 (dk_at dksJ1_getNode_1 8 rfl rfl)
theorem dJ1_getNode_32 : decode cJ1_getNode 32 = .ok (.astore_n 3, 1) := dk_78 (dk_at dksJ1_getNode_1 9 rfl rfl)
theorem dJ1_getNode_33 : decode cJ1_getNode 33 = .ok (.ifnull 115, 3) := dk_198 0 115 (dk_at dksJ1_getNode_1 10 rfl rfl)
theorem dJ1_getNode_36 : decode cJ1_getNode 36 = .ok (.aload_n 3, 1) := dk_45 (dk_at dksJ1_getNode_1 13 rfl rfl)
theorem dJ1_getNode_37 : decode cJ1_getNode 37 = .ok (.getfield 168, 3) := dk_180 0 168 (dk_at dksJ1_getNode_1 14 rfl rfl)
theorem dJ1_getNode_40 : decode cJ1_getNode 40 = .ok (.iload 6, 2) := dk_21 6 (dk_at dksJ1_getNode_1 17 rfl rfl)
theorem dJ1_getNode_42 : decode cJ1_getNode 42 = .ok (.if_icmp .ne 29, 3) := dk_160 0 29 (dk_at dksJ1_getNode_1 19 rfl rfl)
theorem dJ1_getNode_45 : decode cJ1_getNode 45 = .ok (.aload_n 3, 1) := dk_45 (dk_at dksJ1_getNode_1 22 rfl rfl)
theorem dJ1_getNode_46 : decode cJ1_getNode 46 = .ok (.getfield 170, 3) := dk_180 0 170 (dk_at dksJ1_getNode_2 0 rfl rfl)
theorem dJ1_getNode_49 : decode cJ1_getNode 49 = .ok (.dup, 1) := dk_89 (dk_at dksJ1_getNode_2 3 rfl rfl)
theorem dJ1_getNode_50 : decode cJ1_getNode 50 = .ok (.astore 7, 2) := dk_58 7 (dk_at dksJ1_getNode_2 4 rfl rfl)
theorem dJ1_getNode_52 : decode cJ1_getNode 52 = .ok (.aload_n 1, 1) := dk_43 (dk_at dksJ1_getNode_2 6 rfl rfl)
theorem dJ1_getNode_53 : decode cJ1_getNode 53 = .ok (.if_acmp .eq 16, 3) := dk_165 0 16 (dk_at dksJ1_getNode_2 7 rfl rfl)
theorem dJ1_getNode_56 : decode cJ1_getNode 56 = .ok (.aload_n 1, 1) := dk_43 (dk_at dksJ1_getNode_2 10 rfl rfl)
theorem dJ1_getNode_57 : decode cJ1_getNode 57 = .ok (.ifnull 14, 3) := dk_198 0 14 (dk_at dksJ1_getNode_2 11 rfl rfl)
theorem dJ1_getNode_60 : decode cJ1_getNode 60 = .ok (.aload_n 1, 1) := dk_43 (dk_at dksJ1_getNode_2 14 rfl rfl)
theorem dJ1_getNode_61 : decode cJ1_getNode 61 = .ok (.aload 7, 2) := dk_25 7 (dk_at dksJ1_getNode_2 15 rfl rfl)
theorem dJ1_getNode_63 : decode cJ1_getNode 63 = .ok (.invokevirtual 173, 3) := dk_182 0 173 (dk_at dksJ1_getNode_2 17 rfl rfl)
theorem dJ1_getNode_66 : decode cJ1_getNode 66 = .ok (.ifCond .eq 5, 3) := dk_153 0 5 (dk_at dksJ1_getNode_2 20 rfl rfl)
theorem dJ1_getNode_69 : decode cJ1_getNode 69 = .ok (.aload_n 3, 1) := dk_45 (dk_at dksJ1_getNode_2 23 rfl rfl)
theorem dJ1_getNode_70 : decode cJ1_getNode 70 = .ok (.areturn, 1) := dk_176 (dk_at dksJ1_getNode_3 0 rfl rfl)
theorem dJ1_getNode_71 : decode cJ1_getNode 71 = .ok (.aload_n 3, 1) := dk_45 (dk_at dksJ1_getNode_3 1 rfl rfl)
theorem dJ1_getNode_72 : decode cJ1_getNode 72 = .ok (.getfield 177, 3) := dk_180 0 177 (dk_at dksJ1_getNode_3 2 rfl rfl)
theorem dJ1_getNode_75 : decode cJ1_getNode 75 = .ok (.dup, 1) := dk_89 (dk_at dksJ1_getNode_3 5 rfl rfl)
theorem dJ1_getNode_76 : decode cJ1_getNode 76 = .ok (.astore 4, 2) := dk_58 4 (dk_at dksJ1_getNode_3 6 rfl rfl)
theorem dJ1_getNode_78 : decode cJ1_getNode 78 = .ok (.ifnull 70, 3) := dk_198 0 70 (dk_at dksJ1_getNode_3 8 rfl rfl)
theorem dJ1_getNode_81 : decode cJ1_getNode 81 = .ok (.aload_n 3, 1) := dk_45 (dk_at dksJ1_getNode_3 11 rfl rfl)
theorem dJ1_getNode_82 : decode cJ1_getNode 82 = .ok (.instanceof 180, 3) := dk_193 0 180 (dk_at dksJ1_getNode_3 12 rfl rfl)
theorem dJ1_getNode_85 : decode cJ1_getNode 85 = .ok (.ifCond .eq 14, 3) := dk_153 0 14 (dk_at dksJ1_getNode_3 15 rfl rfl)
theorem dJ1_getNode_88 : decode cJ1_getNode 88 = .ok (.aload_n 3, 1) := dk_45 (dk_at dksJ1_getNode_3 18 rfl rfl)
theorem dJ1_getNode_89 : decode cJ1_getNode 89 = .ok (.checkcast 180, 3) := dk_192 0 180 (dk_at dksJ1_getNode_3 19 rfl rfl)
theorem dJ1_getNode_92 : decode cJ1_getNode 92 = .ok (.iload 6, 2) := dk_21 6 (dk_at dksJ1_getNode_3 22 rfl rfl)
theorem dJ1_getNode_94 : decode cJ1_getNode 94 = .ok (.aload_n 1, 1) := dk_43 (dk_at dksJ1_getNode_4 0 rfl rfl)
theorem dJ1_getNode_95 : decode cJ1_getNode 95 = .ok (.invokevirtual 182, 3) := dk_182 0 182 (dk_at dksJ1_getNode_4 1 rfl rfl)
theorem dJ1_getNode_98 : decode cJ1_getNode 98 = .ok (.areturn, 1) := dk_176 (dk_at dksJ1_getNode_4 4 rfl rfl)
theorem dJ1_getNode_99 : decode cJ1_getNode 99 = .ok (.aload 4, 2) := dk_25 4 (dk_at dksJ1_getNode_4 5 rfl rfl)
theorem dJ1_getNode_101 : decode cJ1_getNode 101 = .ok (.getfield 168, 3) := dk_180 0 168 (dk_at dksJ1_getNode_4 7 rfl rfl)
theorem dJ1_getNode_104 : decode cJ1_getNode 104 = .ok (.iload 6, 2) := dk_21 6 (dk_at dksJ1_getNode_4 10 rfl rfl)
theorem dJ1_getNode_106 : decode cJ1_getNode 106 = .ok (.if_icmp .ne 31, 3) := dk_160 0 31 (dk_at dksJ1_getNode_4 12 rfl rfl)
theorem dJ1_getNode_109 : decode cJ1_getNode 109 = .ok (.aload 4, 2) := dk_25 4 (dk_at dksJ1_getNode_4 15 rfl rfl)
theorem dJ1_getNode_111 : decode cJ1_getNode 111 = .ok (.getfield 170, 3) := dk_180 0 170 (dk_at dksJ1_getNode_4 17 rfl rfl)
theorem dJ1_getNode_114 : decode cJ1_getNode 114 = .ok (.dup, 1) := dk_89 (dk_at dksJ1_getNode_4 20 rfl rfl)
theorem dJ1_getNode_115 : decode cJ1_getNode 115 = .ok (.astore 7, 2) := dk_58 7 (dk_at dksJ1_getNode_4 21 rfl rfl)
theorem dJ1_getNode_117 : decode cJ1_getNode 117 = .ok (.aload_n 1, 1) := dk_43 (dk_at dksJ1_getNode_4 23 rfl rfl)
theorem dJ1_getNode_118 : decode cJ1_getNode 118 = .ok (.if_acmp .eq 16, 3) := dk_165 0 16 (dk_at dksJ1_getNode_5 0 rfl rfl)
theorem dJ1_getNode_121 : decode cJ1_getNode 121 = .ok (.aload_n 1, 1) := dk_43 (dk_at dksJ1_getNode_5 3 rfl rfl)
theorem dJ1_getNode_122 : decode cJ1_getNode 122 = .ok (.ifnull 15, 3) := dk_198 0 15 (dk_at dksJ1_getNode_5 4 rfl rfl)
theorem dJ1_getNode_125 : decode cJ1_getNode 125 = .ok (.aload_n 1, 1) := dk_43 (dk_at dksJ1_getNode_5 7 rfl rfl)
theorem dJ1_getNode_126 : decode cJ1_getNode 126 = .ok (.aload 7, 2) := dk_25 7 (dk_at dksJ1_getNode_5 8 rfl rfl)
theorem dJ1_getNode_128 : decode cJ1_getNode 128 = .ok (.invokevirtual 173, 3) := dk_182 0 173 (dk_at dksJ1_getNode_5 10 rfl rfl)
theorem dJ1_getNode_131 : decode cJ1_getNode 131 = .ok (.ifCond .eq 6, 3) := dk_153 0 6 (dk_at dksJ1_getNode_5 13 rfl rfl)
theorem dJ1_getNode_134 : decode cJ1_getNode 134 = .ok (.aload 4, 2) := dk_25 4 (dk_at dksJ1_getNode_5 16 rfl rfl)
theorem dJ1_getNode_136 : decode cJ1_getNode 136 = .ok (.areturn, 1) := dk_176 (dk_at dksJ1_getNode_5 18 rfl rfl)
theorem dJ1_getNode_137 : decode cJ1_getNode 137 = .ok (.aload 4, 2) := dk_25 4 (dk_at dksJ1_getNode_5 19 rfl rfl)
theorem dJ1_getNode_139 : decode cJ1_getNode 139 = .ok (.getfield 177, 3) := dk_180 0 177 (dk_at dksJ1_getNode_5 21 rfl rfl)
theorem dJ1_getNode_142 : decode cJ1_getNode 142 = .ok (.dup, 1) := dk_89 (dk_at dksJ1_getNode_6 0 rfl rfl)
theorem dJ1_getNode_143 : decode cJ1_getNode 143 = .ok (.astore 4, 2) := dk_58 4 (dk_at dksJ1_getNode_6 1 rfl rfl)
theorem dJ1_getNode_145 : decode cJ1_getNode 145 = .ok (.ifnonnull (-46), 3) := dk_199 255 210 (dk_at dksJ1_getNode_6 3 rfl rfl)
theorem dJ1_getNode_148 : decode cJ1_getNode 148 = .ok (.aconst_null, 1) := dk_1 (dk_at dksJ1_getNode_6 6 rfl rfl)
theorem dJ1_getNode_149 : decode cJ1_getNode 149 = .ok (.areturn, 1) := dk_176 (dk_at dksJ1_getNode_6 7 rfl rfl)
abbrev cJ1_hash : ByteArray := prog_52_method_1_code
def yJ1_hash : MethodName := ⟨RJ1, "hash", "(Ljava/lang/Object;)I"⟩
def dkwJ1_hash_0 : List UInt8 := [42, 199, 0, 7, 3, 167, 0, 14, 42, 182, 0, 1, 89, 60, 27, 16, 16, 124, 130, 172]
abbrev dktJ1_hash_0 : List UInt8 := dkwJ1_hash_0 ++ []
theorem dksJ1_hash_0 : cJ1_hash.data.toList.drop 0 = dktJ1_hash_0 := by decide +kernel
theorem dJ1_hash_0 : decode cJ1_hash 0 = .ok (.aload_n 0, 1) := dk_42 (dk_at dksJ1_hash_0 0 rfl rfl)
theorem dJ1_hash_1 : decode cJ1_hash 1 = .ok (.ifnonnull 7, 3) := dk_199 0 7 (dk_at dksJ1_hash_0 1 rfl rfl)
theorem dJ1_hash_4 : decode cJ1_hash 4 = .ok (.iconst 0, 1) := dk_3 (dk_at dksJ1_hash_0 4 rfl rfl)
theorem dJ1_hash_5 : decode cJ1_hash 5 = .ok (.goto 14, 3) := dk_167 0 14 (dk_at dksJ1_hash_0 5 rfl rfl)
theorem dJ1_hash_8 : decode cJ1_hash 8 = .ok (.aload_n 0, 1) := dk_42 (dk_at dksJ1_hash_0 8 rfl rfl)
theorem dJ1_hash_9 : decode cJ1_hash 9 = .ok (.invokevirtual 1, 3) := dk_182 0 1 (dk_at dksJ1_hash_0 9 rfl rfl)
theorem dJ1_hash_12 : decode cJ1_hash 12 = .ok (.dup, 1) := dk_89 (dk_at dksJ1_hash_0 12 rfl rfl)
theorem dJ1_hash_13 : decode cJ1_hash 13 = .ok (.istore_n 1, 1) := dk_60 (dk_at dksJ1_hash_0 13 rfl rfl)
theorem dJ1_hash_14 : decode cJ1_hash 14 = .ok (.iload_n 1, 1) := dk_27 (dk_at dksJ1_hash_0 14 rfl rfl)
theorem dJ1_hash_15 : decode cJ1_hash 15 = .ok (.bipush 16, 2) := dk_16 16 (dk_at dksJ1_hash_0 15 rfl rfl)
theorem dJ1_hash_17 : decode cJ1_hash 17 = .ok (.iushr, 1) := dk_124 (dk_at dksJ1_hash_0 17 rfl rfl)
theorem dJ1_hash_18 : decode cJ1_hash 18 = .ok (.ixor, 1) := dk_130 (dk_at dksJ1_hash_0 18 rfl rfl)
theorem dJ1_hash_19 : decode cJ1_hash 19 = .ok (.ireturn, 1) := dk_172 (dk_at dksJ1_hash_0 19 rfl rfl)
abbrev cJ1_comparableClassFor : ByteArray := prog_52_method_2_code
def yJ1_comparableClassFor : MethodName := ⟨RJ1, "comparableClassFor", "(Ljava/lang/Object;)Ljava/lang/Class;"⟩
def dkwJ1_comparableClassFor_4 : List UInt8 := [4, 160, 0, 12, 45, 3, 50, 43, 166, 0, 5, 43, 176, 132, 7, 1, 167, 255, 186, 1, 176]
abbrev dktJ1_comparableClassFor_4 : List UInt8 := dkwJ1_comparableClassFor_4 ++ []
def dkwJ1_comparableClassFor_3 : List UInt8 := [185, 0, 23, 1, 0, 18, 7, 166, 0, 30, 25, 4, 185, 0, 27, 1, 0, 89, 78, 198, 0, 18, 45, 190]
abbrev dktJ1_comparableClassFor_3 : List UInt8 := dkwJ1_comparableClassFor_3 ++ dktJ1_comparableClassFor_4
def dkwJ1_comparableClassFor_2 : List UInt8 := [25, 5, 21, 7, 50, 58, 8, 25, 8, 193, 0, 21, 153, 0, 48, 25, 8, 192, 0, 21, 89, 58, 4]
abbrev dktJ1_comparableClassFor_2 : List UInt8 := dkwJ1_comparableClassFor_2 ++ dktJ1_comparableClassFor_3
def dkwJ1_comparableClassFor_1 : List UInt8 := [89, 77, 198, 0, 87, 44, 58, 5, 25, 5, 190, 54, 6, 3, 54, 7, 21, 7, 21, 6, 162, 0, 69]
abbrev dktJ1_comparableClassFor_1 : List UInt8 := dkwJ1_comparableClassFor_1 ++ dktJ1_comparableClassFor_2
def dkwJ1_comparableClassFor_0 : List UInt8 := [42, 193, 0, 7, 153, 0, 109, 42, 182, 0, 9, 89, 76, 18, 13, 166, 0, 5, 43, 176, 43, 182, 0, 15]
abbrev dktJ1_comparableClassFor_0 : List UInt8 := dkwJ1_comparableClassFor_0 ++ dktJ1_comparableClassFor_1
theorem dksJ1_comparableClassFor_0 : cJ1_comparableClassFor.data.toList.drop 0 = dktJ1_comparableClassFor_0 := by decide +kernel
theorem dksJ1_comparableClassFor_1 : cJ1_comparableClassFor.data.toList.drop 24 = dktJ1_comparableClassFor_1 := dk_seg dksJ1_comparableClassFor_0 24 rfl rfl
theorem dksJ1_comparableClassFor_2 : cJ1_comparableClassFor.data.toList.drop 47 = dktJ1_comparableClassFor_2 := dk_seg dksJ1_comparableClassFor_1 23 rfl rfl
theorem dksJ1_comparableClassFor_3 : cJ1_comparableClassFor.data.toList.drop 70 = dktJ1_comparableClassFor_3 := dk_seg dksJ1_comparableClassFor_2 23 rfl rfl
theorem dksJ1_comparableClassFor_4 : cJ1_comparableClassFor.data.toList.drop 94 = dktJ1_comparableClassFor_4 := dk_seg dksJ1_comparableClassFor_3 24 rfl rfl
theorem dJ1_comparableClassFor_0 : decode cJ1_comparableClassFor 0 = .ok (.aload_n 0, 1) := dk_42 (dk_at dksJ1_comparableClassFor_0 0 rfl rfl)
theorem dJ1_comparableClassFor_1 : decode cJ1_comparableClassFor 1 = .ok (.instanceof 7, 3) := dk_193 0 7 (dk_at dksJ1_comparableClassFor_0 1 rfl rfl)
theorem dJ1_comparableClassFor_4 : decode cJ1_comparableClassFor 4 = .ok (.ifCond .eq 109, 3) := dk_153 0 109 (dk_at dksJ1_comparableClassFor_0 4 rfl rfl)
theorem dJ1_comparableClassFor_7 : decode cJ1_comparableClassFor 7 = .ok (.aload_n 0, 1) := dk_42 (dk_at dksJ1_comparableClassFor_0 7 rfl rfl)
theorem dJ1_comparableClassFor_8 : decode cJ1_comparableClassFor 8 = .ok (.invokevirtual 9, 3) := dk_182 0 9 (dk_at dksJ1_comparableClassFor_0 8 rfl rfl)
theorem dJ1_comparableClassFor_11 : decode cJ1_comparableClassFor 11 = .ok (.dup, 1) := dk_89 (dk_at dksJ1_comparableClassFor_0 11 rfl rfl)
theorem dJ1_comparableClassFor_12 : decode cJ1_comparableClassFor 12 = .ok (.astore_n 1, 1) := dk_76 (dk_at dksJ1_comparableClassFor_0 12 rfl rfl)
theorem dJ1_comparableClassFor_13 : decode cJ1_comparableClassFor 13 = .ok (.ldc 13, 2) := dk_18 13 (dk_at dksJ1_comparableClassFor_0 13 rfl rfl)
theorem dJ1_comparableClassFor_15 : decode cJ1_comparableClassFor 15 = .ok (.if_acmp .ne 5, 3) := dk_166 0 5 (dk_at dksJ1_comparableClassFor_0 15 rfl rfl)
theorem dJ1_comparableClassFor_18 : decode cJ1_comparableClassFor 18 = .ok (.aload_n 1, 1) := dk_43 (dk_at dksJ1_comparableClassFor_0 18 rfl rfl)
theorem dJ1_comparableClassFor_19 : decode cJ1_comparableClassFor 19 = .ok (.areturn, 1) := dk_176 (dk_at dksJ1_comparableClassFor_0 19 rfl rfl)
theorem dJ1_comparableClassFor_20 : decode cJ1_comparableClassFor 20 = .ok (.aload_n 1, 1) := dk_43 (dk_at dksJ1_comparableClassFor_0 20 rfl rfl)
theorem dJ1_comparableClassFor_21 : decode cJ1_comparableClassFor 21 = .ok (.invokevirtual 15, 3) := dk_182 0 15 (dk_at dksJ1_comparableClassFor_0 21 rfl rfl)
theorem dJ1_comparableClassFor_24 : decode cJ1_comparableClassFor 24 = .ok (.dup, 1) := dk_89 (dk_at dksJ1_comparableClassFor_1 0 rfl rfl)
theorem dJ1_comparableClassFor_25 : decode cJ1_comparableClassFor 25 = .ok (.astore_n 2, 1) := dk_77 (dk_at dksJ1_comparableClassFor_1 1 rfl rfl)
theorem dJ1_comparableClassFor_26 : decode cJ1_comparableClassFor 26 = .ok (.ifnull 87, 3) := dk_198 0 87 (dk_at dksJ1_comparableClassFor_1 2 rfl rfl)
theorem dJ1_comparableClassFor_29 : decode cJ1_comparableClassFor 29 = .ok (.aload_n 2, 1) := dk_44 (dk_at dksJ1_comparableClassFor_1 5 rfl rfl)
theorem dJ1_comparableClassFor_30 : decode cJ1_comparableClassFor 30 = .ok (.astore 5, 2) := dk_58 5 (dk_at dksJ1_comparableClassFor_1 6 rfl rfl)
theorem dJ1_comparableClassFor_32 : decode cJ1_comparableClassFor 32 = .ok (.aload 5, 2) := dk_25 5 (dk_at dksJ1_comparableClassFor_1 8 rfl rfl)
theorem dJ1_comparableClassFor_34 : decode cJ1_comparableClassFor 34 = .ok (.arraylength, 1) := dk_190 (dk_at dksJ1_comparableClassFor_1 10 rfl rfl)
theorem dJ1_comparableClassFor_35 : decode cJ1_comparableClassFor 35 = .ok (.istore 6, 2) := dk_54 6 (dk_at dksJ1_comparableClassFor_1 11 rfl rfl)
theorem dJ1_comparableClassFor_37 : decode cJ1_comparableClassFor 37 = .ok (.iconst 0, 1) := dk_3 (dk_at dksJ1_comparableClassFor_1 13 rfl rfl)
theorem dJ1_comparableClassFor_38 : decode cJ1_comparableClassFor 38 = .ok (.istore 7, 2) := dk_54 7 (dk_at dksJ1_comparableClassFor_1 14 rfl rfl)
theorem dJ1_comparableClassFor_40 : decode cJ1_comparableClassFor 40 = .ok (.iload 7, 2) := dk_21 7 (dk_at dksJ1_comparableClassFor_1 16 rfl rfl)
theorem dJ1_comparableClassFor_42 : decode cJ1_comparableClassFor 42 = .ok (.iload 6, 2) := dk_21 6 (dk_at dksJ1_comparableClassFor_1 18 rfl rfl)
theorem dJ1_comparableClassFor_44 : decode cJ1_comparableClassFor 44 = .ok (.if_icmp .ge 69, 3) := dk_162 0 69 (dk_at dksJ1_comparableClassFor_1 20 rfl rfl)
theorem dJ1_comparableClassFor_47 : decode cJ1_comparableClassFor 47 = .ok (.aload 5, 2) := dk_25 5 (dk_at dksJ1_comparableClassFor_2 0 rfl rfl)
theorem dJ1_comparableClassFor_49 : decode cJ1_comparableClassFor 49 = .ok (.iload 7, 2) := dk_21 7 (dk_at dksJ1_comparableClassFor_2 2 rfl rfl)
theorem dJ1_comparableClassFor_51 : decode cJ1_comparableClassFor 51 = .ok (.aaload, 1) := dk_50 (dk_at dksJ1_comparableClassFor_2 4 rfl rfl)
theorem dJ1_comparableClassFor_52 : decode cJ1_comparableClassFor 52 = .ok (.astore 8, 2) := dk_58 8 (dk_at dksJ1_comparableClassFor_2 5 rfl rfl)
theorem dJ1_comparableClassFor_54 : decode cJ1_comparableClassFor 54 = .ok (.aload 8, 2) := dk_25 8 (dk_at dksJ1_comparableClassFor_2 7 rfl rfl)
theorem dJ1_comparableClassFor_56 : decode cJ1_comparableClassFor 56 = .ok (.instanceof 21, 3) := dk_193 0 21 (dk_at dksJ1_comparableClassFor_2 9 rfl rfl)
theorem dJ1_comparableClassFor_59 : decode cJ1_comparableClassFor 59 = .ok (.ifCond .eq 48, 3) := dk_153 0 48 (dk_at dksJ1_comparableClassFor_2 12 rfl rfl)
theorem dJ1_comparableClassFor_62 : decode cJ1_comparableClassFor 62 = .ok (.aload 8, 2) := dk_25 8 (dk_at dksJ1_comparableClassFor_2 15 rfl rfl)
theorem dJ1_comparableClassFor_64 : decode cJ1_comparableClassFor 64 = .ok (.checkcast 21, 3) := dk_192 0 21 (dk_at dksJ1_comparableClassFor_2 17 rfl rfl)
theorem dJ1_comparableClassFor_67 : decode cJ1_comparableClassFor 67 = .ok (.dup, 1) := dk_89 (dk_at dksJ1_comparableClassFor_2 20 rfl rfl)
theorem dJ1_comparableClassFor_68 : decode cJ1_comparableClassFor 68 = .ok (.astore 4, 2) := dk_58 4 (dk_at dksJ1_comparableClassFor_2 21 rfl rfl)
theorem dJ1_comparableClassFor_70 : decode cJ1_comparableClassFor 70 = .ok (.invokeinterface 23 1, 5) := by decide +kernel
theorem dJ1_comparableClassFor_75 : decode cJ1_comparableClassFor 75 = .ok (.ldc 7, 2) := dk_18 7 (dk_at dksJ1_comparableClassFor_3 5 rfl rfl)
theorem dJ1_comparableClassFor_77 : decode cJ1_comparableClassFor 77 = .ok (.if_acmp .ne 30, 3) := dk_166 0 30 (dk_at dksJ1_comparableClassFor_3 7 rfl rfl)
theorem dJ1_comparableClassFor_80 : decode cJ1_comparableClassFor 80 = .ok (.aload 4, 2) := dk_25 4 (dk_at dksJ1_comparableClassFor_3 10 rfl rfl)
theorem dJ1_comparableClassFor_82 : decode cJ1_comparableClassFor 82 = .ok (.invokeinterface 27 1, 5) := by decide +kernel
theorem dJ1_comparableClassFor_87 : decode cJ1_comparableClassFor 87 = .ok (.dup, 1) := dk_89 (dk_at dksJ1_comparableClassFor_3 17 rfl rfl)
theorem dJ1_comparableClassFor_88 : decode cJ1_comparableClassFor 88 = .ok (.astore_n 3, 1) := dk_78 (dk_at dksJ1_comparableClassFor_3 18 rfl rfl)
theorem dJ1_comparableClassFor_89 : decode cJ1_comparableClassFor 89 = .ok (.ifnull 18, 3) := dk_198 0 18 (dk_at dksJ1_comparableClassFor_3 19 rfl rfl)
theorem dJ1_comparableClassFor_92 : decode cJ1_comparableClassFor 92 = .ok (.aload_n 3, 1) := dk_45 (dk_at dksJ1_comparableClassFor_3 22 rfl rfl)
theorem dJ1_comparableClassFor_93 : decode cJ1_comparableClassFor 93 = .ok (.arraylength, 1) := dk_190 (dk_at dksJ1_comparableClassFor_3 23 rfl rfl)
theorem dJ1_comparableClassFor_94 : decode cJ1_comparableClassFor 94 = .ok (.iconst 1, 1) := dk_4 (dk_at dksJ1_comparableClassFor_4 0 rfl rfl)
theorem dJ1_comparableClassFor_95 : decode cJ1_comparableClassFor 95 = .ok (.if_icmp .ne 12, 3) := dk_160 0 12 (dk_at dksJ1_comparableClassFor_4 1 rfl rfl)
theorem dJ1_comparableClassFor_98 : decode cJ1_comparableClassFor 98 = .ok (.aload_n 3, 1) := dk_45 (dk_at dksJ1_comparableClassFor_4 4 rfl rfl)
theorem dJ1_comparableClassFor_99 : decode cJ1_comparableClassFor 99 = .ok (.iconst 0, 1) := dk_3 (dk_at dksJ1_comparableClassFor_4 5 rfl rfl)
theorem dJ1_comparableClassFor_100 : decode cJ1_comparableClassFor 100 = .ok (.aaload, 1) := dk_50 (dk_at dksJ1_comparableClassFor_4 6 rfl rfl)
theorem dJ1_comparableClassFor_101 : decode cJ1_comparableClassFor 101 = .ok (.aload_n 1, 1) := dk_43 (dk_at dksJ1_comparableClassFor_4 7 rfl rfl)
theorem dJ1_comparableClassFor_102 : decode cJ1_comparableClassFor 102 = .ok (.if_acmp .ne 5, 3) := dk_166 0 5 (dk_at dksJ1_comparableClassFor_4 8 rfl rfl)
theorem dJ1_comparableClassFor_105 : decode cJ1_comparableClassFor 105 = .ok (.aload_n 1, 1) := dk_43 (dk_at dksJ1_comparableClassFor_4 11 rfl rfl)
theorem dJ1_comparableClassFor_106 : decode cJ1_comparableClassFor 106 = .ok (.areturn, 1) := dk_176 (dk_at dksJ1_comparableClassFor_4 12 rfl rfl)
theorem dJ1_comparableClassFor_107 : decode cJ1_comparableClassFor 107 = .ok (.iinc 7 1, 3) := dk_132 7 1 (dk_at dksJ1_comparableClassFor_4 13 rfl rfl)
theorem dJ1_comparableClassFor_110 : decode cJ1_comparableClassFor 110 = .ok (.goto (-70), 3) := dk_167 255 186 (dk_at dksJ1_comparableClassFor_4 16 rfl rfl)
theorem dJ1_comparableClassFor_113 : decode cJ1_comparableClassFor 113 = .ok (.aconst_null, 1) := dk_1 (dk_at dksJ1_comparableClassFor_4 19 rfl rfl)
theorem dJ1_comparableClassFor_114 : decode cJ1_comparableClassFor 114 = .ok (.areturn, 1) := dk_176 (dk_at dksJ1_comparableClassFor_4 20 rfl rfl)
abbrev cJ1_compareComparables : ByteArray := prog_52_method_3_code
def yJ1_compareComparables : MethodName := ⟨RJ1, "compareComparables", "(Ljava/lang/Class;Ljava/lang/Object;Ljava/lang/Object;)I"⟩
def dkwJ1_compareComparables_1 : List UInt8 := [185, 0, 30, 2, 0, 172]
abbrev dktJ1_compareComparables_1 : List UInt8 := dkwJ1_compareComparables_1 ++ []
def dkwJ1_compareComparables_0 : List UInt8 := [44, 198, 0, 11, 44, 182, 0, 9, 42, 165, 0, 7, 3, 167, 0, 13, 43, 192, 0, 7, 44]
abbrev dktJ1_compareComparables_0 : List UInt8 := dkwJ1_compareComparables_0 ++ dktJ1_compareComparables_1
theorem dksJ1_compareComparables_0 : cJ1_compareComparables.data.toList.drop 0 = dktJ1_compareComparables_0 := by decide +kernel
theorem dksJ1_compareComparables_1 : cJ1_compareComparables.data.toList.drop 21 = dktJ1_compareComparables_1 := dk_seg dksJ1_compareComparables_0 21 rfl rfl
theorem dJ1_compareComparables_0 : decode cJ1_compareComparables 0 = .ok (.aload_n 2, 1) := dk_44 (dk_at dksJ1_compareComparables_0 0 rfl rfl)
theorem dJ1_compareComparables_1 : decode cJ1_compareComparables 1 = .ok (.ifnull 11, 3) := dk_198 0 11 (dk_at dksJ1_compareComparables_0 1 rfl rfl)
theorem dJ1_compareComparables_4 : decode cJ1_compareComparables 4 = .ok (.aload_n 2, 1) := dk_44 (dk_at dksJ1_compareComparables_0 4 rfl rfl)
theorem dJ1_compareComparables_5 : decode cJ1_compareComparables 5 = .ok (.invokevirtual 9, 3) := dk_182 0 9 (dk_at dksJ1_compareComparables_0 5 rfl rfl)
theorem dJ1_compareComparables_8 : decode cJ1_compareComparables 8 = .ok (.aload_n 0, 1) := dk_42 (dk_at dksJ1_compareComparables_0 8 rfl rfl)
theorem dJ1_compareComparables_9 : decode cJ1_compareComparables 9 = .ok (.if_acmp .eq 7, 3) := dk_165 0 7 (dk_at dksJ1_compareComparables_0 9 rfl rfl)
theorem dJ1_compareComparables_12 : decode cJ1_compareComparables 12 = .ok (.iconst 0, 1) := dk_3 (dk_at dksJ1_compareComparables_0 12 rfl rfl)
theorem dJ1_compareComparables_13 : decode cJ1_compareComparables 13 = .ok (.goto 13, 3) := dk_167 0 13 (dk_at dksJ1_compareComparables_0 13 rfl rfl)
theorem dJ1_compareComparables_16 : decode cJ1_compareComparables 16 = .ok (.aload_n 1, 1) := dk_43 (dk_at dksJ1_compareComparables_0 16 rfl rfl)
theorem dJ1_compareComparables_17 : decode cJ1_compareComparables 17 = .ok (.checkcast 7, 3) := dk_192 0 7 (dk_at dksJ1_compareComparables_0 17 rfl rfl)
theorem dJ1_compareComparables_20 : decode cJ1_compareComparables 20 = .ok (.aload_n 2, 1) := dk_44 (dk_at dksJ1_compareComparables_0 20 rfl rfl)
theorem dJ1_compareComparables_21 : decode cJ1_compareComparables 21 = .ok (.invokeinterface 30 2, 5) := by decide +kernel
theorem dJ1_compareComparables_26 : decode cJ1_compareComparables 26 = .ok (.ireturn, 1) := dk_172 (dk_at dksJ1_compareComparables_1 5 rfl rfl)
abbrev cJ1_put : ByteArray := prog_52_method_15_code
def yJ1_put : MethodName := ⟨RJ1, "put", "(Ljava/lang/Object;Ljava/lang/Object;)Ljava/lang/Object;"⟩
def dkwJ1_put_0 : List UInt8 := [42, 43, 184, 0, 149, 43, 44, 3, 4, 182, 0, 152, 176]
abbrev dktJ1_put_0 : List UInt8 := dkwJ1_put_0 ++ []
theorem dksJ1_put_0 : cJ1_put.data.toList.drop 0 = dktJ1_put_0 := by decide +kernel
theorem dJ1_put_0 : decode cJ1_put 0 = .ok (.aload_n 0, 1) := dk_42 (dk_at dksJ1_put_0 0 rfl rfl)
theorem dJ1_put_1 : decode cJ1_put 1 = .ok (.aload_n 1, 1) := dk_43 (dk_at dksJ1_put_0 1 rfl rfl)
theorem dJ1_put_2 : decode cJ1_put 2 = .ok (.invokestatic 149, 3) := dk_184 0 149 (dk_at dksJ1_put_0 2 rfl rfl)
theorem dJ1_put_5 : decode cJ1_put 5 = .ok (.aload_n 1, 1) := dk_43 (dk_at dksJ1_put_0 5 rfl rfl)
theorem dJ1_put_6 : decode cJ1_put 6 = .ok (.aload_n 2, 1) := dk_44 (dk_at dksJ1_put_0 6 rfl rfl)
theorem dJ1_put_7 : decode cJ1_put 7 = .ok (.iconst 0, 1) := dk_3 (dk_at dksJ1_put_0 7 rfl rfl)
theorem dJ1_put_8 : decode cJ1_put 8 = .ok (.iconst 1, 1) := dk_4 (dk_at dksJ1_put_0 8 rfl rfl)
theorem dJ1_put_9 : decode cJ1_put 9 = .ok (.invokevirtual 152, 3) := dk_182 0 152 (dk_at dksJ1_put_0 9 rfl rfl)
theorem dJ1_put_12 : decode cJ1_put 12 = .ok (.areturn, 1) := dk_176 (dk_at dksJ1_put_0 12 rfl rfl)
abbrev cJ1_putVal : ByteArray := prog_52_method_16_code
def yJ1_putVal : MethodName := ⟨RJ1, "putVal", "(ILjava/lang/Object;Ljava/lang/Object;ZZ)Ljava/lang/Object;"⟩
def dkwJ1_putVal_12 : List UInt8 := [181, 0, 156, 42, 180, 0, 88, 164, 0, 8, 42, 182, 0, 117, 87, 42, 21, 5, 182, 0, 205, 1, 176]
abbrev dktJ1_putVal_12 : List UInt8 := dkwJ1_putVal_12 ++ []
def dkwJ1_putVal_11 : List UInt8 := [182, 0, 198, 25, 12, 176, 42, 89, 180, 0, 202, 4, 96, 181, 0, 202, 42, 89, 180, 0, 156, 4, 96, 90]
abbrev dktJ1_putVal_11 : List UInt8 := dkwJ1_putVal_11 ++ dktJ1_putVal_12
def dkwJ1_putVal_10 : List UInt8 := [180, 0, 162, 58, 12, 21, 4, 153, 0, 8, 25, 12, 199, 0, 9, 25, 10, 45, 181, 0, 162, 42, 25, 10]
abbrev dktJ1_putVal_10 : List UInt8 := dkwJ1_putVal_10 ++ dktJ1_putVal_11
def dkwJ1_putVal_9 : List UInt8 := [153, 0, 6, 167, 0, 13, 25, 10, 58, 7, 132, 12, 1, 167, 255, 171, 25, 10, 198, 0, 35, 25, 10]
abbrev dktJ1_putVal_9 : List UInt8 := dkwJ1_putVal_9 ++ dktJ1_putVal_10
def dkwJ1_putVal_8 : List UInt8 := [25, 10, 180, 0, 170, 89, 58, 11, 44, 165, 0, 29, 44, 198, 0, 15, 44, 25, 11, 182, 0, 173]
abbrev dktJ1_putVal_8 : List UInt8 := dkwJ1_putVal_8 ++ dktJ1_putVal_9
def dkwJ1_putVal_7 : List UInt8 := [16, 7, 161, 0, 60, 42, 25, 6, 27, 182, 0, 194, 167, 0, 50, 25, 10, 180, 0, 168, 27, 160, 0, 31]
abbrev dktJ1_putVal_7 : List UInt8 := dkwJ1_putVal_7 ++ dktJ1_putVal_8
def dkwJ1_putVal_6 : List UInt8 := [180, 0, 177, 89, 58, 10, 199, 0, 33, 25, 7, 42, 27, 44, 45, 1, 182, 0, 186, 181, 0, 177, 21, 12]
abbrev dktJ1_putVal_6 : List UInt8 := dkwJ1_putVal_6 ++ dktJ1_putVal_7
def dkwJ1_putVal_5 : List UInt8 := [192, 0, 180, 42, 25, 6, 27, 44, 45, 182, 0, 190, 58, 10, 167, 0, 94, 3, 54, 12, 25, 7]
abbrev dktJ1_putVal_5 : List UInt8 := dkwJ1_putVal_5 ++ dktJ1_putVal_6
def dkwJ1_putVal_4 : List UInt8 := [182, 0, 173, 153, 0, 10, 25, 7, 58, 10, 167, 0, 121, 25, 7, 193, 0, 180, 153, 0, 22, 25, 7]
abbrev dktJ1_putVal_4 : List UInt8 := dkwJ1_putVal_4 ++ dktJ1_putVal_5
def dkwJ1_putVal_3 : List UInt8 := [160, 0, 35, 25, 7, 180, 0, 170, 89, 58, 11, 44, 165, 0, 16, 44, 198, 0, 19, 44, 25, 11]
abbrev dktJ1_putVal_3 : List UInt8 := dkwJ1_putVal_3 ++ dktJ1_putVal_4
def dkwJ1_putVal_2 : List UInt8 := [25, 6, 21, 9, 42, 27, 44, 45, 1, 182, 0, 186, 83, 167, 0, 199, 25, 7, 180, 0, 168, 27]
abbrev dktJ1_putVal_2 : List UInt8 := dkwJ1_putVal_2 ++ dktJ1_putVal_3
def dkwJ1_putVal_1 : List UInt8 := [58, 6, 190, 54, 8, 25, 6, 21, 8, 4, 100, 27, 126, 89, 54, 9, 50, 89, 58, 7, 199, 0, 19]
abbrev dktJ1_putVal_1 : List UInt8 := dkwJ1_putVal_1 ++ dktJ1_putVal_2
def dkwJ1_putVal_0 : List UInt8 := [42, 180, 0, 105, 89, 58, 6, 198, 0, 12, 25, 6, 190, 89, 54, 8, 154, 0, 13, 42, 182, 0, 117, 89]
abbrev dktJ1_putVal_0 : List UInt8 := dkwJ1_putVal_0 ++ dktJ1_putVal_1
theorem dksJ1_putVal_0 : cJ1_putVal.data.toList.drop 0 = dktJ1_putVal_0 := by decide +kernel
theorem dksJ1_putVal_1 : cJ1_putVal.data.toList.drop 24 = dktJ1_putVal_1 := dk_seg dksJ1_putVal_0 24 rfl rfl
theorem dksJ1_putVal_2 : cJ1_putVal.data.toList.drop 47 = dktJ1_putVal_2 := dk_seg dksJ1_putVal_1 23 rfl rfl
theorem dksJ1_putVal_3 : cJ1_putVal.data.toList.drop 69 = dktJ1_putVal_3 := dk_seg dksJ1_putVal_2 22 rfl rfl
theorem dksJ1_putVal_4 : cJ1_putVal.data.toList.drop 91 = dktJ1_putVal_4 := dk_seg dksJ1_putVal_3 22 rfl rfl
theorem dksJ1_putVal_5 : cJ1_putVal.data.toList.drop 114 = dktJ1_putVal_5 := dk_seg dksJ1_putVal_4 23 rfl rfl
theorem dksJ1_putVal_6 : cJ1_putVal.data.toList.drop 136 = dktJ1_putVal_6 := dk_seg dksJ1_putVal_5 22 rfl rfl
theorem dksJ1_putVal_7 : cJ1_putVal.data.toList.drop 160 = dktJ1_putVal_7 := dk_seg dksJ1_putVal_6 24 rfl rfl
theorem dksJ1_putVal_8 : cJ1_putVal.data.toList.drop 184 = dktJ1_putVal_8 := dk_seg dksJ1_putVal_7 24 rfl rfl
theorem dksJ1_putVal_9 : cJ1_putVal.data.toList.drop 206 = dktJ1_putVal_9 := dk_seg dksJ1_putVal_8 22 rfl rfl
theorem dksJ1_putVal_10 : cJ1_putVal.data.toList.drop 229 = dktJ1_putVal_10 := dk_seg dksJ1_putVal_9 23 rfl rfl
theorem dksJ1_putVal_11 : cJ1_putVal.data.toList.drop 253 = dktJ1_putVal_11 := dk_seg dksJ1_putVal_10 24 rfl rfl
theorem dksJ1_putVal_12 : cJ1_putVal.data.toList.drop 277 = dktJ1_putVal_12 := dk_seg dksJ1_putVal_11 24 rfl rfl
theorem dJ1_putVal_0 : decode cJ1_putVal 0 = .ok (.aload_n 0, 1) := dk_42 (dk_at dksJ1_putVal_0 0 rfl rfl)
theorem dJ1_putVal_1 : decode cJ1_putVal 1 = .ok (.getfield 105, 3) := dk_180 0 105 (dk_at dksJ1_putVal_0 1 rfl rfl)
theorem dJ1_putVal_4 : decode cJ1_putVal 4 = .ok (.dup, 1) := dk_89 (dk_at dksJ1_putVal_0 4 rfl rfl)
theorem dJ1_putVal_5 : decode cJ1_putVal 5 = .ok (.astore 6, 2) := dk_58 6 (dk_at dksJ1_putVal_0 5 rfl rfl)
theorem dJ1_putVal_7 : decode cJ1_putVal 7 = .ok (.ifnull 12, 3) := dk_198 0 12 (dk_at dksJ1_putVal_0 7 rfl rfl)
theorem dJ1_putVal_10 : decode cJ1_putVal 10 = .ok (.aload 6, 2) := dk_25 6 (dk_at dksJ1_putVal_0 10 rfl rfl)
theorem dJ1_putVal_12 : decode cJ1_putVal 12 = .ok (.arraylength, 1) := dk_190 (dk_at dksJ1_putVal_0 12 rfl rfl)
theorem dJ1_putVal_13 : decode cJ1_putVal 13 = .ok (.dup, 1) := dk_89 (dk_at dksJ1_putVal_0 13 rfl rfl)
theorem dJ1_putVal_14 : decode cJ1_putVal 14 = .ok (.istore 8, 2) := dk_54 8 (dk_at dksJ1_putVal_0 14 rfl rfl)
theorem dJ1_putVal_16 : decode cJ1_putVal 16 = .ok (.ifCond .ne 13, 3) := dk_154 0 13 (dk_at dksJ1_putVal_0 16 rfl rfl)
theorem dJ1_putVal_19 : decode cJ1_putVal 19 = .ok (.aload_n 0, 1) := dk_42 (dk_at dksJ1_putVal_0 19 rfl rfl)
theorem dJ1_putVal_20 : decode cJ1_putVal 20 = .ok (.invokevirtual 117, 3) := dk_182 0 117 (dk_at dksJ1_putVal_0 20 rfl rfl)
theorem dJ1_putVal_23 : decode cJ1_putVal 23 = .ok (.dup, 1) := dk_89 (dk_at dksJ1_putVal_0 23 rfl rfl)
theorem dJ1_putVal_24 : decode cJ1_putVal 24 = .ok (.astore 6, 2) := dk_58 6 (dk_at dksJ1_putVal_1 0 rfl rfl)
theorem dJ1_putVal_26 : decode cJ1_putVal 26 = .ok (.arraylength, 1) := dk_190 (dk_at dksJ1_putVal_1 2 rfl rfl)
theorem dJ1_putVal_27 : decode cJ1_putVal 27 = .ok (.istore 8, 2) := dk_54 8 (dk_at dksJ1_putVal_1 3 rfl rfl)
theorem dJ1_putVal_29 : decode cJ1_putVal 29 = .ok (.aload 6, 2) := dk_25 6 (dk_at dksJ1_putVal_1 5 rfl rfl)
theorem dJ1_putVal_31 : decode cJ1_putVal 31 = .ok (.iload 8, 2) := dk_21 8 (dk_at dksJ1_putVal_1 7 rfl rfl)
theorem dJ1_putVal_33 : decode cJ1_putVal 33 = .ok (.iconst 1, 1) := dk_4 (dk_at dksJ1_putVal_1 9 rfl rfl)
theorem dJ1_putVal_34 : decode cJ1_putVal 34 = .ok (.isub, 1) := dk_100 (dk_at dksJ1_putVal_1 10 rfl rfl)
theorem dJ1_putVal_35 : decode cJ1_putVal 35 = .ok (.iload_n 1, 1) := dk_27 (dk_at dksJ1_putVal_1 11 rfl rfl)
theorem dJ1_putVal_36 : decode cJ1_putVal 36 = .ok (.iand, 1) := dk_126 (dk_at dksJ1_putVal_1 12 rfl rfl)
theorem dJ1_putVal_37 : decode cJ1_putVal 37 = .ok (.dup, 1) := dk_89 (dk_at dksJ1_putVal_1 13 rfl rfl)
theorem dJ1_putVal_38 : decode cJ1_putVal 38 = .ok (.istore 9, 2) := dk_54 9 (dk_at dksJ1_putVal_1 14 rfl rfl)
theorem dJ1_putVal_40 : decode cJ1_putVal 40 = .ok (.aaload, 1) := dk_50 (dk_at dksJ1_putVal_1 16 rfl rfl)
theorem dJ1_putVal_41 : decode cJ1_putVal 41 = .ok (.dup, 1) := dk_89 (dk_at dksJ1_putVal_1 17 rfl rfl)
theorem dJ1_putVal_42 : decode cJ1_putVal 42 = .ok (.astore 7, 2) := dk_58 7 (dk_at dksJ1_putVal_1 18 rfl rfl)
theorem dJ1_putVal_44 : decode cJ1_putVal 44 = .ok (.ifnonnull 19, 3) := dk_199 0 19 (dk_at dksJ1_putVal_1 20 rfl rfl)
theorem dJ1_putVal_47 : decode cJ1_putVal 47 = .ok (.aload 6, 2) := dk_25 6 (dk_at dksJ1_putVal_2 0 rfl rfl)
theorem dJ1_putVal_49 : decode cJ1_putVal 49 = .ok (.iload 9, 2) := dk_21 9 (dk_at dksJ1_putVal_2 2 rfl rfl)
theorem dJ1_putVal_51 : decode cJ1_putVal 51 = .ok (.aload_n 0, 1) := dk_42 (dk_at dksJ1_putVal_2 4 rfl rfl)
theorem dJ1_putVal_52 : decode cJ1_putVal 52 = .ok (.iload_n 1, 1) := dk_27 (dk_at dksJ1_putVal_2 5 rfl rfl)
theorem dJ1_putVal_53 : decode cJ1_putVal 53 = .ok (.aload_n 2, 1) := dk_44 (dk_at dksJ1_putVal_2 6 rfl rfl)
theorem dJ1_putVal_54 : decode cJ1_putVal 54 = .ok (.aload_n 3, 1) := dk_45 (dk_at dksJ1_putVal_2 7 rfl rfl)
theorem dJ1_putVal_55 : decode cJ1_putVal 55 = .ok (.aconst_null, 1) := dk_1 (dk_at dksJ1_putVal_2 8 rfl rfl)
theorem dJ1_putVal_56 : decode cJ1_putVal 56 = .ok (.invokevirtual 186, 3) := dk_182 0 186 (dk_at dksJ1_putVal_2 9 rfl rfl)
theorem dJ1_putVal_59 : decode cJ1_putVal 59 = .ok (.aastore, 1) := dk_83 (dk_at dksJ1_putVal_2 12 rfl rfl)
theorem dJ1_putVal_60 : decode cJ1_putVal 60 = .ok (.goto 199, 3) := dk_167 0 199 (dk_at dksJ1_putVal_2 13 rfl rfl)
theorem dJ1_putVal_63 : decode cJ1_putVal 63 = .ok (.aload 7, 2) := dk_25 7 (dk_at dksJ1_putVal_2 16 rfl rfl)
theorem dJ1_putVal_65 : decode cJ1_putVal 65 = .ok (.getfield 168, 3) := dk_180 0 168 (dk_at dksJ1_putVal_2 18 rfl rfl)
theorem dJ1_putVal_68 : decode cJ1_putVal 68 = .ok (.iload_n 1, 1) := dk_27 (dk_at dksJ1_putVal_2 21 rfl rfl)
theorem dJ1_putVal_69 : decode cJ1_putVal 69 = .ok (.if_icmp .ne 35, 3) := dk_160 0 35 (dk_at dksJ1_putVal_3 0 rfl rfl)
theorem dJ1_putVal_72 : decode cJ1_putVal 72 = .ok (.aload 7, 2) := dk_25 7 (dk_at dksJ1_putVal_3 3 rfl rfl)
theorem dJ1_putVal_74 : decode cJ1_putVal 74 = .ok (.getfield 170, 3) := dk_180 0 170 (dk_at dksJ1_putVal_3 5 rfl rfl)
theorem dJ1_putVal_77 : decode cJ1_putVal 77 = .ok (.dup, 1) := dk_89 (dk_at dksJ1_putVal_3 8 rfl rfl)
theorem dJ1_putVal_78 : decode cJ1_putVal 78 = .ok (.astore 11, 2) := dk_58 11 (dk_at dksJ1_putVal_3 9 rfl rfl)
theorem dJ1_putVal_80 : decode cJ1_putVal 80 = .ok (.aload_n 2, 1) := dk_44 (dk_at dksJ1_putVal_3 11 rfl rfl)
theorem dJ1_putVal_81 : decode cJ1_putVal 81 = .ok (.if_acmp .eq 16, 3) := dk_165 0 16 (dk_at dksJ1_putVal_3 12 rfl rfl)
theorem dJ1_putVal_84 : decode cJ1_putVal 84 = .ok (.aload_n 2, 1) := dk_44 (dk_at dksJ1_putVal_3 15 rfl rfl)
theorem dJ1_putVal_85 : decode cJ1_putVal 85 = .ok (.ifnull 19, 3) := dk_198 0 19 (dk_at dksJ1_putVal_3 16 rfl rfl)
theorem dJ1_putVal_88 : decode cJ1_putVal 88 = .ok (.aload_n 2, 1) := dk_44 (dk_at dksJ1_putVal_3 19 rfl rfl)
theorem dJ1_putVal_89 : decode cJ1_putVal 89 = .ok (.aload 11, 2) := dk_25 11 (dk_at dksJ1_putVal_3 20 rfl rfl)
theorem dJ1_putVal_91 : decode cJ1_putVal 91 = .ok (.invokevirtual 173, 3) := dk_182 0 173 (dk_at dksJ1_putVal_4 0 rfl rfl)
theorem dJ1_putVal_94 : decode cJ1_putVal 94 = .ok (.ifCond .eq 10, 3) := dk_153 0 10 (dk_at dksJ1_putVal_4 3 rfl rfl)
theorem dJ1_putVal_97 : decode cJ1_putVal 97 = .ok (.aload 7, 2) := dk_25 7 (dk_at dksJ1_putVal_4 6 rfl rfl)
theorem dJ1_putVal_99 : decode cJ1_putVal 99 = .ok (.astore 10, 2) := dk_58 10 (dk_at dksJ1_putVal_4 8 rfl rfl)
theorem dJ1_putVal_101 : decode cJ1_putVal 101 = .ok (.goto 121, 3) := dk_167 0 121 (dk_at dksJ1_putVal_4 10 rfl rfl)
theorem dJ1_putVal_104 : decode cJ1_putVal 104 = .ok (.aload 7, 2) := dk_25 7 (dk_at dksJ1_putVal_4 13 rfl rfl)
theorem dJ1_putVal_106 : decode cJ1_putVal 106 = .ok (.instanceof 180, 3) := dk_193 0 180 (dk_at dksJ1_putVal_4 15 rfl rfl)
theorem dJ1_putVal_109 : decode cJ1_putVal 109 = .ok (.ifCond .eq 22, 3) := dk_153 0 22 (dk_at dksJ1_putVal_4 18 rfl rfl)
theorem dJ1_putVal_112 : decode cJ1_putVal 112 = .ok (.aload 7, 2) := dk_25 7 (dk_at dksJ1_putVal_4 21 rfl rfl)
theorem dJ1_putVal_114 : decode cJ1_putVal 114 = .ok (.checkcast 180, 3) := dk_192 0 180 (dk_at dksJ1_putVal_5 0 rfl rfl)
theorem dJ1_putVal_117 : decode cJ1_putVal 117 = .ok (.aload_n 0, 1) := dk_42 (dk_at dksJ1_putVal_5 3 rfl rfl)
theorem dJ1_putVal_118 : decode cJ1_putVal 118 = .ok (.aload 6, 2) := dk_25 6 (dk_at dksJ1_putVal_5 4 rfl rfl)
theorem dJ1_putVal_120 : decode cJ1_putVal 120 = .ok (.iload_n 1, 1) := dk_27 (dk_at dksJ1_putVal_5 6 rfl rfl)
theorem dJ1_putVal_121 : decode cJ1_putVal 121 = .ok (.aload_n 2, 1) := dk_44 (dk_at dksJ1_putVal_5 7 rfl rfl)
theorem dJ1_putVal_122 : decode cJ1_putVal 122 = .ok (.aload_n 3, 1) := dk_45 (dk_at dksJ1_putVal_5 8 rfl rfl)
theorem dJ1_putVal_123 : decode cJ1_putVal 123 = .ok (.invokevirtual 190, 3) := dk_182 0 190 (dk_at dksJ1_putVal_5 9 rfl rfl)
theorem dJ1_putVal_126 : decode cJ1_putVal 126 = .ok (.astore 10, 2) := dk_58 10 (dk_at dksJ1_putVal_5 12 rfl rfl)
theorem dJ1_putVal_128 : decode cJ1_putVal 128 = .ok (.goto 94, 3) := dk_167 0 94 (dk_at dksJ1_putVal_5 14 rfl rfl)
theorem dJ1_putVal_131 : decode cJ1_putVal 131 = .ok (.iconst 0, 1) := dk_3 (dk_at dksJ1_putVal_5 17 rfl rfl)
theorem dJ1_putVal_132 : decode cJ1_putVal 132 = .ok (.istore 12, 2) := dk_54 12 (dk_at dksJ1_putVal_5 18 rfl rfl)
theorem dJ1_putVal_134 : decode cJ1_putVal 134 = .ok (.aload 7, 2) := dk_25 7 (dk_at dksJ1_putVal_5 20 rfl rfl)
theorem dJ1_putVal_136 : decode cJ1_putVal 136 = .ok (.getfield 177, 3) := dk_180 0 177 (dk_at dksJ1_putVal_6 0 rfl rfl)
theorem dJ1_putVal_139 : decode cJ1_putVal 139 = .ok (.dup, 1) := dk_89 (dk_at dksJ1_putVal_6 3 rfl rfl)
theorem dJ1_putVal_140 : decode cJ1_putVal 140 = .ok (.astore 10, 2) := dk_58 10 (dk_at dksJ1_putVal_6 4 rfl rfl)
theorem dJ1_putVal_142 : decode cJ1_putVal 142 = .ok (.ifnonnull 33, 3) := dk_199 0 33 (dk_at dksJ1_putVal_6 6 rfl rfl)
theorem dJ1_putVal_145 : decode cJ1_putVal 145 = .ok (.aload 7, 2) := dk_25 7 (dk_at dksJ1_putVal_6 9 rfl rfl)
theorem dJ1_putVal_147 : decode cJ1_putVal 147 = .ok (.aload_n 0, 1) := dk_42 (dk_at dksJ1_putVal_6 11 rfl rfl)
theorem dJ1_putVal_148 : decode cJ1_putVal 148 = .ok (.iload_n 1, 1) := dk_27 (dk_at dksJ1_putVal_6 12 rfl rfl)
theorem dJ1_putVal_149 : decode cJ1_putVal 149 = .ok (.aload_n 2, 1) := dk_44 (dk_at dksJ1_putVal_6 13 rfl rfl)
theorem dJ1_putVal_150 : decode cJ1_putVal 150 = .ok (.aload_n 3, 1) := dk_45 (dk_at dksJ1_putVal_6 14 rfl rfl)
theorem dJ1_putVal_151 : decode cJ1_putVal 151 = .ok (.aconst_null, 1) := dk_1 (dk_at dksJ1_putVal_6 15 rfl rfl)
theorem dJ1_putVal_152 : decode cJ1_putVal 152 = .ok (.invokevirtual 186, 3) := dk_182 0 186 (dk_at dksJ1_putVal_6 16 rfl rfl)
theorem dJ1_putVal_155 : decode cJ1_putVal 155 = .ok (.putfield 177, 3) := dk_181 0 177 (dk_at dksJ1_putVal_6 19 rfl rfl)
theorem dJ1_putVal_158 : decode cJ1_putVal 158 = .ok (.iload 12, 2) := dk_21 12 (dk_at dksJ1_putVal_6 22 rfl rfl)
theorem dJ1_putVal_160 : decode cJ1_putVal 160 = .ok (.bipush 7, 2) := dk_16 7 (dk_at dksJ1_putVal_7 0 rfl rfl)
theorem dJ1_putVal_162 : decode cJ1_putVal 162 = .ok (.if_icmp .lt 60, 3) := dk_161 0 60 (dk_at dksJ1_putVal_7 2 rfl rfl)
theorem dJ1_putVal_165 : decode cJ1_putVal 165 = .ok (.aload_n 0, 1) := dk_42 (dk_at dksJ1_putVal_7 5 rfl rfl)
theorem dJ1_putVal_166 : decode cJ1_putVal 166 = .ok (.aload 6, 2) := dk_25 6 (dk_at dksJ1_putVal_7 6 rfl rfl)
theorem dJ1_putVal_168 : decode cJ1_putVal 168 = .ok (.iload_n 1, 1) := dk_27 (dk_at dksJ1_putVal_7 8 rfl rfl)
theorem dJ1_putVal_169 : decode cJ1_putVal 169 = .ok (.invokevirtual 194, 3) := dk_182 0 194 (dk_at dksJ1_putVal_7 9 rfl rfl)
theorem dJ1_putVal_172 : decode cJ1_putVal 172 = .ok (.goto 50, 3) := dk_167 0 50 (dk_at dksJ1_putVal_7 12 rfl rfl)
theorem dJ1_putVal_175 : decode cJ1_putVal 175 = .ok (.aload 10, 2) := dk_25 10 (dk_at dksJ1_putVal_7 15 rfl rfl)
theorem dJ1_putVal_177 : decode cJ1_putVal 177 = .ok (.getfield 168, 3) := dk_180 0 168 (dk_at dksJ1_putVal_7 17 rfl rfl)
theorem dJ1_putVal_180 : decode cJ1_putVal 180 = .ok (.iload_n 1, 1) := dk_27 (dk_at dksJ1_putVal_7 20 rfl rfl)
theorem dJ1_putVal_181 : decode cJ1_putVal 181 = .ok (.if_icmp .ne 31, 3) := dk_160 0 31 (dk_at dksJ1_putVal_7 21 rfl rfl)
theorem dJ1_putVal_184 : decode cJ1_putVal 184 = .ok (.aload 10, 2) := dk_25 10 (dk_at dksJ1_putVal_8 0 rfl rfl)
theorem dJ1_putVal_186 : decode cJ1_putVal 186 = .ok (.getfield 170, 3) := dk_180 0 170 (dk_at dksJ1_putVal_8 2 rfl rfl)
theorem dJ1_putVal_189 : decode cJ1_putVal 189 = .ok (.dup, 1) := dk_89 (dk_at dksJ1_putVal_8 5 rfl rfl)
theorem dJ1_putVal_190 : decode cJ1_putVal 190 = .ok (.astore 11, 2) := dk_58 11 (dk_at dksJ1_putVal_8 6 rfl rfl)
theorem dJ1_putVal_192 : decode cJ1_putVal 192 = .ok (.aload_n 2, 1) := dk_44 (dk_at dksJ1_putVal_8 8 rfl rfl)
theorem dJ1_putVal_193 : decode cJ1_putVal 193 = .ok (.if_acmp .eq 29, 3) := dk_165 0 29 (dk_at dksJ1_putVal_8 9 rfl rfl)
theorem dJ1_putVal_196 : decode cJ1_putVal 196 = .ok (.aload_n 2, 1) := dk_44 (dk_at dksJ1_putVal_8 12 rfl rfl)
theorem dJ1_putVal_197 : decode cJ1_putVal 197 = .ok (.ifnull 15, 3) := dk_198 0 15 (dk_at dksJ1_putVal_8 13 rfl rfl)
theorem dJ1_putVal_200 : decode cJ1_putVal 200 = .ok (.aload_n 2, 1) := dk_44 (dk_at dksJ1_putVal_8 16 rfl rfl)
theorem dJ1_putVal_201 : decode cJ1_putVal 201 = .ok (.aload 11, 2) := dk_25 11 (dk_at dksJ1_putVal_8 17 rfl rfl)
theorem dJ1_putVal_203 : decode cJ1_putVal 203 = .ok (.invokevirtual 173, 3) := dk_182 0 173 (dk_at dksJ1_putVal_8 19 rfl rfl)
theorem dJ1_putVal_206 : decode cJ1_putVal 206 = .ok (.ifCond .eq 6, 3) := dk_153 0 6 (dk_at dksJ1_putVal_9 0 rfl rfl)
theorem dJ1_putVal_209 : decode cJ1_putVal 209 = .ok (.goto 13, 3) := dk_167 0 13 (dk_at dksJ1_putVal_9 3 rfl rfl)
theorem dJ1_putVal_212 : decode cJ1_putVal 212 = .ok (.aload 10, 2) := dk_25 10 (dk_at dksJ1_putVal_9 6 rfl rfl)
theorem dJ1_putVal_214 : decode cJ1_putVal 214 = .ok (.astore 7, 2) := dk_58 7 (dk_at dksJ1_putVal_9 8 rfl rfl)
theorem dJ1_putVal_216 : decode cJ1_putVal 216 = .ok (.iinc 12 1, 3) := dk_132 12 1 (dk_at dksJ1_putVal_9 10 rfl rfl)
theorem dJ1_putVal_219 : decode cJ1_putVal 219 = .ok (.goto (-85), 3) := dk_167 255 171 (dk_at dksJ1_putVal_9 13 rfl rfl)
theorem dJ1_putVal_222 : decode cJ1_putVal 222 = .ok (.aload 10, 2) := dk_25 10 (dk_at dksJ1_putVal_9 16 rfl rfl)
theorem dJ1_putVal_224 : decode cJ1_putVal 224 = .ok (.ifnull 35, 3) := dk_198 0 35 (dk_at dksJ1_putVal_9 18 rfl rfl)
theorem dJ1_putVal_227 : decode cJ1_putVal 227 = .ok (.aload 10, 2) := dk_25 10 (dk_at dksJ1_putVal_9 21 rfl rfl)
theorem dJ1_putVal_229 : decode cJ1_putVal 229 = .ok (.getfield 162, 3) := dk_180 0 162 (dk_at dksJ1_putVal_10 0 rfl rfl)
theorem dJ1_putVal_232 : decode cJ1_putVal 232 = .ok (.astore 12, 2) := dk_58 12 (dk_at dksJ1_putVal_10 3 rfl rfl)
theorem dJ1_putVal_234 : decode cJ1_putVal 234 = .ok (.iload 4, 2) := dk_21 4 (dk_at dksJ1_putVal_10 5 rfl rfl)
theorem dJ1_putVal_236 : decode cJ1_putVal 236 = .ok (.ifCond .eq 8, 3) := dk_153 0 8 (dk_at dksJ1_putVal_10 7 rfl rfl)
theorem dJ1_putVal_239 : decode cJ1_putVal 239 = .ok (.aload 12, 2) := dk_25 12 (dk_at dksJ1_putVal_10 10 rfl rfl)
theorem dJ1_putVal_241 : decode cJ1_putVal 241 = .ok (.ifnonnull 9, 3) := dk_199 0 9 (dk_at dksJ1_putVal_10 12 rfl rfl)
theorem dJ1_putVal_244 : decode cJ1_putVal 244 = .ok (.aload 10, 2) := dk_25 10 (dk_at dksJ1_putVal_10 15 rfl rfl)
theorem dJ1_putVal_246 : decode cJ1_putVal 246 = .ok (.aload_n 3, 1) := dk_45 (dk_at dksJ1_putVal_10 17 rfl rfl)
theorem dJ1_putVal_247 : decode cJ1_putVal 247 = .ok (.putfield 162, 3) := dk_181 0 162 (dk_at dksJ1_putVal_10 18 rfl rfl)
theorem dJ1_putVal_250 : decode cJ1_putVal 250 = .ok (.aload_n 0, 1) := dk_42 (dk_at dksJ1_putVal_10 21 rfl rfl)
theorem dJ1_putVal_251 : decode cJ1_putVal 251 = .ok (.aload 10, 2) := dk_25 10 (dk_at dksJ1_putVal_10 22 rfl rfl)
theorem dJ1_putVal_253 : decode cJ1_putVal 253 = .ok (.invokevirtual 198, 3) := dk_182 0 198 (dk_at dksJ1_putVal_11 0 rfl rfl)
theorem dJ1_putVal_256 : decode cJ1_putVal 256 = .ok (.aload 12, 2) := dk_25 12 (dk_at dksJ1_putVal_11 3 rfl rfl)
theorem dJ1_putVal_258 : decode cJ1_putVal 258 = .ok (.areturn, 1) := dk_176 (dk_at dksJ1_putVal_11 5 rfl rfl)
theorem dJ1_putVal_259 : decode cJ1_putVal 259 = .ok (.aload_n 0, 1) := dk_42 (dk_at dksJ1_putVal_11 6 rfl rfl)
theorem dJ1_putVal_260 : decode cJ1_putVal 260 = .ok (.dup, 1) := dk_89 (dk_at dksJ1_putVal_11 7 rfl rfl)
theorem dJ1_putVal_261 : decode cJ1_putVal 261 = .ok (.getfield 202, 3) := dk_180 0 202 (dk_at dksJ1_putVal_11 8 rfl rfl)
theorem dJ1_putVal_264 : decode cJ1_putVal 264 = .ok (.iconst 1, 1) := dk_4 (dk_at dksJ1_putVal_11 11 rfl rfl)
theorem dJ1_putVal_265 : decode cJ1_putVal 265 = .ok (.iadd, 1) := dk_96 (dk_at dksJ1_putVal_11 12 rfl rfl)
theorem dJ1_putVal_266 : decode cJ1_putVal 266 = .ok (.putfield 202, 3) := dk_181 0 202 (dk_at dksJ1_putVal_11 13 rfl rfl)
theorem dJ1_putVal_269 : decode cJ1_putVal 269 = .ok (.aload_n 0, 1) := dk_42 (dk_at dksJ1_putVal_11 16 rfl rfl)
theorem dJ1_putVal_270 : decode cJ1_putVal 270 = .ok (.dup, 1) := dk_89 (dk_at dksJ1_putVal_11 17 rfl rfl)
theorem dJ1_putVal_271 : decode cJ1_putVal 271 = .ok (.getfield 156, 3) := dk_180 0 156 (dk_at dksJ1_putVal_11 18 rfl rfl)
theorem dJ1_putVal_274 : decode cJ1_putVal 274 = .ok (.iconst 1, 1) := dk_4 (dk_at dksJ1_putVal_11 21 rfl rfl)
theorem dJ1_putVal_275 : decode cJ1_putVal 275 = .ok (.iadd, 1) := dk_96 (dk_at dksJ1_putVal_11 22 rfl rfl)
theorem dJ1_putVal_276 : decode cJ1_putVal 276 = .ok (.dup_x1, 1) := dk_90 (dk_at dksJ1_putVal_11 23 rfl rfl)
theorem dJ1_putVal_277 : decode cJ1_putVal 277 = .ok (.putfield 156, 3) := dk_181 0 156 (dk_at dksJ1_putVal_12 0 rfl rfl)
theorem dJ1_putVal_280 : decode cJ1_putVal 280 = .ok (.aload_n 0, 1) := dk_42 (dk_at dksJ1_putVal_12 3 rfl rfl)
theorem dJ1_putVal_281 : decode cJ1_putVal 281 = .ok (.getfield 88, 3) := dk_180 0 88 (dk_at dksJ1_putVal_12 4 rfl rfl)
theorem dJ1_putVal_284 : decode cJ1_putVal 284 = .ok (.if_icmp .le 8, 3) := dk_164 0 8 (dk_at dksJ1_putVal_12 7 rfl rfl)
theorem dJ1_putVal_287 : decode cJ1_putVal 287 = .ok (.aload_n 0, 1) := dk_42 (dk_at dksJ1_putVal_12 10 rfl rfl)
theorem dJ1_putVal_288 : decode cJ1_putVal 288 = .ok (.invokevirtual 117, 3) := dk_182 0 117 (dk_at dksJ1_putVal_12 11 rfl rfl)
theorem dJ1_putVal_291 : decode cJ1_putVal 291 = .ok (.pop, 1) := dk_87 (dk_at dksJ1_putVal_12 14 rfl rfl)
theorem dJ1_putVal_292 : decode cJ1_putVal 292 = .ok (.aload_n 0, 1) := dk_42 (dk_at dksJ1_putVal_12 15 rfl rfl)
theorem dJ1_putVal_293 : decode cJ1_putVal 293 = .ok (.iload 5, 2) := dk_21 5 (dk_at dksJ1_putVal_12 16 rfl rfl)
theorem dJ1_putVal_295 : decode cJ1_putVal 295 = .ok (.invokevirtual 205, 3) := dk_182 0 205 (dk_at dksJ1_putVal_12 18 rfl rfl)
theorem dJ1_putVal_298 : decode cJ1_putVal 298 = .ok (.aconst_null, 1) := dk_1 (dk_at dksJ1_putVal_12 21 rfl rfl)
theorem dJ1_putVal_299 : decode cJ1_putVal 299 = .ok (.areturn, 1) := dk_176 (dk_at dksJ1_putVal_12 22 rfl rfl)
abbrev cJ1_resize : ByteArray := prog_52_method_17_code
def yJ1_resize : MethodName := ⟨RJ1, "resize", "()[Ljava/util/HashMap$Node;"⟩
def dkwJ1_resize_15 : List UInt8 := [25, 6, 176]
abbrev dktJ1_resize_15 : List UInt8 := dkwJ1_resize_15 ++ []
def dkwJ1_resize_14 : List UInt8 := [198, 0, 18, 25, 12, 1, 181, 0, 177, 25, 6, 21, 7, 28, 96, 25, 11, 83, 132, 7, 1, 167, 255, 57]
abbrev dktJ1_resize_14 : List UInt8 := dkwJ1_resize_14 ++ dktJ1_resize_15
def dkwJ1_resize_13 : List UInt8 := [199, 255, 185, 25, 10, 198, 0, 16, 25, 10, 1, 181, 0, 177, 25, 6, 21, 7, 25, 9, 83, 25, 12]
abbrev dktJ1_resize_13 : List UInt8 := dkwJ1_resize_13 ++ dktJ1_resize_14
def dkwJ1_resize_12 : List UInt8 := [25, 8, 58, 11, 167, 0, 10, 25, 12, 25, 8, 181, 0, 177, 25, 8, 58, 12, 25, 13, 89, 58, 8]
abbrev dktJ1_resize_12 : List UInt8 := dkwJ1_resize_12 ++ dktJ1_resize_13
def dkwJ1_resize_11 : List UInt8 := [58, 9, 167, 0, 10, 25, 10, 25, 8, 181, 0, 177, 25, 8, 58, 10, 167, 0, 26, 25, 12, 199, 0, 10]
abbrev dktJ1_resize_11 : List UInt8 := dkwJ1_resize_11 ++ dktJ1_resize_12
def dkwJ1_resize_10 : List UInt8 := [25, 8, 180, 0, 177, 58, 13, 25, 8, 180, 0, 168, 28, 126, 154, 0, 29, 25, 10, 199, 0, 10, 25, 8]
abbrev dktJ1_resize_10 : List UInt8 := dkwJ1_resize_10 ++ dktJ1_resize_11
def dkwJ1_resize_9 : List UInt8 := [42, 25, 6, 21, 7, 28, 182, 0, 211, 167, 0, 127, 1, 58, 9, 1, 58, 10, 1, 58, 11, 1, 58, 12]
abbrev dktJ1_resize_9 : List UInt8 := dkwJ1_resize_9 ++ dktJ1_resize_10
def dkwJ1_resize_8 : List UInt8 := [21, 4, 4, 100, 126, 25, 8, 83, 167, 0, 152, 25, 8, 193, 0, 180, 153, 0, 20, 25, 8, 192, 0, 180]
abbrev dktJ1_resize_8 : List UInt8 := dkwJ1_resize_8 ++ dktJ1_resize_9
def dkwJ1_resize_7 : List UInt8 := [198, 0, 183, 43, 21, 7, 1, 83, 25, 8, 180, 0, 177, 199, 0, 21, 25, 6, 25, 8, 180, 0, 168]
abbrev dktJ1_resize_7 : List UInt8 := dkwJ1_resize_7 ++ dktJ1_resize_8
def dkwJ1_resize_6 : List UInt8 := [181, 0, 105, 43, 198, 0, 208, 3, 54, 7, 21, 7, 28, 162, 0, 199, 43, 21, 7, 50, 89, 58, 8]
abbrev dktJ1_resize_6 : List UInt8 := dkwJ1_resize_6 ++ dktJ1_resize_7
def dkwJ1_resize_5 : List UInt8 := [167, 0, 5, 18, 209, 54, 5, 42, 21, 5, 181, 0, 88, 21, 4, 189, 0, 163, 58, 6, 42, 25, 6]
abbrev dktJ1_resize_5 : List UInt8 := dkwJ1_resize_5 ++ dktJ1_resize_6
def dkwJ1_resize_4 : List UInt8 := [180, 0, 81, 106, 56, 6, 21, 4, 18, 42, 162, 0, 17, 23, 6, 18, 210, 150, 156, 0, 9, 23, 6, 139]
abbrev dktJ1_resize_4 : List UInt8 := dkwJ1_resize_4 ++ dktJ1_resize_5
def dkwJ1_resize_3 : List UInt8 := [54, 4, 167, 0, 11, 16, 16, 54, 4, 16, 12, 54, 5, 21, 5, 154, 0, 38, 21, 4, 134, 42]
abbrev dktJ1_resize_3 : List UInt8 := dkwJ1_resize_3 ++ dktJ1_resize_4
def dkwJ1_resize_2 : List UInt8 := [18, 42, 162, 0, 35, 28, 16, 16, 161, 0, 29, 29, 4, 120, 54, 5, 167, 0, 21, 29, 158, 0, 9, 29]
abbrev dktJ1_resize_2 : List UInt8 := dkwJ1_resize_2 ++ dktJ1_resize_3
def dkwJ1_resize_1 : List UInt8 := [28, 158, 0, 42, 28, 18, 42, 161, 0, 11, 42, 18, 209, 181, 0, 88, 43, 176, 28, 4, 120, 89, 54, 4]
abbrev dktJ1_resize_1 : List UInt8 := dkwJ1_resize_1 ++ dktJ1_resize_2
def dkwJ1_resize_0 : List UInt8 := [42, 180, 0, 105, 76, 43, 199, 0, 7, 3, 167, 0, 5, 43, 190, 61, 42, 180, 0, 88, 62, 3, 54, 5]
abbrev dktJ1_resize_0 : List UInt8 := dkwJ1_resize_0 ++ dktJ1_resize_1
theorem dksJ1_resize_0 : cJ1_resize.data.toList.drop 0 = dktJ1_resize_0 := by decide +kernel
theorem dksJ1_resize_1 : cJ1_resize.data.toList.drop 24 = dktJ1_resize_1 := dk_seg dksJ1_resize_0 24 rfl rfl
theorem dksJ1_resize_2 : cJ1_resize.data.toList.drop 48 = dktJ1_resize_2 := dk_seg dksJ1_resize_1 24 rfl rfl
theorem dksJ1_resize_3 : cJ1_resize.data.toList.drop 72 = dktJ1_resize_3 := dk_seg dksJ1_resize_2 24 rfl rfl
theorem dksJ1_resize_4 : cJ1_resize.data.toList.drop 94 = dktJ1_resize_4 := dk_seg dksJ1_resize_3 22 rfl rfl
theorem dksJ1_resize_5 : cJ1_resize.data.toList.drop 118 = dktJ1_resize_5 := dk_seg dksJ1_resize_4 24 rfl rfl
theorem dksJ1_resize_6 : cJ1_resize.data.toList.drop 141 = dktJ1_resize_6 := dk_seg dksJ1_resize_5 23 rfl rfl
theorem dksJ1_resize_7 : cJ1_resize.data.toList.drop 164 = dktJ1_resize_7 := dk_seg dksJ1_resize_6 23 rfl rfl
theorem dksJ1_resize_8 : cJ1_resize.data.toList.drop 187 = dktJ1_resize_8 := dk_seg dksJ1_resize_7 23 rfl rfl
theorem dksJ1_resize_9 : cJ1_resize.data.toList.drop 211 = dktJ1_resize_9 := dk_seg dksJ1_resize_8 24 rfl rfl
theorem dksJ1_resize_10 : cJ1_resize.data.toList.drop 235 = dktJ1_resize_10 := dk_seg dksJ1_resize_9 24 rfl rfl
theorem dksJ1_resize_11 : cJ1_resize.data.toList.drop 259 = dktJ1_resize_11 := dk_seg dksJ1_resize_10 24 rfl rfl
theorem dksJ1_resize_12 : cJ1_resize.data.toList.drop 283 = dktJ1_resize_12 := dk_seg dksJ1_resize_11 24 rfl rfl
theorem dksJ1_resize_13 : cJ1_resize.data.toList.drop 306 = dktJ1_resize_13 := dk_seg dksJ1_resize_12 23 rfl rfl
theorem dksJ1_resize_14 : cJ1_resize.data.toList.drop 329 = dktJ1_resize_14 := dk_seg dksJ1_resize_13 23 rfl rfl
theorem dksJ1_resize_15 : cJ1_resize.data.toList.drop 353 = dktJ1_resize_15 := dk_seg dksJ1_resize_14 24 rfl rfl
theorem dJ1_resize_0 : decode cJ1_resize 0 = .ok (.aload_n 0, 1) := dk_42 (dk_at dksJ1_resize_0 0 rfl rfl)
theorem dJ1_resize_1 : decode cJ1_resize 1 = .ok (.getfield 105, 3) := dk_180 0 105 (dk_at dksJ1_resize_0 1 rfl rfl)
theorem dJ1_resize_4 : decode cJ1_resize 4 = .ok (.astore_n 1, 1) := dk_76 (dk_at dksJ1_resize_0 4 rfl rfl)
theorem dJ1_resize_5 : decode cJ1_resize 5 = .ok (.aload_n 1, 1) := dk_43 (dk_at dksJ1_resize_0 5 rfl rfl)
theorem dJ1_resize_6 : decode cJ1_resize 6 = .ok (.ifnonnull 7, 3) := dk_199 0 7 (dk_at dksJ1_resize_0 6 rfl rfl)
theorem dJ1_resize_9 : decode cJ1_resize 9 = .ok (.iconst 0, 1) := dk_3 (dk_at dksJ1_resize_0 9 rfl rfl)
theorem dJ1_resize_10 : decode cJ1_resize 10 = .ok (.goto 5, 3) := dk_167 0 5 (dk_at dksJ1_resize_0 10 rfl rfl)
theorem dJ1_resize_13 : decode cJ1_resize 13 = .ok (.aload_n 1, 1) := dk_43 (dk_at dksJ1_resize_0 13 rfl rfl)
theorem dJ1_resize_14 : decode cJ1_resize 14 = .ok (.arraylength, 1) := dk_190 (dk_at dksJ1_resize_0 14 rfl rfl)
theorem dJ1_resize_15 : decode cJ1_resize 15 = .ok (.istore_n 2, 1) := dk_61 (dk_at dksJ1_resize_0 15 rfl rfl)
theorem dJ1_resize_16 : decode cJ1_resize 16 = .ok (.aload_n 0, 1) := dk_42 (dk_at dksJ1_resize_0 16 rfl rfl)
theorem dJ1_resize_17 : decode cJ1_resize 17 = .ok (.getfield 88, 3) := dk_180 0 88 (dk_at dksJ1_resize_0 17 rfl rfl)
theorem dJ1_resize_20 : decode cJ1_resize 20 = .ok (.istore_n 3, 1) := dk_62 (dk_at dksJ1_resize_0 20 rfl rfl)
theorem dJ1_resize_21 : decode cJ1_resize 21 = .ok (.iconst 0, 1) := dk_3 (dk_at dksJ1_resize_0 21 rfl rfl)
theorem dJ1_resize_22 : decode cJ1_resize 22 = .ok (.istore 5, 2) := dk_54 5 (dk_at dksJ1_resize_0 22 rfl rfl)
theorem dJ1_resize_24 : decode cJ1_resize 24 = .ok (.iload_n 2, 1) := dk_28 (dk_at dksJ1_resize_1 0 rfl rfl)
theorem dJ1_resize_25 : decode cJ1_resize 25 = .ok (.ifCond .le 42, 3) := dk_158 0 42 (dk_at dksJ1_resize_1 1 rfl rfl)
theorem dJ1_resize_28 : decode cJ1_resize 28 = .ok (.iload_n 2, 1) := dk_28 (dk_at dksJ1_resize_1 4 rfl rfl)
theorem dJ1_resize_29 : decode cJ1_resize 29 = .ok (.ldc 42, 2) := dk_18 42 (dk_at dksJ1_resize_1 5 rfl rfl)
theorem dJ1_resize_31 : decode cJ1_resize 31 = .ok (.if_icmp .lt 11, 3) := dk_161 0 11 (dk_at dksJ1_resize_1 7 rfl rfl)
theorem dJ1_resize_34 : decode cJ1_resize 34 = .ok (.aload_n 0, 1) := dk_42 (dk_at dksJ1_resize_1 10 rfl rfl)
theorem dJ1_resize_35 : decode cJ1_resize 35 = .ok (.ldc 209, 2) := dk_18 209 (dk_at dksJ1_resize_1 11 rfl rfl)
theorem dJ1_resize_37 : decode cJ1_resize 37 = .ok (.putfield 88, 3) := dk_181 0 88 (dk_at dksJ1_resize_1 13 rfl rfl)
theorem dJ1_resize_40 : decode cJ1_resize 40 = .ok (.aload_n 1, 1) := dk_43 (dk_at dksJ1_resize_1 16 rfl rfl)
theorem dJ1_resize_41 : decode cJ1_resize 41 = .ok (.areturn, 1) := dk_176 (dk_at dksJ1_resize_1 17 rfl rfl)
theorem dJ1_resize_42 : decode cJ1_resize 42 = .ok (.iload_n 2, 1) := dk_28 (dk_at dksJ1_resize_1 18 rfl rfl)
theorem dJ1_resize_43 : decode cJ1_resize 43 = .ok (.iconst 1, 1) := dk_4 (dk_at dksJ1_resize_1 19 rfl rfl)
theorem dJ1_resize_44 : decode cJ1_resize 44 = .ok (.ishl, 1) := dk_120 (dk_at dksJ1_resize_1 20 rfl rfl)
theorem dJ1_resize_45 : decode cJ1_resize 45 = .ok (.dup, 1) := dk_89 (dk_at dksJ1_resize_1 21 rfl rfl)
theorem dJ1_resize_46 : decode cJ1_resize 46 = .ok (.istore 4, 2) := dk_54 4 (dk_at dksJ1_resize_1 22 rfl rfl)
theorem dJ1_resize_48 : decode cJ1_resize 48 = .ok (.ldc 42, 2) := dk_18 42 (dk_at dksJ1_resize_2 0 rfl rfl)
theorem dJ1_resize_50 : decode cJ1_resize 50 = .ok (.if_icmp .ge 35, 3) := dk_162 0 35 (dk_at dksJ1_resize_2 2 rfl rfl)
theorem dJ1_resize_53 : decode cJ1_resize 53 = .ok (.iload_n 2, 1) := dk_28 (dk_at dksJ1_resize_2 5 rfl rfl)
theorem dJ1_resize_54 : decode cJ1_resize 54 = .ok (.bipush 16, 2) := dk_16 16 (dk_at dksJ1_resize_2 6 rfl rfl)
theorem dJ1_resize_56 : decode cJ1_resize 56 = .ok (.if_icmp .lt 29, 3) := dk_161 0 29 (dk_at dksJ1_resize_2 8 rfl rfl)
theorem dJ1_resize_59 : decode cJ1_resize 59 = .ok (.iload_n 3, 1) := dk_29 (dk_at dksJ1_resize_2 11 rfl rfl)
theorem dJ1_resize_60 : decode cJ1_resize 60 = .ok (.iconst 1, 1) := dk_4 (dk_at dksJ1_resize_2 12 rfl rfl)
theorem dJ1_resize_61 : decode cJ1_resize 61 = .ok (.ishl, 1) := dk_120 (dk_at dksJ1_resize_2 13 rfl rfl)
theorem dJ1_resize_62 : decode cJ1_resize 62 = .ok (.istore 5, 2) := dk_54 5 (dk_at dksJ1_resize_2 14 rfl rfl)
theorem dJ1_resize_64 : decode cJ1_resize 64 = .ok (.goto 21, 3) := dk_167 0 21 (dk_at dksJ1_resize_2 16 rfl rfl)
theorem dJ1_resize_67 : decode cJ1_resize 67 = .ok (.iload_n 3, 1) := dk_29 (dk_at dksJ1_resize_2 19 rfl rfl)
theorem dJ1_resize_68 : decode cJ1_resize 68 = .ok (.ifCond .le 9, 3) := dk_158 0 9 (dk_at dksJ1_resize_2 20 rfl rfl)
theorem dJ1_resize_71 : decode cJ1_resize 71 = .ok (.iload_n 3, 1) := dk_29 (dk_at dksJ1_resize_2 23 rfl rfl)
theorem dJ1_resize_72 : decode cJ1_resize 72 = .ok (.istore 4, 2) := dk_54 4 (dk_at dksJ1_resize_3 0 rfl rfl)
theorem dJ1_resize_74 : decode cJ1_resize 74 = .ok (.goto 11, 3) := dk_167 0 11 (dk_at dksJ1_resize_3 2 rfl rfl)
theorem dJ1_resize_77 : decode cJ1_resize 77 = .ok (.bipush 16, 2) := dk_16 16 (dk_at dksJ1_resize_3 5 rfl rfl)
theorem dJ1_resize_79 : decode cJ1_resize 79 = .ok (.istore 4, 2) := dk_54 4 (dk_at dksJ1_resize_3 7 rfl rfl)
theorem dJ1_resize_81 : decode cJ1_resize 81 = .ok (.bipush 12, 2) := dk_16 12 (dk_at dksJ1_resize_3 9 rfl rfl)
theorem dJ1_resize_83 : decode cJ1_resize 83 = .ok (.istore 5, 2) := dk_54 5 (dk_at dksJ1_resize_3 11 rfl rfl)
theorem dJ1_resize_85 : decode cJ1_resize 85 = .ok (.iload 5, 2) := dk_21 5 (dk_at dksJ1_resize_3 13 rfl rfl)
theorem dJ1_resize_87 : decode cJ1_resize 87 = .ok (.ifCond .ne 38, 3) := dk_154 0 38 (dk_at dksJ1_resize_3 15 rfl rfl)
theorem dJ1_resize_90 : decode cJ1_resize 90 = .ok (.iload 4, 2) := dk_21 4 (dk_at dksJ1_resize_3 18 rfl rfl)
theorem dJ1_resize_92 : decode cJ1_resize 92 = .ok (.i2f, 1) := dk_134 (dk_at dksJ1_resize_3 20 rfl rfl)
theorem dJ1_resize_93 : decode cJ1_resize 93 = .ok (.aload_n 0, 1) := dk_42 (dk_at dksJ1_resize_3 21 rfl rfl)
theorem dJ1_resize_94 : decode cJ1_resize 94 = .ok (.getfield 81, 3) := dk_180 0 81 (dk_at dksJ1_resize_4 0 rfl rfl)
theorem dJ1_resize_97 : decode cJ1_resize 97 = .ok (.fmul, 1) := dk_106 (dk_at dksJ1_resize_4 3 rfl rfl)
theorem dJ1_resize_98 : decode cJ1_resize 98 = .ok (.fstore 6, 2) := dk_56 6 (dk_at dksJ1_resize_4 4 rfl rfl)
theorem dJ1_resize_100 : decode cJ1_resize 100 = .ok (.iload 4, 2) := dk_21 4 (dk_at dksJ1_resize_4 6 rfl rfl)
theorem dJ1_resize_102 : decode cJ1_resize 102 = .ok (.ldc 42, 2) := dk_18 42 (dk_at dksJ1_resize_4 8 rfl rfl)
theorem dJ1_resize_104 : decode cJ1_resize 104 = .ok (.if_icmp .ge 17, 3) := dk_162 0 17 (dk_at dksJ1_resize_4 10 rfl rfl)
theorem dJ1_resize_107 : decode cJ1_resize 107 = .ok (.fload 6, 2) := dk_23 6 (dk_at dksJ1_resize_4 13 rfl rfl)
theorem dJ1_resize_109 : decode cJ1_resize 109 = .ok (.ldc 210, 2) := dk_18 210 (dk_at dksJ1_resize_4 15 rfl rfl)
theorem dJ1_resize_111 : decode cJ1_resize 111 = .ok (.fcmp .g, 1) := dk_150 (dk_at dksJ1_resize_4 17 rfl rfl)
theorem dJ1_resize_112 : decode cJ1_resize 112 = .ok (.ifCond .ge 9, 3) := dk_156 0 9 (dk_at dksJ1_resize_4 18 rfl rfl)
theorem dJ1_resize_115 : decode cJ1_resize 115 = .ok (.fload 6, 2) := dk_23 6 (dk_at dksJ1_resize_4 21 rfl rfl)
theorem dJ1_resize_117 : decode cJ1_resize 117 = .ok (.f2i, 1) := dk_139 (dk_at dksJ1_resize_4 23 rfl rfl)
theorem dJ1_resize_118 : decode cJ1_resize 118 = .ok (.goto 5, 3) := dk_167 0 5 (dk_at dksJ1_resize_5 0 rfl rfl)
theorem dJ1_resize_121 : decode cJ1_resize 121 = .ok (.ldc 209, 2) := dk_18 209 (dk_at dksJ1_resize_5 3 rfl rfl)
theorem dJ1_resize_123 : decode cJ1_resize 123 = .ok (.istore 5, 2) := dk_54 5 (dk_at dksJ1_resize_5 5 rfl rfl)
theorem dJ1_resize_125 : decode cJ1_resize 125 = .ok (.aload_n 0, 1) := dk_42 (dk_at dksJ1_resize_5 7 rfl rfl)
theorem dJ1_resize_126 : decode cJ1_resize 126 = .ok (.iload 5, 2) := dk_21 5 (dk_at dksJ1_resize_5 8 rfl rfl)
theorem dJ1_resize_128 : decode cJ1_resize 128 = .ok (.putfield 88, 3) := dk_181 0 88 (dk_at dksJ1_resize_5 10 rfl rfl)
theorem dJ1_resize_131 : decode cJ1_resize 131 = .ok (.iload 4, 2) := dk_21 4 (dk_at dksJ1_resize_5 13 rfl rfl)
theorem dJ1_resize_133 : decode cJ1_resize 133 = .ok (.anewarray 163, 3) := dk_189 0 163 (dk_at dksJ1_resize_5 15 rfl rfl)
theorem dJ1_resize_136 : decode cJ1_resize 136 = .ok (.astore 6, 2) := dk_58 6 (dk_at dksJ1_resize_5 18 rfl rfl)
theorem dJ1_resize_138 : decode cJ1_resize 138 = .ok (.aload_n 0, 1) := dk_42 (dk_at dksJ1_resize_5 20 rfl rfl)
theorem dJ1_resize_139 : decode cJ1_resize 139 = .ok (.aload 6, 2) := dk_25 6 (dk_at dksJ1_resize_5 21 rfl rfl)
theorem dJ1_resize_141 : decode cJ1_resize 141 = .ok (.putfield 105, 3) := dk_181 0 105 (dk_at dksJ1_resize_6 0 rfl rfl)
theorem dJ1_resize_144 : decode cJ1_resize 144 = .ok (.aload_n 1, 1) := dk_43 (dk_at dksJ1_resize_6 3 rfl rfl)
theorem dJ1_resize_145 : decode cJ1_resize 145 = .ok (.ifnull 208, 3) := dk_198 0 208 (dk_at dksJ1_resize_6 4 rfl rfl)
theorem dJ1_resize_148 : decode cJ1_resize 148 = .ok (.iconst 0, 1) := dk_3 (dk_at dksJ1_resize_6 7 rfl rfl)
theorem dJ1_resize_149 : decode cJ1_resize 149 = .ok (.istore 7, 2) := dk_54 7 (dk_at dksJ1_resize_6 8 rfl rfl)
theorem dJ1_resize_151 : decode cJ1_resize 151 = .ok (.iload 7, 2) := dk_21 7 (dk_at dksJ1_resize_6 10 rfl rfl)
theorem dJ1_resize_153 : decode cJ1_resize 153 = .ok (.iload_n 2, 1) := dk_28 (dk_at dksJ1_resize_6 12 rfl rfl)
theorem dJ1_resize_154 : decode cJ1_resize 154 = .ok (.if_icmp .ge 199, 3) := dk_162 0 199 (dk_at dksJ1_resize_6 13 rfl rfl)
theorem dJ1_resize_157 : decode cJ1_resize 157 = .ok (.aload_n 1, 1) := dk_43 (dk_at dksJ1_resize_6 16 rfl rfl)
theorem dJ1_resize_158 : decode cJ1_resize 158 = .ok (.iload 7, 2) := dk_21 7 (dk_at dksJ1_resize_6 17 rfl rfl)
theorem dJ1_resize_160 : decode cJ1_resize 160 = .ok (.aaload, 1) := dk_50 (dk_at dksJ1_resize_6 19 rfl rfl)
theorem dJ1_resize_161 : decode cJ1_resize 161 = .ok (.dup, 1) := dk_89 (dk_at dksJ1_resize_6 20 rfl rfl)
theorem dJ1_resize_162 : decode cJ1_resize 162 = .ok (.astore 8, 2) := dk_58 8 (dk_at dksJ1_resize_6 21 rfl rfl)
theorem dJ1_resize_164 : decode cJ1_resize 164 = .ok (.ifnull 183, 3) := dk_198 0 183 (dk_at dksJ1_resize_7 0 rfl rfl)
theorem dJ1_resize_167 : decode cJ1_resize 167 = .ok (.aload_n 1, 1) := dk_43 (dk_at dksJ1_resize_7 3 rfl rfl)
theorem dJ1_resize_168 : decode cJ1_resize 168 = .ok (.iload 7, 2) := dk_21 7 (dk_at dksJ1_resize_7 4 rfl rfl)
theorem dJ1_resize_170 : decode cJ1_resize 170 = .ok (.aconst_null, 1) := dk_1 (dk_at dksJ1_resize_7 6 rfl rfl)
theorem dJ1_resize_171 : decode cJ1_resize 171 = .ok (.aastore, 1) := dk_83 (dk_at dksJ1_resize_7 7 rfl rfl)
theorem dJ1_resize_172 : decode cJ1_resize 172 = .ok (.aload 8, 2) := dk_25 8 (dk_at dksJ1_resize_7 8 rfl rfl)
theorem dJ1_resize_174 : decode cJ1_resize 174 = .ok (.getfield 177, 3) := dk_180 0 177 (dk_at dksJ1_resize_7 10 rfl rfl)
theorem dJ1_resize_177 : decode cJ1_resize 177 = .ok (.ifnonnull 21, 3) := dk_199 0 21 (dk_at dksJ1_resize_7 13 rfl rfl)
theorem dJ1_resize_180 : decode cJ1_resize 180 = .ok (.aload 6, 2) := dk_25 6 (dk_at dksJ1_resize_7 16 rfl rfl)
theorem dJ1_resize_182 : decode cJ1_resize 182 = .ok (.aload 8, 2) := dk_25 8 (dk_at dksJ1_resize_7 18 rfl rfl)
theorem dJ1_resize_184 : decode cJ1_resize 184 = .ok (.getfield 168, 3) := dk_180 0 168 (dk_at dksJ1_resize_7 20 rfl rfl)
theorem dJ1_resize_187 : decode cJ1_resize 187 = .ok (.iload 4, 2) := dk_21 4 (dk_at dksJ1_resize_8 0 rfl rfl)
theorem dJ1_resize_189 : decode cJ1_resize 189 = .ok (.iconst 1, 1) := dk_4 (dk_at dksJ1_resize_8 2 rfl rfl)
theorem dJ1_resize_190 : decode cJ1_resize 190 = .ok (.isub, 1) := dk_100 (dk_at dksJ1_resize_8 3 rfl rfl)
theorem dJ1_resize_191 : decode cJ1_resize 191 = .ok (.iand, 1) := dk_126 (dk_at dksJ1_resize_8 4 rfl rfl)
theorem dJ1_resize_192 : decode cJ1_resize 192 = .ok (.aload 8, 2) := dk_25 8 (dk_at dksJ1_resize_8 5 rfl rfl)
theorem dJ1_resize_194 : decode cJ1_resize 194 = .ok (.aastore, 1) := dk_83 (dk_at dksJ1_resize_8 7 rfl rfl)
theorem dJ1_resize_195 : decode cJ1_resize 195 = .ok (.goto 152, 3) := dk_167 0 152 (dk_at dksJ1_resize_8 8 rfl rfl)
theorem dJ1_resize_198 : decode cJ1_resize 198 = .ok (.aload 8, 2) := dk_25 8 (dk_at dksJ1_resize_8 11 rfl rfl)
theorem dJ1_resize_200 : decode cJ1_resize 200 = .ok (.instanceof 180, 3) := dk_193 0 180 (dk_at dksJ1_resize_8 13 rfl rfl)
theorem dJ1_resize_203 : decode cJ1_resize 203 = .ok (.ifCond .eq 20, 3) := dk_153 0 20 (dk_at dksJ1_resize_8 16 rfl rfl)
theorem dJ1_resize_206 : decode cJ1_resize 206 = .ok (.aload 8, 2) := dk_25 8 (dk_at dksJ1_resize_8 19 rfl rfl)
theorem dJ1_resize_208 : decode cJ1_resize 208 = .ok (.checkcast 180, 3) := dk_192 0 180 (dk_at dksJ1_resize_8 21 rfl rfl)
theorem dJ1_resize_211 : decode cJ1_resize 211 = .ok (.aload_n 0, 1) := dk_42 (dk_at dksJ1_resize_9 0 rfl rfl)
theorem dJ1_resize_212 : decode cJ1_resize 212 = .ok (.aload 6, 2) := dk_25 6 (dk_at dksJ1_resize_9 1 rfl rfl)
theorem dJ1_resize_214 : decode cJ1_resize 214 = .ok (.iload 7, 2) := dk_21 7 (dk_at dksJ1_resize_9 3 rfl rfl)
theorem dJ1_resize_216 : decode cJ1_resize 216 = .ok (.iload_n 2, 1) := dk_28 (dk_at dksJ1_resize_9 5 rfl rfl)
theorem dJ1_resize_217 : decode cJ1_resize 217 = .ok (.invokevirtual 211, 3) := dk_182 0 211 (dk_at dksJ1_resize_9 6 rfl rfl)
theorem dJ1_resize_220 : decode cJ1_resize 220 = .ok (.goto 127, 3) := dk_167 0 127 (dk_at dksJ1_resize_9 9 rfl rfl)
theorem dJ1_resize_223 : decode cJ1_resize 223 = .ok (.aconst_null, 1) := dk_1 (dk_at dksJ1_resize_9 12 rfl rfl)
theorem dJ1_resize_224 : decode cJ1_resize 224 = .ok (.astore 9, 2) := dk_58 9 (dk_at dksJ1_resize_9 13 rfl rfl)
theorem dJ1_resize_226 : decode cJ1_resize 226 = .ok (.aconst_null, 1) := dk_1 (dk_at dksJ1_resize_9 15 rfl rfl)
theorem dJ1_resize_227 : decode cJ1_resize 227 = .ok (.astore 10, 2) := dk_58 10 (dk_at dksJ1_resize_9 16 rfl rfl)
theorem dJ1_resize_229 : decode cJ1_resize 229 = .ok (.aconst_null, 1) := dk_1 (dk_at dksJ1_resize_9 18 rfl rfl)
theorem dJ1_resize_230 : decode cJ1_resize 230 = .ok (.astore 11, 2) := dk_58 11 (dk_at dksJ1_resize_9 19 rfl rfl)
theorem dJ1_resize_232 : decode cJ1_resize 232 = .ok (.aconst_null, 1) := dk_1 (dk_at dksJ1_resize_9 21 rfl rfl)
theorem dJ1_resize_233 : decode cJ1_resize 233 = .ok (.astore 12, 2) := dk_58 12 (dk_at dksJ1_resize_9 22 rfl rfl)
theorem dJ1_resize_235 : decode cJ1_resize 235 = .ok (.aload 8, 2) := dk_25 8 (dk_at dksJ1_resize_10 0 rfl rfl)
theorem dJ1_resize_237 : decode cJ1_resize 237 = .ok (.getfield 177, 3) := dk_180 0 177 (dk_at dksJ1_resize_10 2 rfl rfl)
theorem dJ1_resize_240 : decode cJ1_resize 240 = .ok (.astore 13, 2) := dk_58 13 (dk_at dksJ1_resize_10 5 rfl rfl)
theorem dJ1_resize_242 : decode cJ1_resize 242 = .ok (.aload 8, 2) := dk_25 8 (dk_at dksJ1_resize_10 7 rfl rfl)
theorem dJ1_resize_244 : decode cJ1_resize 244 = .ok (.getfield 168, 3) := dk_180 0 168 (dk_at dksJ1_resize_10 9 rfl rfl)
theorem dJ1_resize_247 : decode cJ1_resize 247 = .ok (.iload_n 2, 1) := dk_28 (dk_at dksJ1_resize_10 12 rfl rfl)
theorem dJ1_resize_248 : decode cJ1_resize 248 = .ok (.iand, 1) := dk_126 (dk_at dksJ1_resize_10 13 rfl rfl)
theorem dJ1_resize_249 : decode cJ1_resize 249 = .ok (.ifCond .ne 29, 3) := dk_154 0 29 (dk_at dksJ1_resize_10 14 rfl rfl)
theorem dJ1_resize_252 : decode cJ1_resize 252 = .ok (.aload 10, 2) := dk_25 10 (dk_at dksJ1_resize_10 17 rfl rfl)
theorem dJ1_resize_254 : decode cJ1_resize 254 = .ok (.ifnonnull 10, 3) := dk_199 0 10 (dk_at dksJ1_resize_10 19 rfl rfl)
theorem dJ1_resize_257 : decode cJ1_resize 257 = .ok (.aload 8, 2) := dk_25 8 (dk_at dksJ1_resize_10 22 rfl rfl)
theorem dJ1_resize_259 : decode cJ1_resize 259 = .ok (.astore 9, 2) := dk_58 9 (dk_at dksJ1_resize_11 0 rfl rfl)
theorem dJ1_resize_261 : decode cJ1_resize 261 = .ok (.goto 10, 3) := dk_167 0 10 (dk_at dksJ1_resize_11 2 rfl rfl)
theorem dJ1_resize_264 : decode cJ1_resize 264 = .ok (.aload 10, 2) := dk_25 10 (dk_at dksJ1_resize_11 5 rfl rfl)
theorem dJ1_resize_266 : decode cJ1_resize 266 = .ok (.aload 8, 2) := dk_25 8 (dk_at dksJ1_resize_11 7 rfl rfl)
theorem dJ1_resize_268 : decode cJ1_resize 268 = .ok (.putfield 177, 3) := dk_181 0 177 (dk_at dksJ1_resize_11 9 rfl rfl)
theorem dJ1_resize_271 : decode cJ1_resize 271 = .ok (.aload 8, 2) := dk_25 8 (dk_at dksJ1_resize_11 12 rfl rfl)
theorem dJ1_resize_273 : decode cJ1_resize 273 = .ok (.astore 10, 2) := dk_58 10 (dk_at dksJ1_resize_11 14 rfl rfl)
theorem dJ1_resize_275 : decode cJ1_resize 275 = .ok (.goto 26, 3) := dk_167 0 26 (dk_at dksJ1_resize_11 16 rfl rfl)
theorem dJ1_resize_278 : decode cJ1_resize 278 = .ok (.aload 12, 2) := dk_25 12 (dk_at dksJ1_resize_11 19 rfl rfl)
theorem dJ1_resize_280 : decode cJ1_resize 280 = .ok (.ifnonnull 10, 3) := dk_199 0 10 (dk_at dksJ1_resize_11 21 rfl rfl)
theorem dJ1_resize_283 : decode cJ1_resize 283 = .ok (.aload 8, 2) := dk_25 8 (dk_at dksJ1_resize_12 0 rfl rfl)
theorem dJ1_resize_285 : decode cJ1_resize 285 = .ok (.astore 11, 2) := dk_58 11 (dk_at dksJ1_resize_12 2 rfl rfl)
theorem dJ1_resize_287 : decode cJ1_resize 287 = .ok (.goto 10, 3) := dk_167 0 10 (dk_at dksJ1_resize_12 4 rfl rfl)
theorem dJ1_resize_290 : decode cJ1_resize 290 = .ok (.aload 12, 2) := dk_25 12 (dk_at dksJ1_resize_12 7 rfl rfl)
theorem dJ1_resize_292 : decode cJ1_resize 292 = .ok (.aload 8, 2) := dk_25 8 (dk_at dksJ1_resize_12 9 rfl rfl)
theorem dJ1_resize_294 : decode cJ1_resize 294 = .ok (.putfield 177, 3) := dk_181 0 177 (dk_at dksJ1_resize_12 11 rfl rfl)
theorem dJ1_resize_297 : decode cJ1_resize 297 = .ok (.aload 8, 2) := dk_25 8 (dk_at dksJ1_resize_12 14 rfl rfl)
theorem dJ1_resize_299 : decode cJ1_resize 299 = .ok (.astore 12, 2) := dk_58 12 (dk_at dksJ1_resize_12 16 rfl rfl)
theorem dJ1_resize_301 : decode cJ1_resize 301 = .ok (.aload 13, 2) := dk_25 13 (dk_at dksJ1_resize_12 18 rfl rfl)
theorem dJ1_resize_303 : decode cJ1_resize 303 = .ok (.dup, 1) := dk_89 (dk_at dksJ1_resize_12 20 rfl rfl)
theorem dJ1_resize_304 : decode cJ1_resize 304 = .ok (.astore 8, 2) := dk_58 8 (dk_at dksJ1_resize_12 21 rfl rfl)
theorem dJ1_resize_306 : decode cJ1_resize 306 = .ok (.ifnonnull (-71), 3) := dk_199 255 185 (dk_at dksJ1_resize_13 0 rfl rfl)
theorem dJ1_resize_309 : decode cJ1_resize 309 = .ok (.aload 10, 2) := dk_25 10 (dk_at dksJ1_resize_13 3 rfl rfl)
theorem dJ1_resize_311 : decode cJ1_resize 311 = .ok (.ifnull 16, 3) := dk_198 0 16 (dk_at dksJ1_resize_13 5 rfl rfl)
theorem dJ1_resize_314 : decode cJ1_resize 314 = .ok (.aload 10, 2) := dk_25 10 (dk_at dksJ1_resize_13 8 rfl rfl)
theorem dJ1_resize_316 : decode cJ1_resize 316 = .ok (.aconst_null, 1) := dk_1 (dk_at dksJ1_resize_13 10 rfl rfl)
theorem dJ1_resize_317 : decode cJ1_resize 317 = .ok (.putfield 177, 3) := dk_181 0 177 (dk_at dksJ1_resize_13 11 rfl rfl)
theorem dJ1_resize_320 : decode cJ1_resize 320 = .ok (.aload 6, 2) := dk_25 6 (dk_at dksJ1_resize_13 14 rfl rfl)
theorem dJ1_resize_322 : decode cJ1_resize 322 = .ok (.iload 7, 2) := dk_21 7 (dk_at dksJ1_resize_13 16 rfl rfl)
theorem dJ1_resize_324 : decode cJ1_resize 324 = .ok (.aload 9, 2) := dk_25 9 (dk_at dksJ1_resize_13 18 rfl rfl)
theorem dJ1_resize_326 : decode cJ1_resize 326 = .ok (.aastore, 1) := dk_83 (dk_at dksJ1_resize_13 20 rfl rfl)
theorem dJ1_resize_327 : decode cJ1_resize 327 = .ok (.aload 12, 2) := dk_25 12 (dk_at dksJ1_resize_13 21 rfl rfl)
theorem dJ1_resize_329 : decode cJ1_resize 329 = .ok (.ifnull 18, 3) := dk_198 0 18 (dk_at dksJ1_resize_14 0 rfl rfl)
theorem dJ1_resize_332 : decode cJ1_resize 332 = .ok (.aload 12, 2) := dk_25 12 (dk_at dksJ1_resize_14 3 rfl rfl)
theorem dJ1_resize_334 : decode cJ1_resize 334 = .ok (.aconst_null, 1) := dk_1 (dk_at dksJ1_resize_14 5 rfl rfl)
theorem dJ1_resize_335 : decode cJ1_resize 335 = .ok (.putfield 177, 3) := dk_181 0 177 (dk_at dksJ1_resize_14 6 rfl rfl)
theorem dJ1_resize_338 : decode cJ1_resize 338 = .ok (.aload 6, 2) := dk_25 6 (dk_at dksJ1_resize_14 9 rfl rfl)
theorem dJ1_resize_340 : decode cJ1_resize 340 = .ok (.iload 7, 2) := dk_21 7 (dk_at dksJ1_resize_14 11 rfl rfl)
theorem dJ1_resize_342 : decode cJ1_resize 342 = .ok (.iload_n 2, 1) := dk_28 (dk_at dksJ1_resize_14 13 rfl rfl)
theorem dJ1_resize_343 : decode cJ1_resize 343 = .ok (.iadd, 1) := dk_96 (dk_at dksJ1_resize_14 14 rfl rfl)
theorem dJ1_resize_344 : decode cJ1_resize 344 = .ok (.aload 11, 2) := dk_25 11 (dk_at dksJ1_resize_14 15 rfl rfl)
theorem dJ1_resize_346 : decode cJ1_resize 346 = .ok (.aastore, 1) := dk_83 (dk_at dksJ1_resize_14 17 rfl rfl)
theorem dJ1_resize_347 : decode cJ1_resize 347 = .ok (.iinc 7 1, 3) := dk_132 7 1 (dk_at dksJ1_resize_14 18 rfl rfl)
theorem dJ1_resize_350 : decode cJ1_resize 350 = .ok (.goto (-199), 3) := dk_167 255 57 (dk_at dksJ1_resize_14 21 rfl rfl)
theorem dJ1_resize_353 : decode cJ1_resize 353 = .ok (.aload 6, 2) := dk_25 6 (dk_at dksJ1_resize_15 0 rfl rfl)
theorem dJ1_resize_355 : decode cJ1_resize 355 = .ok (.areturn, 1) := dk_176 (dk_at dksJ1_resize_15 2 rfl rfl)
abbrev cJ1_replacementNode : ByteArray := prog_52_method_47_code
def yJ1_replacementNode : MethodName := ⟨RJ1, "replacementNode", "(Ljava/util/HashMap$Node;Ljava/util/HashMap$Node;)Ljava/util/HashMap$Node;"⟩
def dkwJ1_replacementNode_0 : List UInt8 := [187, 0, 163, 89, 43, 180, 0, 168, 43, 180, 0, 170, 43, 180, 0, 162, 44, 183, 1, 119, 176]
abbrev dktJ1_replacementNode_0 : List UInt8 := dkwJ1_replacementNode_0 ++ []
theorem dksJ1_replacementNode_0 : cJ1_replacementNode.data.toList.drop 0 = dktJ1_replacementNode_0 := by decide +kernel
theorem dJ1_replacementNode_0 : decode cJ1_replacementNode 0 = .ok (.new 163, 3) := dk_187 0 163 (dk_at dksJ1_replacementNode_0 0 rfl rfl)
theorem dJ1_replacementNode_3 : decode cJ1_replacementNode 3 = .ok (.dup, 1) := dk_89 (dk_at dksJ1_replacementNode_0 3 rfl rfl)
theorem dJ1_replacementNode_4 : decode cJ1_replacementNode 4 = .ok (.aload_n 1, 1) := dk_43 (dk_at dksJ1_replacementNode_0 4 rfl rfl)
theorem dJ1_replacementNode_5 : decode cJ1_replacementNode 5 = .ok (.getfield 168, 3) := dk_180 0 168 (dk_at dksJ1_replacementNode_0 5 rfl rfl)
theorem dJ1_replacementNode_8 : decode cJ1_replacementNode 8 = .ok (.aload_n 1, 1) := dk_43 (dk_at dksJ1_replacementNode_0 8 rfl rfl)
theorem dJ1_replacementNode_9 : decode cJ1_replacementNode 9 = .ok (.getfield 170, 3) := dk_180 0 170 (dk_at dksJ1_replacementNode_0 9 rfl rfl)
theorem dJ1_replacementNode_12 : decode cJ1_replacementNode 12 = .ok (.aload_n 1, 1) := dk_43 (dk_at dksJ1_replacementNode_0 12 rfl rfl)
theorem dJ1_replacementNode_13 : decode cJ1_replacementNode 13 = .ok (.getfield 162, 3) := dk_180 0 162 (dk_at dksJ1_replacementNode_0 13 rfl rfl)
theorem dJ1_replacementNode_16 : decode cJ1_replacementNode 16 = .ok (.aload_n 2, 1) := dk_44 (dk_at dksJ1_replacementNode_0 16 rfl rfl)
theorem dJ1_replacementNode_17 : decode cJ1_replacementNode 17 = .ok (.invokespecial 375, 3) := dk_183 1 119 (dk_at dksJ1_replacementNode_0 17 rfl rfl)
theorem dJ1_replacementNode_20 : decode cJ1_replacementNode 20 = .ok (.areturn, 1) := dk_176 (dk_at dksJ1_replacementNode_0 20 rfl rfl)
abbrev cJ1_newNode : ByteArray := prog_52_method_46_code
def yJ1_newNode : MethodName := ⟨RJ1, "newNode", "(ILjava/lang/Object;Ljava/lang/Object;Ljava/util/HashMap$Node;)Ljava/util/HashMap$Node;"⟩
def dkwJ1_newNode_0 : List UInt8 := [187, 0, 163, 89, 27, 44, 45, 25, 4, 183, 1, 119, 176]
abbrev dktJ1_newNode_0 : List UInt8 := dkwJ1_newNode_0 ++ []
theorem dksJ1_newNode_0 : cJ1_newNode.data.toList.drop 0 = dktJ1_newNode_0 := by decide +kernel
theorem dJ1_newNode_0 : decode cJ1_newNode 0 = .ok (.new 163, 3) := dk_187 0 163 (dk_at dksJ1_newNode_0 0 rfl rfl)
theorem dJ1_newNode_3 : decode cJ1_newNode 3 = .ok (.dup, 1) := dk_89 (dk_at dksJ1_newNode_0 3 rfl rfl)
theorem dJ1_newNode_4 : decode cJ1_newNode 4 = .ok (.iload_n 1, 1) := dk_27 (dk_at dksJ1_newNode_0 4 rfl rfl)
theorem dJ1_newNode_5 : decode cJ1_newNode 5 = .ok (.aload_n 2, 1) := dk_44 (dk_at dksJ1_newNode_0 5 rfl rfl)
theorem dJ1_newNode_6 : decode cJ1_newNode 6 = .ok (.aload_n 3, 1) := dk_45 (dk_at dksJ1_newNode_0 6 rfl rfl)
theorem dJ1_newNode_7 : decode cJ1_newNode 7 = .ok (.aload 4, 2) := dk_25 4 (dk_at dksJ1_newNode_0 7 rfl rfl)
theorem dJ1_newNode_9 : decode cJ1_newNode 9 = .ok (.invokespecial 375, 3) := dk_183 1 119 (dk_at dksJ1_newNode_0 9 rfl rfl)
theorem dJ1_newNode_12 : decode cJ1_newNode 12 = .ok (.areturn, 1) := dk_176 (dk_at dksJ1_newNode_0 12 rfl rfl)
abbrev cJ1_newTreeNode : ByteArray := prog_52_method_48_code
def yJ1_newTreeNode : MethodName := ⟨RJ1, "newTreeNode", "(ILjava/lang/Object;Ljava/lang/Object;Ljava/util/HashMap$Node;)Ljava/util/HashMap$TreeNode;"⟩
def dkwJ1_newTreeNode_0 : List UInt8 := [187, 0, 180, 89, 27, 44, 45, 25, 4, 183, 1, 122, 176]
abbrev dktJ1_newTreeNode_0 : List UInt8 := dkwJ1_newTreeNode_0 ++ []
theorem dksJ1_newTreeNode_0 : cJ1_newTreeNode.data.toList.drop 0 = dktJ1_newTreeNode_0 := by decide +kernel
theorem dJ1_newTreeNode_0 : decode cJ1_newTreeNode 0 = .ok (.new 180, 3) := dk_187 0 180 (dk_at dksJ1_newTreeNode_0 0 rfl rfl)
theorem dJ1_newTreeNode_3 : decode cJ1_newTreeNode 3 = .ok (.dup, 1) := dk_89 (dk_at dksJ1_newTreeNode_0 3 rfl rfl)
theorem dJ1_newTreeNode_4 : decode cJ1_newTreeNode 4 = .ok (.iload_n 1, 1) := dk_27 (dk_at dksJ1_newTreeNode_0 4 rfl rfl)
theorem dJ1_newTreeNode_5 : decode cJ1_newTreeNode 5 = .ok (.aload_n 2, 1) := dk_44 (dk_at dksJ1_newTreeNode_0 5 rfl rfl)
theorem dJ1_newTreeNode_6 : decode cJ1_newTreeNode 6 = .ok (.aload_n 3, 1) := dk_45 (dk_at dksJ1_newTreeNode_0 6 rfl rfl)
theorem dJ1_newTreeNode_7 : decode cJ1_newTreeNode 7 = .ok (.aload 4, 2) := dk_25 4 (dk_at dksJ1_newTreeNode_0 7 rfl rfl)
theorem dJ1_newTreeNode_9 : decode cJ1_newTreeNode 9 = .ok (.invokespecial 378, 3) := dk_183 1 122 (dk_at dksJ1_newTreeNode_0 9 rfl rfl)
theorem dJ1_newTreeNode_12 : decode cJ1_newTreeNode 12 = .ok (.areturn, 1) := dk_176 (dk_at dksJ1_newTreeNode_0 12 rfl rfl)
abbrev cJ1_treeifyBin : ByteArray := prog_52_method_18_code
def yJ1_treeifyBin : MethodName := ⟨RJ1, "treeifyBin", "([Ljava/util/HashMap$Node;I)V"⟩
def dkwJ1_treeifyBin_4 : List UInt8 := [21, 4, 25, 6, 91, 83, 198, 0, 9, 25, 6, 43, 182, 0, 224, 177]
abbrev dktJ1_treeifyBin_4 : List UInt8 := dkwJ1_treeifyBin_4 ++ []
def dkwJ1_treeifyBin_3 : List UInt8 := [25, 7, 25, 8, 181, 0, 223, 25, 8, 58, 7, 25, 5, 180, 0, 177, 89, 58, 5, 199, 255, 209, 43]
abbrev dktJ1_treeifyBin_3 : List UInt8 := dkwJ1_treeifyBin_3 ++ dktJ1_treeifyBin_4
def dkwJ1_treeifyBin_2 : List UInt8 := [182, 0, 215, 58, 8, 25, 7, 199, 0, 10, 25, 8, 58, 6, 167, 0, 17, 25, 8, 25, 7, 181, 0, 219]
abbrev dktJ1_treeifyBin_2 : List UInt8 := dkwJ1_treeifyBin_2 ++ dktJ1_treeifyBin_3
def dkwJ1_treeifyBin_1 : List UInt8 := [100, 28, 126, 89, 54, 4, 50, 89, 58, 5, 198, 0, 75, 1, 58, 6, 1, 58, 7, 42, 25, 5, 1]
abbrev dktJ1_treeifyBin_1 : List UInt8 := dkwJ1_treeifyBin_1 ++ dktJ1_treeifyBin_2
def dkwJ1_treeifyBin_0 : List UInt8 := [43, 198, 0, 12, 43, 190, 89, 62, 16, 64, 162, 0, 11, 42, 182, 0, 117, 87, 167, 0, 91, 43, 29, 4]
abbrev dktJ1_treeifyBin_0 : List UInt8 := dkwJ1_treeifyBin_0 ++ dktJ1_treeifyBin_1
theorem dksJ1_treeifyBin_0 : cJ1_treeifyBin.data.toList.drop 0 = dktJ1_treeifyBin_0 := by decide +kernel
theorem dksJ1_treeifyBin_1 : cJ1_treeifyBin.data.toList.drop 24 = dktJ1_treeifyBin_1 := dk_seg dksJ1_treeifyBin_0 24 rfl rfl
theorem dksJ1_treeifyBin_2 : cJ1_treeifyBin.data.toList.drop 47 = dktJ1_treeifyBin_2 := dk_seg dksJ1_treeifyBin_1 23 rfl rfl
theorem dksJ1_treeifyBin_3 : cJ1_treeifyBin.data.toList.drop 71 = dktJ1_treeifyBin_3 := dk_seg dksJ1_treeifyBin_2 24 rfl rfl
theorem dksJ1_treeifyBin_4 : cJ1_treeifyBin.data.toList.drop 94 = dktJ1_treeifyBin_4 := dk_seg dksJ1_treeifyBin_3 23 rfl rfl
theorem dJ1_treeifyBin_0 : decode cJ1_treeifyBin 0 = .ok (.aload_n 1, 1) := dk_43 (dk_at dksJ1_treeifyBin_0 0 rfl rfl)
theorem dJ1_treeifyBin_1 : decode cJ1_treeifyBin 1 = .ok (.ifnull 12, 3) := dk_198 0 12 (dk_at dksJ1_treeifyBin_0 1 rfl rfl)
theorem dJ1_treeifyBin_4 : decode cJ1_treeifyBin 4 = .ok (.aload_n 1, 1) := dk_43 (dk_at dksJ1_treeifyBin_0 4 rfl rfl)
theorem dJ1_treeifyBin_5 : decode cJ1_treeifyBin 5 = .ok (.arraylength, 1) := dk_190 (dk_at dksJ1_treeifyBin_0 5 rfl rfl)
theorem dJ1_treeifyBin_6 : decode cJ1_treeifyBin 6 = .ok (.dup, 1) := dk_89 (dk_at dksJ1_treeifyBin_0 6 rfl rfl)
theorem dJ1_treeifyBin_7 : decode cJ1_treeifyBin 7 = .ok (.istore_n 3, 1) := dk_62 (dk_at dksJ1_treeifyBin_0 7 rfl rfl)
theorem dJ1_treeifyBin_8 : decode cJ1_treeifyBin 8 = .ok (.bipush 64, 2) := dk_16 64 (dk_at dksJ1_treeifyBin_0 8 rfl rfl)
theorem dJ1_treeifyBin_10 : decode cJ1_treeifyBin 10 = .ok (.if_icmp .ge 11, 3) := dk_162 0 11 (dk_at dksJ1_treeifyBin_0 10 rfl rfl)
theorem dJ1_treeifyBin_13 : decode cJ1_treeifyBin 13 = .ok (.aload_n 0, 1) := dk_42 (dk_at dksJ1_treeifyBin_0 13 rfl rfl)
theorem dJ1_treeifyBin_14 : decode cJ1_treeifyBin 14 = .ok (.invokevirtual 117, 3) := dk_182 0 117 (dk_at dksJ1_treeifyBin_0 14 rfl rfl)
theorem dJ1_treeifyBin_17 : decode cJ1_treeifyBin 17 = .ok (.pop, 1) := dk_87 (dk_at dksJ1_treeifyBin_0 17 rfl rfl)
theorem dJ1_treeifyBin_18 : decode cJ1_treeifyBin 18 = .ok (.goto 91, 3) := dk_167 0 91 (dk_at dksJ1_treeifyBin_0 18 rfl rfl)
theorem dJ1_treeifyBin_21 : decode cJ1_treeifyBin 21 = .ok (.aload_n 1, 1) := dk_43 (dk_at dksJ1_treeifyBin_0 21 rfl rfl)
theorem dJ1_treeifyBin_22 : decode cJ1_treeifyBin 22 = .ok (.iload_n 3, 1) := dk_29 (dk_at dksJ1_treeifyBin_0 22 rfl rfl)
theorem dJ1_treeifyBin_23 : decode cJ1_treeifyBin 23 = .ok (.iconst 1, 1) := dk_4 (dk_at dksJ1_treeifyBin_0 23 rfl rfl)
theorem dJ1_treeifyBin_24 : decode cJ1_treeifyBin 24 = .ok (.isub, 1) := dk_100 (dk_at dksJ1_treeifyBin_1 0 rfl rfl)
theorem dJ1_treeifyBin_25 : decode cJ1_treeifyBin 25 = .ok (.iload_n 2, 1) := dk_28 (dk_at dksJ1_treeifyBin_1 1 rfl rfl)
theorem dJ1_treeifyBin_26 : decode cJ1_treeifyBin 26 = .ok (.iand, 1) := dk_126 (dk_at dksJ1_treeifyBin_1 2 rfl rfl)
theorem dJ1_treeifyBin_27 : decode cJ1_treeifyBin 27 = .ok (.dup, 1) := dk_89 (dk_at dksJ1_treeifyBin_1 3 rfl rfl)
theorem dJ1_treeifyBin_28 : decode cJ1_treeifyBin 28 = .ok (.istore 4, 2) := dk_54 4 (dk_at dksJ1_treeifyBin_1 4 rfl rfl)
theorem dJ1_treeifyBin_30 : decode cJ1_treeifyBin 30 = .ok (.aaload, 1) := dk_50 (dk_at dksJ1_treeifyBin_1 6 rfl rfl)
theorem dJ1_treeifyBin_31 : decode cJ1_treeifyBin 31 = .ok (.dup, 1) := dk_89 (dk_at dksJ1_treeifyBin_1 7 rfl rfl)
theorem dJ1_treeifyBin_32 : decode cJ1_treeifyBin 32 = .ok (.astore 5, 2) := dk_58 5 (dk_at dksJ1_treeifyBin_1 8 rfl rfl)
theorem dJ1_treeifyBin_34 : decode cJ1_treeifyBin 34 = .ok (.ifnull 75, 3) := dk_198 0 75 (dk_at dksJ1_treeifyBin_1 10 rfl rfl)
theorem dJ1_treeifyBin_37 : decode cJ1_treeifyBin 37 = .ok (.aconst_null, 1) := dk_1 (dk_at dksJ1_treeifyBin_1 13 rfl rfl)
theorem dJ1_treeifyBin_38 : decode cJ1_treeifyBin 38 = .ok (.astore 6, 2) := dk_58 6 (dk_at dksJ1_treeifyBin_1 14 rfl rfl)
theorem dJ1_treeifyBin_40 : decode cJ1_treeifyBin 40 = .ok (.aconst_null, 1) := dk_1 (dk_at dksJ1_treeifyBin_1 16 rfl rfl)
theorem dJ1_treeifyBin_41 : decode cJ1_treeifyBin 41 = .ok (.astore 7, 2) := dk_58 7 (dk_at dksJ1_treeifyBin_1 17 rfl rfl)
theorem dJ1_treeifyBin_43 : decode cJ1_treeifyBin 43 = .ok (.aload_n 0, 1) := dk_42 (dk_at dksJ1_treeifyBin_1 19 rfl rfl)
theorem dJ1_treeifyBin_44 : decode cJ1_treeifyBin 44 = .ok (.aload 5, 2) := dk_25 5 (dk_at dksJ1_treeifyBin_1 20 rfl rfl)
theorem dJ1_treeifyBin_46 : decode cJ1_treeifyBin 46 = .ok (.aconst_null, 1) := dk_1 (dk_at dksJ1_treeifyBin_1 22 rfl rfl)
theorem dJ1_treeifyBin_47 : decode cJ1_treeifyBin 47 = .ok (.invokevirtual 215, 3) := dk_182 0 215 (dk_at dksJ1_treeifyBin_2 0 rfl rfl)
theorem dJ1_treeifyBin_50 : decode cJ1_treeifyBin 50 = .ok (.astore 8, 2) := dk_58 8 (dk_at dksJ1_treeifyBin_2 3 rfl rfl)
theorem dJ1_treeifyBin_52 : decode cJ1_treeifyBin 52 = .ok (.aload 7, 2) := dk_25 7 (dk_at dksJ1_treeifyBin_2 5 rfl rfl)
theorem dJ1_treeifyBin_54 : decode cJ1_treeifyBin 54 = .ok (.ifnonnull 10, 3) := dk_199 0 10 (dk_at dksJ1_treeifyBin_2 7 rfl rfl)
theorem dJ1_treeifyBin_57 : decode cJ1_treeifyBin 57 = .ok (.aload 8, 2) := dk_25 8 (dk_at dksJ1_treeifyBin_2 10 rfl rfl)
theorem dJ1_treeifyBin_59 : decode cJ1_treeifyBin 59 = .ok (.astore 6, 2) := dk_58 6 (dk_at dksJ1_treeifyBin_2 12 rfl rfl)
theorem dJ1_treeifyBin_61 : decode cJ1_treeifyBin 61 = .ok (.goto 17, 3) := dk_167 0 17 (dk_at dksJ1_treeifyBin_2 14 rfl rfl)
theorem dJ1_treeifyBin_64 : decode cJ1_treeifyBin 64 = .ok (.aload 8, 2) := dk_25 8 (dk_at dksJ1_treeifyBin_2 17 rfl rfl)
theorem dJ1_treeifyBin_66 : decode cJ1_treeifyBin 66 = .ok (.aload 7, 2) := dk_25 7 (dk_at dksJ1_treeifyBin_2 19 rfl rfl)
theorem dJ1_treeifyBin_68 : decode cJ1_treeifyBin 68 = .ok (.putfield 219, 3) := dk_181 0 219 (dk_at dksJ1_treeifyBin_2 21 rfl rfl)
theorem dJ1_treeifyBin_71 : decode cJ1_treeifyBin 71 = .ok (.aload 7, 2) := dk_25 7 (dk_at dksJ1_treeifyBin_3 0 rfl rfl)
theorem dJ1_treeifyBin_73 : decode cJ1_treeifyBin 73 = .ok (.aload 8, 2) := dk_25 8 (dk_at dksJ1_treeifyBin_3 2 rfl rfl)
theorem dJ1_treeifyBin_75 : decode cJ1_treeifyBin 75 = .ok (.putfield 223, 3) := dk_181 0 223 (dk_at dksJ1_treeifyBin_3 4 rfl rfl)
theorem dJ1_treeifyBin_78 : decode cJ1_treeifyBin 78 = .ok (.aload 8, 2) := dk_25 8 (dk_at dksJ1_treeifyBin_3 7 rfl rfl)
theorem dJ1_treeifyBin_80 : decode cJ1_treeifyBin 80 = .ok (.astore 7, 2) := dk_58 7 (dk_at dksJ1_treeifyBin_3 9 rfl rfl)
theorem dJ1_treeifyBin_82 : decode cJ1_treeifyBin 82 = .ok (.aload 5, 2) := dk_25 5 (dk_at dksJ1_treeifyBin_3 11 rfl rfl)
theorem dJ1_treeifyBin_84 : decode cJ1_treeifyBin 84 = .ok (.getfield 177, 3) := dk_180 0 177 (dk_at dksJ1_treeifyBin_3 13 rfl rfl)
theorem dJ1_treeifyBin_87 : decode cJ1_treeifyBin 87 = .ok (.dup, 1) := dk_89 (dk_at dksJ1_treeifyBin_3 16 rfl rfl)
theorem dJ1_treeifyBin_88 : decode cJ1_treeifyBin 88 = .ok (.astore 5, 2) := dk_58 5 (dk_at dksJ1_treeifyBin_3 17 rfl rfl)
theorem dJ1_treeifyBin_90 : decode cJ1_treeifyBin 90 = .ok (.ifnonnull (-47), 3) := dk_199 255 209 (dk_at dksJ1_treeifyBin_3 19 rfl rfl)
theorem dJ1_treeifyBin_93 : decode cJ1_treeifyBin 93 = .ok (.aload_n 1, 1) := dk_43 (dk_at dksJ1_treeifyBin_3 22 rfl rfl)
theorem dJ1_treeifyBin_94 : decode cJ1_treeifyBin 94 = .ok (.iload 4, 2) := dk_21 4 (dk_at dksJ1_treeifyBin_4 0 rfl rfl)
theorem dJ1_treeifyBin_96 : decode cJ1_treeifyBin 96 = .ok (.aload 6, 2) := dk_25 6 (dk_at dksJ1_treeifyBin_4 2 rfl rfl)
theorem dJ1_treeifyBin_98 : decode cJ1_treeifyBin 98 = .ok (.dup_x2, 1) := dk_91 (dk_at dksJ1_treeifyBin_4 4 rfl rfl)
theorem dJ1_treeifyBin_99 : decode cJ1_treeifyBin 99 = .ok (.aastore, 1) := dk_83 (dk_at dksJ1_treeifyBin_4 5 rfl rfl)
theorem dJ1_treeifyBin_100 : decode cJ1_treeifyBin 100 = .ok (.ifnull 9, 3) := dk_198 0 9 (dk_at dksJ1_treeifyBin_4 6 rfl rfl)
theorem dJ1_treeifyBin_103 : decode cJ1_treeifyBin 103 = .ok (.aload 6, 2) := dk_25 6 (dk_at dksJ1_treeifyBin_4 9 rfl rfl)
theorem dJ1_treeifyBin_105 : decode cJ1_treeifyBin 105 = .ok (.aload_n 1, 1) := dk_43 (dk_at dksJ1_treeifyBin_4 11 rfl rfl)
theorem dJ1_treeifyBin_106 : decode cJ1_treeifyBin 106 = .ok (.invokevirtual 224, 3) := dk_182 0 224 (dk_at dksJ1_treeifyBin_4 12 rfl rfl)
theorem dJ1_treeifyBin_109 : decode cJ1_treeifyBin 109 = .ok (.return_, 1) := dk_177 (dk_at dksJ1_treeifyBin_4 15 rfl rfl)
abbrev cJ1_replacementTreeNode : ByteArray := prog_52_method_49_code
def yJ1_replacementTreeNode : MethodName := ⟨RJ1, "replacementTreeNode", "(Ljava/util/HashMap$Node;Ljava/util/HashMap$Node;)Ljava/util/HashMap$TreeNode;"⟩
def dkwJ1_replacementTreeNode_0 : List UInt8 := [187, 0, 180, 89, 43, 180, 0, 168, 43, 180, 0, 170, 43, 180, 0, 162, 44, 183, 1, 122, 176]
abbrev dktJ1_replacementTreeNode_0 : List UInt8 := dkwJ1_replacementTreeNode_0 ++ []
theorem dksJ1_replacementTreeNode_0 : cJ1_replacementTreeNode.data.toList.drop 0 = dktJ1_replacementTreeNode_0 := by decide +kernel
theorem dJ1_replacementTreeNode_0 : decode cJ1_replacementTreeNode 0 = .ok (.new 180, 3) := dk_187 0 180 (dk_at dksJ1_replacementTreeNode_0 0 rfl rfl)
theorem dJ1_replacementTreeNode_3 : decode cJ1_replacementTreeNode 3 = .ok (.dup, 1) := dk_89 (dk_at dksJ1_replacementTreeNode_0 3 rfl rfl)
theorem dJ1_replacementTreeNode_4 : decode cJ1_replacementTreeNode 4 = .ok (.aload_n 1, 1) := dk_43 (dk_at dksJ1_replacementTreeNode_0 4 rfl rfl)
theorem dJ1_replacementTreeNode_5 : decode cJ1_replacementTreeNode 5 = .ok (.getfield 168, 3) := dk_180 0 168 (dk_at dksJ1_replacementTreeNode_0 5 rfl rfl)
theorem dJ1_replacementTreeNode_8 : decode cJ1_replacementTreeNode 8 = .ok (.aload_n 1, 1) := dk_43 (dk_at dksJ1_replacementTreeNode_0 8 rfl rfl)
theorem dJ1_replacementTreeNode_9 : decode cJ1_replacementTreeNode 9 = .ok (.getfield 170, 3) := dk_180 0 170 (dk_at dksJ1_replacementTreeNode_0 9 rfl rfl)
theorem dJ1_replacementTreeNode_12 : decode cJ1_replacementTreeNode 12 = .ok (.aload_n 1, 1) := dk_43 (dk_at dksJ1_replacementTreeNode_0 12 rfl rfl)
theorem dJ1_replacementTreeNode_13 : decode cJ1_replacementTreeNode 13 = .ok (.getfield 162, 3) := dk_180 0 162 (dk_at dksJ1_replacementTreeNode_0 13 rfl rfl)
theorem dJ1_replacementTreeNode_16 : decode cJ1_replacementTreeNode 16 = .ok (.aload_n 2, 1) := dk_44 (dk_at dksJ1_replacementTreeNode_0 16 rfl rfl)
theorem dJ1_replacementTreeNode_17 : decode cJ1_replacementTreeNode 17 = .ok (.invokespecial 378, 3) := dk_183 1 122 (dk_at dksJ1_replacementTreeNode_0 17 rfl rfl)
theorem dJ1_replacementTreeNode_20 : decode cJ1_replacementTreeNode 20 = .ok (.areturn, 1) := dk_176 (dk_at dksJ1_replacementTreeNode_0 20 rfl rfl)
abbrev cJ1_afterNodeAccess : ByteArray := prog_52_method_51_code
def yJ1_afterNodeAccess : MethodName := ⟨RJ1, "afterNodeAccess", "(Ljava/util/HashMap$Node;)V"⟩
theorem dJ1_afterNodeAccess_0 : decode cJ1_afterNodeAccess 0 = .ok (.return_, 1) := by decide +kernel
abbrev cJ1_afterNodeInsertion : ByteArray := prog_52_method_52_code
def yJ1_afterNodeInsertion : MethodName := ⟨RJ1, "afterNodeInsertion", "(Z)V"⟩
theorem dJ1_afterNodeInsertion_0 : decode cJ1_afterNodeInsertion 0 = .ok (.return_, 1) := by decide +kernel
theorem q120 : (Jvm.Cond.initialized "java/util/HashMap") ∈ lw_all := lw_g (lw_at lw_m1 5 rfl) rfl
theorem q218 : (Jvm.Cond.instantiable "java/util/HashMap" (8 : Nat)) ∈ lw_all := lw_g (lw_at lw_m1 103 rfl) rfl
theorem q220 : (Jvm.Cond.instanceMethod ({ cls := "java/util/HashMap", name := "<init>", desc := "()V" } : Jvm.MethodName)) ∈ lw_all := lw_g (lw_at lw_m1 105 rfl) rfl
theorem q221 : (Jvm.Cond.code ({ cls := "java/util/HashMap", name := "<init>", desc := "()V" } : Jvm.MethodName) prog_52_method_7_code (1 : Nat) (Option.none : Option Jvm.ClassFile.FieldType)) ∈ lw_all := lw_g (lw_at lw_m1 106 rfl) rfl
theorem q222 : (Jvm.Cond.methodLink "java/util/HashMap" (43 : Nat) ({ cls := "java/util/AbstractMap", name := "<init>", desc := "()V" } : Jvm.MethodName)) ∈ lw_all := lw_g (lw_at lw_m1 107 rfl) rfl
theorem q226 : (Jvm.Cond.constantFloat "java/util/HashMap" (92 : Nat) (1061158912 : UInt32)) ∈ lw_all := lw_g (lw_at lw_m1 111 rfl) rfl
theorem q227 : (Jvm.Cond.fieldLink "java/util/HashMap" (105 : Nat) "java/util/HashMap" "table" "[Ljava/util/HashMap$Node;") ∈ lw_all := lw_g (lw_at lw_m1 112 rfl) rfl
theorem q228 : (Jvm.Cond.fieldLink "java/util/HashMap" (156 : Nat) "java/util/HashMap" "size" "I") ∈ lw_all := lw_g (lw_at lw_m1 113 rfl) rfl
theorem q229 : (Jvm.Cond.fieldLink "java/util/HashMap" (202 : Nat) "java/util/HashMap" "modCount" "I") ∈ lw_all := lw_g (lw_at lw_m1 114 rfl) rfl
theorem q230 : (Jvm.Cond.fieldLink "java/util/HashMap" (88 : Nat) "java/util/HashMap" "threshold" "I") ∈ lw_all := lw_g (lw_at lw_m1 115 rfl) rfl
theorem q231 : (Jvm.Cond.fieldLink "java/util/HashMap" (81 : Nat) "java/util/HashMap" "loadFactor" "F") ∈ lw_all := lw_g (lw_at lw_m1 116 rfl) rfl
theorem q232 : (Jvm.Cond.lays "java/util/HashMap" "java/util/HashMap" "table" "[Ljava/util/HashMap$Node;") ∈ lw_all := lw_g (lw_at lw_m1 117 rfl) rfl
theorem q233 : (Jvm.Cond.soleField "java/util/HashMap" "table") ∈ lw_all := lw_g (lw_at lw_m1 118 rfl) rfl
theorem q234 : (Jvm.Cond.lays "java/util/HashMap" "java/util/HashMap" "entrySet" "Ljava/util/Set;") ∈ lw_all := lw_g (lw_at lw_m1 119 rfl) rfl
theorem q235 : (Jvm.Cond.soleField "java/util/HashMap" "entrySet") ∈ lw_all := lw_g (lw_at lw_m1 120 rfl) rfl
theorem q236 : (Jvm.Cond.lays "java/util/HashMap" "java/util/HashMap" "size" "I") ∈ lw_all := lw_g (lw_at lw_m1 121 rfl) rfl
theorem q237 : (Jvm.Cond.soleField "java/util/HashMap" "size") ∈ lw_all := lw_g (lw_at lw_m1 122 rfl) rfl
theorem q238 : (Jvm.Cond.lays "java/util/HashMap" "java/util/HashMap" "modCount" "I") ∈ lw_all := lw_g (lw_at lw_m1 123 rfl) rfl
theorem q239 : (Jvm.Cond.soleField "java/util/HashMap" "modCount") ∈ lw_all := lw_g (lw_at lw_m1 124 rfl) rfl
theorem q240 : (Jvm.Cond.lays "java/util/HashMap" "java/util/HashMap" "threshold" "I") ∈ lw_all := lw_g (lw_at lw_m1 125 rfl) rfl
theorem q241 : (Jvm.Cond.soleField "java/util/HashMap" "threshold") ∈ lw_all := lw_g (lw_at lw_m1 126 rfl) rfl
theorem q242 : (Jvm.Cond.laysFinal "java/util/HashMap" "java/util/HashMap" "loadFactor" "F") ∈ lw_all := lw_g (lw_at lw_m1 127 rfl) rfl
theorem q243 : (Jvm.Cond.soleField "java/util/HashMap" "loadFactor") ∈ lw_all := lw_g (lw_at lw_m1 128 rfl) rfl
theorem q244 : (Jvm.Cond.lays "java/util/HashMap" "java/util/AbstractMap" "keySet" "Ljava/util/Set;") ∈ lw_all := lw_g (lw_at lw_m1 129 rfl) rfl
theorem q246 : (Jvm.Cond.lays "java/util/HashMap" "java/util/AbstractMap" "values" "Ljava/util/Collection;") ∈ lw_all := lw_g (lw_at lw_m1 131 rfl) rfl
theorem q248 : (Jvm.Cond.superclass "java/util/HashMap" "java/util/AbstractMap") ∈ lw_all := lw_g (lw_at lw_m1 133 rfl) rfl
theorem q1018 : (Jvm.Cond.selects "java/util/HashMap" ({ cls := "java/lang/Object", name := "getClass", desc := "()Ljava/lang/Class;" } : Jvm.MethodName) ({ cls := "java/lang/Object", name := "getClass", desc := "()Ljava/lang/Class;" } : Jvm.MethodName)) ∈ lw_all := lw_g (lw_at lw_m4 183 rfl) rfl
theorem q1110 : (Jvm.Cond.castable "java/util/HashMap" "java/util/Map") ∈ lw_tbl := lw_at lw_m5 35 rfl
theorem q1111 : (Jvm.Cond.selects "java/util/HashMap" ({ cls := "java/util/Map", name := "containsKey", desc := "(Ljava/lang/Object;)Z" } : Jvm.MethodName) ({ cls := "java/util/HashMap", name := "containsKey", desc := "(Ljava/lang/Object;)Z" } : Jvm.MethodName)) ∈ lw_all := lw_g (lw_at lw_m5 36 rfl) rfl
theorem q1112 : (Jvm.Cond.unhidden "java/util/HashMap" "containsKey" "(Ljava/lang/Object;)Z") ∈ lw_tbl := lw_at lw_m5 37 rfl
theorem q1113 : (Jvm.Cond.instanceMethod ({ cls := "java/util/HashMap", name := "containsKey", desc := "(Ljava/lang/Object;)Z" } : Jvm.MethodName)) ∈ lw_all := lw_g (lw_at lw_m5 38 rfl) rfl
theorem q1114 : (Jvm.Cond.publicMethod ({ cls := "java/util/HashMap", name := "containsKey", desc := "(Ljava/lang/Object;)Z" } : Jvm.MethodName)) ∈ lw_tbl := lw_at lw_m5 39 rfl
theorem q1115 : (Jvm.Cond.code ({ cls := "java/util/HashMap", name := "containsKey", desc := "(Ljava/lang/Object;)Z" } : Jvm.MethodName) prog_52_method_14_code (2 : Nat) (Option.some Jvm.ClassFile.FieldType.boolean)) ∈ lw_all := lw_g (lw_at lw_m5 40 rfl) rfl
theorem q1116 : (Jvm.Cond.methodLink "java/util/HashMap" (158 : Nat) ({ cls := "java/util/HashMap", name := "getNode", desc := "(Ljava/lang/Object;)Ljava/util/HashMap$Node;" } : Jvm.MethodName)) ∈ lw_all := lw_g (lw_at lw_m5 41 rfl) rfl
theorem q1117 : (Jvm.Cond.instanceMethod ({ cls := "java/util/HashMap", name := "getNode", desc := "(Ljava/lang/Object;)Ljava/util/HashMap$Node;" } : Jvm.MethodName)) ∈ lw_all := lw_g (lw_at lw_m5 42 rfl) rfl
theorem q1118 : (Jvm.Cond.selects "java/util/HashMap" ({ cls := "java/util/HashMap", name := "getNode", desc := "(Ljava/lang/Object;)Ljava/util/HashMap$Node;" } : Jvm.MethodName) ({ cls := "java/util/HashMap", name := "getNode", desc := "(Ljava/lang/Object;)Ljava/util/HashMap$Node;" } : Jvm.MethodName)) ∈ lw_all := lw_g (lw_at lw_m5 43 rfl) rfl
theorem q1119 : (Jvm.Cond.code ({ cls := "java/util/HashMap", name := "getNode", desc := "(Ljava/lang/Object;)Ljava/util/HashMap$Node;" } : Jvm.MethodName) prog_52_method_13_code (8 : Nat) (Option.some (Jvm.ClassFile.FieldType.object "java/util/HashMap$Node"))) ∈ lw_all := lw_g (lw_at lw_m5 44 rfl) rfl
theorem q1120 : (Jvm.Cond.methodLink "java/util/HashMap" (149 : Nat) ({ cls := "java/util/HashMap", name := "hash", desc := "(Ljava/lang/Object;)I" } : Jvm.MethodName)) ∈ lw_all := lw_g (lw_at lw_m5 45 rfl) rfl
theorem q1121 : (Jvm.Cond.static ({ cls := "java/util/HashMap", name := "hash", desc := "(Ljava/lang/Object;)I" } : Jvm.MethodName)) ∈ lw_all := lw_g (lw_at lw_m5 46 rfl) rfl
theorem q1122 : (Jvm.Cond.code ({ cls := "java/util/HashMap", name := "hash", desc := "(Ljava/lang/Object;)I" } : Jvm.MethodName) prog_52_method_1_code (2 : Nat) (Option.some Jvm.ClassFile.FieldType.int)) ∈ lw_all := lw_g (lw_at lw_m5 47 rfl) rfl
theorem q1124 : (Jvm.Cond.methodLink "java/util/HashMap" (1 : Nat) ({ cls := "java/lang/Object", name := "hashCode", desc := "()I" } : Jvm.MethodName)) ∈ lw_all := lw_g (lw_at lw_m5 49 rfl) rfl
theorem q1218 : (Jvm.Cond.methodLink "java/util/HashMap" (173 : Nat) ({ cls := "java/lang/Object", name := "equals", desc := "(Ljava/lang/Object;)Z" } : Jvm.MethodName)) ∈ lw_all := lw_g (lw_at lw_m5 143 rfl) rfl
theorem q1261 : (Jvm.Cond.classLink "java/util/HashMap" (180 : Nat) "java/util/HashMap$TreeNode") ∈ lw_all := lw_g (lw_at lw_m5 186 rfl) rfl
theorem q1262 : (Jvm.Cond.methodLink "java/util/HashMap" (182 : Nat) ({ cls := "java/util/HashMap$TreeNode", name := "getTreeNode", desc := "(ILjava/lang/Object;)Ljava/util/HashMap$TreeNode;" } : Jvm.MethodName)) ∈ lw_all := lw_g (lw_at lw_m5 187 rfl) rfl
theorem q1276 : (Jvm.Cond.static ({ cls := "java/util/HashMap", name := "comparableClassFor", desc := "(Ljava/lang/Object;)Ljava/lang/Class;" } : Jvm.MethodName)) ∈ lw_all := lw_g (lw_at lw_m5 201 rfl) rfl
theorem q1277 : (Jvm.Cond.code ({ cls := "java/util/HashMap", name := "comparableClassFor", desc := "(Ljava/lang/Object;)Ljava/lang/Class;" } : Jvm.MethodName) prog_52_method_2_code (9 : Nat) (Option.some (Jvm.ClassFile.FieldType.object "java/lang/Class"))) ∈ lw_all := lw_g (lw_at lw_m5 202 rfl) rfl
theorem q1278 : (Jvm.Cond.classLink "java/util/HashMap" (7 : Nat) "java/lang/Comparable") ∈ lw_all := lw_g (lw_at lw_m5 203 rfl) rfl
theorem q1279 : (Jvm.Cond.methodLink "java/util/HashMap" (9 : Nat) ({ cls := "java/lang/Object", name := "getClass", desc := "()Ljava/lang/Class;" } : Jvm.MethodName)) ∈ lw_all := lw_g (lw_at lw_m5 204 rfl) rfl
theorem q1280 : (Jvm.Cond.classLink "java/util/HashMap" (13 : Nat) "java/lang/String") ∈ lw_all := lw_g (lw_at lw_m5 205 rfl) rfl
theorem q1282 : (Jvm.Cond.static ({ cls := "java/util/HashMap", name := "compareComparables", desc := "(Ljava/lang/Class;Ljava/lang/Object;Ljava/lang/Object;)I" } : Jvm.MethodName)) ∈ lw_all := lw_g (lw_at lw_m5 207 rfl) rfl
theorem q1283 : (Jvm.Cond.code ({ cls := "java/util/HashMap", name := "compareComparables", desc := "(Ljava/lang/Class;Ljava/lang/Object;Ljava/lang/Object;)I" } : Jvm.MethodName) prog_52_method_3_code (3 : Nat) (Option.some Jvm.ClassFile.FieldType.int)) ∈ lw_all := lw_g (lw_at lw_m5 208 rfl) rfl
theorem q1284 : (Jvm.Cond.interfaceEntry "java/util/HashMap" (30 : Nat)) ∈ lw_tbl := lw_at lw_m5 209 rfl
theorem q1285 : (Jvm.Cond.methodLink "java/util/HashMap" (30 : Nat) ({ cls := "java/lang/Comparable", name := "compareTo", desc := "(Ljava/lang/Object;)I" } : Jvm.MethodName)) ∈ lw_all := lw_g (lw_at lw_m5 210 rfl) rfl
theorem q1527 : (Jvm.Cond.selects "java/util/HashMap" ({ cls := "java/util/Map", name := "put", desc := "(Ljava/lang/Object;Ljava/lang/Object;)Ljava/lang/Object;" } : Jvm.MethodName) ({ cls := "java/util/HashMap", name := "put", desc := "(Ljava/lang/Object;Ljava/lang/Object;)Ljava/lang/Object;" } : Jvm.MethodName)) ∈ lw_all := lw_g (lw_at lw_m6 212 rfl) rfl
theorem q1528 : (Jvm.Cond.unhidden "java/util/HashMap" "put" "(Ljava/lang/Object;Ljava/lang/Object;)Ljava/lang/Object;") ∈ lw_tbl := lw_at lw_m6 213 rfl
theorem q1529 : (Jvm.Cond.instanceMethod ({ cls := "java/util/HashMap", name := "put", desc := "(Ljava/lang/Object;Ljava/lang/Object;)Ljava/lang/Object;" } : Jvm.MethodName)) ∈ lw_all := lw_g (lw_at lw_m6 214 rfl) rfl
theorem q1530 : (Jvm.Cond.publicMethod ({ cls := "java/util/HashMap", name := "put", desc := "(Ljava/lang/Object;Ljava/lang/Object;)Ljava/lang/Object;" } : Jvm.MethodName)) ∈ lw_tbl := lw_at lw_m6 215 rfl
theorem q1531 : (Jvm.Cond.code ({ cls := "java/util/HashMap", name := "put", desc := "(Ljava/lang/Object;Ljava/lang/Object;)Ljava/lang/Object;" } : Jvm.MethodName) prog_52_method_15_code (3 : Nat) (Option.some (Jvm.ClassFile.FieldType.object "java/lang/Object"))) ∈ lw_all := lw_g (lw_at lw_m6 216 rfl) rfl
theorem q1532 : (Jvm.Cond.methodLink "java/util/HashMap" (152 : Nat) ({ cls := "java/util/HashMap", name := "putVal", desc := "(ILjava/lang/Object;Ljava/lang/Object;ZZ)Ljava/lang/Object;" } : Jvm.MethodName)) ∈ lw_all := lw_g (lw_at lw_m6 217 rfl) rfl
theorem q1533 : (Jvm.Cond.instanceMethod ({ cls := "java/util/HashMap", name := "putVal", desc := "(ILjava/lang/Object;Ljava/lang/Object;ZZ)Ljava/lang/Object;" } : Jvm.MethodName)) ∈ lw_all := lw_g (lw_at lw_m6 218 rfl) rfl
theorem q1534 : (Jvm.Cond.selects "java/util/HashMap" ({ cls := "java/util/HashMap", name := "putVal", desc := "(ILjava/lang/Object;Ljava/lang/Object;ZZ)Ljava/lang/Object;" } : Jvm.MethodName) ({ cls := "java/util/HashMap", name := "putVal", desc := "(ILjava/lang/Object;Ljava/lang/Object;ZZ)Ljava/lang/Object;" } : Jvm.MethodName)) ∈ lw_all := lw_g (lw_at lw_m6 219 rfl) rfl
theorem q1535 : (Jvm.Cond.code ({ cls := "java/util/HashMap", name := "putVal", desc := "(ILjava/lang/Object;Ljava/lang/Object;ZZ)Ljava/lang/Object;" } : Jvm.MethodName) prog_52_method_16_code (13 : Nat) (Option.some (Jvm.ClassFile.FieldType.object "java/lang/Object"))) ∈ lw_all := lw_g (lw_at lw_m6 220 rfl) rfl
theorem q1536 : (Jvm.Cond.methodLink "java/util/HashMap" (117 : Nat) ({ cls := "java/util/HashMap", name := "resize", desc := "()[Ljava/util/HashMap$Node;" } : Jvm.MethodName)) ∈ lw_all := lw_g (lw_at lw_m6 221 rfl) rfl
theorem q1537 : (Jvm.Cond.instanceMethod ({ cls := "java/util/HashMap", name := "resize", desc := "()[Ljava/util/HashMap$Node;" } : Jvm.MethodName)) ∈ lw_all := lw_g (lw_at lw_m6 222 rfl) rfl
theorem q1538 : (Jvm.Cond.selects "java/util/HashMap" ({ cls := "java/util/HashMap", name := "resize", desc := "()[Ljava/util/HashMap$Node;" } : Jvm.MethodName) ({ cls := "java/util/HashMap", name := "resize", desc := "()[Ljava/util/HashMap$Node;" } : Jvm.MethodName)) ∈ lw_all := lw_g (lw_at lw_m6 223 rfl) rfl
theorem q1539 : (Jvm.Cond.code ({ cls := "java/util/HashMap", name := "resize", desc := "()[Ljava/util/HashMap$Node;" } : Jvm.MethodName) prog_52_method_17_code (14 : Nat) (Option.some (Jvm.ClassFile.FieldType.array (Jvm.ClassFile.FieldType.object "java/util/HashMap$Node")))) ∈ lw_all := lw_g (lw_at lw_m6 224 rfl) rfl
theorem q1540 : (Jvm.Cond.constant "java/util/HashMap" (42 : Nat) (1073741824 : Int32)) ∈ lw_all := lw_g (lw_at lw_m6 225 rfl) rfl
theorem q1541 : (Jvm.Cond.constant "java/util/HashMap" (209 : Nat) (2147483647 : Int32)) ∈ lw_all := lw_g (lw_at lw_m6 226 rfl) rfl
theorem q1542 : (Jvm.Cond.constantFloat "java/util/HashMap" (210 : Nat) (1317011456 : UInt32)) ∈ lw_all := lw_g (lw_at lw_m6 227 rfl) rfl
theorem q1543 : (Jvm.Cond.classLink "java/util/HashMap" (163 : Nat) "java/util/HashMap$Node") ∈ lw_all := lw_g (lw_at lw_m6 228 rfl) rfl
theorem q1545 : (Jvm.Cond.methodLink "java/util/HashMap" (211 : Nat) ({ cls := "java/util/HashMap$TreeNode", name := "split", desc := "(Ljava/util/HashMap;[Ljava/util/HashMap$Node;II)V" } : Jvm.MethodName)) ∈ lw_all := lw_g (lw_at lw_m6 230 rfl) rfl
theorem q1555 : (Jvm.Cond.instanceMethod ({ cls := "java/util/HashMap", name := "replacementNode", desc := "(Ljava/util/HashMap$Node;Ljava/util/HashMap$Node;)Ljava/util/HashMap$Node;" } : Jvm.MethodName)) ∈ lw_all := lw_g (lw_at lw_m7 0 rfl) rfl
theorem q1556 : (Jvm.Cond.selects "java/util/HashMap" ({ cls := "java/util/HashMap", name := "replacementNode", desc := "(Ljava/util/HashMap$Node;Ljava/util/HashMap$Node;)Ljava/util/HashMap$Node;" } : Jvm.MethodName) ({ cls := "java/util/HashMap", name := "replacementNode", desc := "(Ljava/util/HashMap$Node;Ljava/util/HashMap$Node;)Ljava/util/HashMap$Node;" } : Jvm.MethodName)) ∈ lw_all := lw_g (lw_at lw_m7 1 rfl) rfl
theorem q1557 : (Jvm.Cond.code ({ cls := "java/util/HashMap", name := "replacementNode", desc := "(Ljava/util/HashMap$Node;Ljava/util/HashMap$Node;)Ljava/util/HashMap$Node;" } : Jvm.MethodName) prog_52_method_47_code (3 : Nat) (Option.some (Jvm.ClassFile.FieldType.object "java/util/HashMap$Node"))) ∈ lw_all := lw_g (lw_at lw_m7 2 rfl) rfl
theorem q1559 : (Jvm.Cond.methodLink "java/util/HashMap" (375 : Nat) ({ cls := "java/util/HashMap$Node", name := "<init>", desc := "(ILjava/lang/Object;Ljava/lang/Object;Ljava/util/HashMap$Node;)V" } : Jvm.MethodName)) ∈ lw_all := lw_g (lw_at lw_m7 4 rfl) rfl
theorem q1566 : (Jvm.Cond.fieldLink "java/util/HashMap" (168 : Nat) "java/util/HashMap$Node" "hash" "I") ∈ lw_all := lw_g (lw_at lw_m7 11 rfl) rfl
theorem q1570 : (Jvm.Cond.fieldLink "java/util/HashMap" (170 : Nat) "java/util/HashMap$Node" "key" "Ljava/lang/Object;") ∈ lw_all := lw_g (lw_at lw_m7 15 rfl) rfl
theorem q1572 : (Jvm.Cond.fieldLink "java/util/HashMap" (162 : Nat) "java/util/HashMap$Node" "value" "Ljava/lang/Object;") ∈ lw_all := lw_g (lw_at lw_m7 17 rfl) rfl
theorem q1577 : (Jvm.Cond.fieldLink "java/util/HashMap" (177 : Nat) "java/util/HashMap$Node" "next" "Ljava/util/HashMap$Node;") ∈ lw_all := lw_g (lw_at lw_m7 22 rfl) rfl
theorem q1578 : (Jvm.Cond.fieldLink "java/util/HashMap" (223 : Nat) "java/util/HashMap$TreeNode" "next" "Ljava/util/HashMap$Node;") ∈ lw_all := lw_g (lw_at lw_m7 23 rfl) rfl
theorem q1606 : (Jvm.Cond.methodLink "java/util/HashMap" (186 : Nat) ({ cls := "java/util/HashMap", name := "newNode", desc := "(ILjava/lang/Object;Ljava/lang/Object;Ljava/util/HashMap$Node;)Ljava/util/HashMap$Node;" } : Jvm.MethodName)) ∈ lw_all := lw_g (lw_at lw_m7 51 rfl) rfl
theorem q1607 : (Jvm.Cond.instanceMethod ({ cls := "java/util/HashMap", name := "newNode", desc := "(ILjava/lang/Object;Ljava/lang/Object;Ljava/util/HashMap$Node;)Ljava/util/HashMap$Node;" } : Jvm.MethodName)) ∈ lw_all := lw_g (lw_at lw_m7 52 rfl) rfl
theorem q1608 : (Jvm.Cond.selects "java/util/HashMap" ({ cls := "java/util/HashMap", name := "newNode", desc := "(ILjava/lang/Object;Ljava/lang/Object;Ljava/util/HashMap$Node;)Ljava/util/HashMap$Node;" } : Jvm.MethodName) ({ cls := "java/util/HashMap", name := "newNode", desc := "(ILjava/lang/Object;Ljava/lang/Object;Ljava/util/HashMap$Node;)Ljava/util/HashMap$Node;" } : Jvm.MethodName)) ∈ lw_all := lw_g (lw_at lw_m7 53 rfl) rfl
theorem q1609 : (Jvm.Cond.code ({ cls := "java/util/HashMap", name := "newNode", desc := "(ILjava/lang/Object;Ljava/lang/Object;Ljava/util/HashMap$Node;)Ljava/util/HashMap$Node;" } : Jvm.MethodName) prog_52_method_46_code (5 : Nat) (Option.some (Jvm.ClassFile.FieldType.object "java/util/HashMap$Node"))) ∈ lw_all := lw_g (lw_at lw_m7 54 rfl) rfl
theorem q1610 : (Jvm.Cond.methodLink "java/util/HashMap" (190 : Nat) ({ cls := "java/util/HashMap$TreeNode", name := "putTreeVal", desc := "(Ljava/util/HashMap;[Ljava/util/HashMap$Node;ILjava/lang/Object;Ljava/lang/Object;)Ljava/util/HashMap$TreeNode;" } : Jvm.MethodName)) ∈ lw_all := lw_g (lw_at lw_m7 55 rfl) rfl
theorem q1615 : (Jvm.Cond.instanceMethod ({ cls := "java/util/HashMap", name := "newTreeNode", desc := "(ILjava/lang/Object;Ljava/lang/Object;Ljava/util/HashMap$Node;)Ljava/util/HashMap$TreeNode;" } : Jvm.MethodName)) ∈ lw_all := lw_g (lw_at lw_m7 60 rfl) rfl
theorem q1616 : (Jvm.Cond.selects "java/util/HashMap" ({ cls := "java/util/HashMap", name := "newTreeNode", desc := "(ILjava/lang/Object;Ljava/lang/Object;Ljava/util/HashMap$Node;)Ljava/util/HashMap$TreeNode;" } : Jvm.MethodName) ({ cls := "java/util/HashMap", name := "newTreeNode", desc := "(ILjava/lang/Object;Ljava/lang/Object;Ljava/util/HashMap$Node;)Ljava/util/HashMap$TreeNode;" } : Jvm.MethodName)) ∈ lw_all := lw_g (lw_at lw_m7 61 rfl) rfl
theorem q1617 : (Jvm.Cond.code ({ cls := "java/util/HashMap", name := "newTreeNode", desc := "(ILjava/lang/Object;Ljava/lang/Object;Ljava/util/HashMap$Node;)Ljava/util/HashMap$TreeNode;" } : Jvm.MethodName) prog_52_method_48_code (5 : Nat) (Option.some (Jvm.ClassFile.FieldType.object "java/util/HashMap$TreeNode"))) ∈ lw_all := lw_g (lw_at lw_m7 62 rfl) rfl
theorem q1619 : (Jvm.Cond.methodLink "java/util/HashMap" (378 : Nat) ({ cls := "java/util/HashMap$TreeNode", name := "<init>", desc := "(ILjava/lang/Object;Ljava/lang/Object;Ljava/util/HashMap$Node;)V" } : Jvm.MethodName)) ∈ lw_all := lw_g (lw_at lw_m7 64 rfl) rfl
theorem q1630 : (Jvm.Cond.fieldLink "java/util/HashMap" (219 : Nat) "java/util/HashMap$TreeNode" "prev" "Ljava/util/HashMap$TreeNode;") ∈ lw_all := lw_g (lw_at lw_m7 75 rfl) rfl
theorem q1651 : (Jvm.Cond.methodLink "java/util/HashMap" (194 : Nat) ({ cls := "java/util/HashMap", name := "treeifyBin", desc := "([Ljava/util/HashMap$Node;I)V" } : Jvm.MethodName)) ∈ lw_all := lw_g (lw_at lw_m7 96 rfl) rfl
theorem q1652 : (Jvm.Cond.instanceMethod ({ cls := "java/util/HashMap", name := "treeifyBin", desc := "([Ljava/util/HashMap$Node;I)V" } : Jvm.MethodName)) ∈ lw_all := lw_g (lw_at lw_m7 97 rfl) rfl
theorem q1653 : (Jvm.Cond.selects "java/util/HashMap" ({ cls := "java/util/HashMap", name := "treeifyBin", desc := "([Ljava/util/HashMap$Node;I)V" } : Jvm.MethodName) ({ cls := "java/util/HashMap", name := "treeifyBin", desc := "([Ljava/util/HashMap$Node;I)V" } : Jvm.MethodName)) ∈ lw_all := lw_g (lw_at lw_m7 98 rfl) rfl
theorem q1654 : (Jvm.Cond.code ({ cls := "java/util/HashMap", name := "treeifyBin", desc := "([Ljava/util/HashMap$Node;I)V" } : Jvm.MethodName) prog_52_method_18_code (9 : Nat) (Option.none : Option Jvm.ClassFile.FieldType)) ∈ lw_all := lw_g (lw_at lw_m7 99 rfl) rfl
theorem q1655 : (Jvm.Cond.methodLink "java/util/HashMap" (215 : Nat) ({ cls := "java/util/HashMap", name := "replacementTreeNode", desc := "(Ljava/util/HashMap$Node;Ljava/util/HashMap$Node;)Ljava/util/HashMap$TreeNode;" } : Jvm.MethodName)) ∈ lw_all := lw_g (lw_at lw_m7 100 rfl) rfl
theorem q1656 : (Jvm.Cond.instanceMethod ({ cls := "java/util/HashMap", name := "replacementTreeNode", desc := "(Ljava/util/HashMap$Node;Ljava/util/HashMap$Node;)Ljava/util/HashMap$TreeNode;" } : Jvm.MethodName)) ∈ lw_all := lw_g (lw_at lw_m7 101 rfl) rfl
theorem q1657 : (Jvm.Cond.selects "java/util/HashMap" ({ cls := "java/util/HashMap", name := "replacementTreeNode", desc := "(Ljava/util/HashMap$Node;Ljava/util/HashMap$Node;)Ljava/util/HashMap$TreeNode;" } : Jvm.MethodName) ({ cls := "java/util/HashMap", name := "replacementTreeNode", desc := "(Ljava/util/HashMap$Node;Ljava/util/HashMap$Node;)Ljava/util/HashMap$TreeNode;" } : Jvm.MethodName)) ∈ lw_all := lw_g (lw_at lw_m7 102 rfl) rfl
theorem q1658 : (Jvm.Cond.code ({ cls := "java/util/HashMap", name := "replacementTreeNode", desc := "(Ljava/util/HashMap$Node;Ljava/util/HashMap$Node;)Ljava/util/HashMap$TreeNode;" } : Jvm.MethodName) prog_52_method_49_code (3 : Nat) (Option.some (Jvm.ClassFile.FieldType.object "java/util/HashMap$TreeNode"))) ∈ lw_all := lw_g (lw_at lw_m7 103 rfl) rfl
theorem q1659 : (Jvm.Cond.methodLink "java/util/HashMap" (224 : Nat) ({ cls := "java/util/HashMap$TreeNode", name := "treeify", desc := "([Ljava/util/HashMap$Node;)V" } : Jvm.MethodName)) ∈ lw_all := lw_g (lw_at lw_m7 104 rfl) rfl
theorem q1660 : (Jvm.Cond.methodLink "java/util/HashMap" (198 : Nat) ({ cls := "java/util/HashMap", name := "afterNodeAccess", desc := "(Ljava/util/HashMap$Node;)V" } : Jvm.MethodName)) ∈ lw_all := lw_g (lw_at lw_m7 105 rfl) rfl
theorem q1661 : (Jvm.Cond.instanceMethod ({ cls := "java/util/HashMap", name := "afterNodeAccess", desc := "(Ljava/util/HashMap$Node;)V" } : Jvm.MethodName)) ∈ lw_all := lw_g (lw_at lw_m7 106 rfl) rfl
theorem q1662 : (Jvm.Cond.selects "java/util/HashMap" ({ cls := "java/util/HashMap", name := "afterNodeAccess", desc := "(Ljava/util/HashMap$Node;)V" } : Jvm.MethodName) ({ cls := "java/util/HashMap", name := "afterNodeAccess", desc := "(Ljava/util/HashMap$Node;)V" } : Jvm.MethodName)) ∈ lw_all := lw_g (lw_at lw_m7 107 rfl) rfl
theorem q1663 : (Jvm.Cond.code ({ cls := "java/util/HashMap", name := "afterNodeAccess", desc := "(Ljava/util/HashMap$Node;)V" } : Jvm.MethodName) prog_52_method_51_code (2 : Nat) (Option.none : Option Jvm.ClassFile.FieldType)) ∈ lw_all := lw_g (lw_at lw_m7 108 rfl) rfl
theorem q1664 : (Jvm.Cond.methodLink "java/util/HashMap" (205 : Nat) ({ cls := "java/util/HashMap", name := "afterNodeInsertion", desc := "(Z)V" } : Jvm.MethodName)) ∈ lw_all := lw_g (lw_at lw_m7 109 rfl) rfl
theorem q1665 : (Jvm.Cond.instanceMethod ({ cls := "java/util/HashMap", name := "afterNodeInsertion", desc := "(Z)V" } : Jvm.MethodName)) ∈ lw_all := lw_g (lw_at lw_m7 110 rfl) rfl
theorem q1666 : (Jvm.Cond.selects "java/util/HashMap" ({ cls := "java/util/HashMap", name := "afterNodeInsertion", desc := "(Z)V" } : Jvm.MethodName) ({ cls := "java/util/HashMap", name := "afterNodeInsertion", desc := "(Z)V" } : Jvm.MethodName)) ∈ lw_all := lw_g (lw_at lw_m7 111 rfl) rfl
theorem q1667 : (Jvm.Cond.code ({ cls := "java/util/HashMap", name := "afterNodeInsertion", desc := "(Z)V" } : Jvm.MethodName) prog_52_method_52_code (2 : Nat) (Option.none : Option Jvm.ClassFile.FieldType)) ∈ lw_all := lw_g (lw_at lw_m7 112 rfl) rfl
theorem q2795 : (Jvm.Cond.castable "java/util/HashMap" "java/lang/Object") ∈ lw_tbl := lw_at lw_m12 40 rfl
theorem in_J1 : ∀ w ∈ wsJ10, w ∈ lw_all := lw_in wsJ10 [244, 246, 232, 234, 236, 238, 240, 242] (by decide +kernel) (by decide +kernel)
/-! java/util/AbstractCollection -/
set_option maxRecDepth 100000
def RJ2 : String := "java/util/AbstractCollection"
abbrev cJ2_init : ByteArray := prog_45_method_1_code
def yJ2_init : MethodName := ⟨RJ2, "<init>", "()V"⟩
theorem dJ2_init_0 : decode cJ2_init 0 = .ok (.aload_n 0, 1) := by decide +kernel
theorem dJ2_init_1 : decode cJ2_init 1 = .ok (.invokespecial 1, 3) := by decide +kernel
theorem dJ2_init_4 : decode cJ2_init 4 = .ok (.return_, 1) := by decide +kernel
theorem q121 : (Jvm.Cond.initialized "java/util/AbstractCollection") ∈ lw_all := lw_g (lw_at lw_m1 6 rfl) rfl
theorem q258 : (Jvm.Cond.instanceMethod ({ cls := "java/util/AbstractCollection", name := "<init>", desc := "()V" } : Jvm.MethodName)) ∈ lw_all := lw_g (lw_at lw_m1 143 rfl) rfl
theorem q259 : (Jvm.Cond.code ({ cls := "java/util/AbstractCollection", name := "<init>", desc := "()V" } : Jvm.MethodName) prog_45_method_1_code (1 : Nat) (Option.none : Option Jvm.ClassFile.FieldType)) ∈ lw_all := lw_g (lw_at lw_m1 144 rfl) rfl
theorem q260 : (Jvm.Cond.methodLink "java/util/AbstractCollection" (1 : Nat) ({ cls := "java/lang/Object", name := "<init>", desc := "()V" } : Jvm.MethodName)) ∈ lw_all := lw_g (lw_at lw_m1 145 rfl) rfl
/-! java/util/AbstractList -/
set_option maxRecDepth 100000
def RJ3 : String := "java/util/AbstractList"
abbrev cJ3_init : ByteArray := prog_46_method_1_code
def yJ3_init : MethodName := ⟨RJ3, "<init>", "()V"⟩
def dkwJ3_init_0 : List UInt8 := [42, 183, 0, 1, 42, 3, 181, 0, 7, 177]
abbrev dktJ3_init_0 : List UInt8 := dkwJ3_init_0 ++ []
theorem dksJ3_init_0 : cJ3_init.data.toList.drop 0 = dktJ3_init_0 := by decide +kernel
theorem dJ3_init_0 : decode cJ3_init 0 = .ok (.aload_n 0, 1) := dk_42 (dk_at dksJ3_init_0 0 rfl rfl)
theorem dJ3_init_1 : decode cJ3_init 1 = .ok (.invokespecial 1, 3) := dk_183 0 1 (dk_at dksJ3_init_0 1 rfl rfl)
theorem dJ3_init_4 : decode cJ3_init 4 = .ok (.aload_n 0, 1) := dk_42 (dk_at dksJ3_init_0 4 rfl rfl)
theorem dJ3_init_5 : decode cJ3_init 5 = .ok (.iconst 0, 1) := dk_3 (dk_at dksJ3_init_0 5 rfl rfl)
theorem dJ3_init_6 : decode cJ3_init 6 = .ok (.putfield 7, 3) := dk_181 0 7 (dk_at dksJ3_init_0 6 rfl rfl)
theorem dJ3_init_9 : decode cJ3_init 9 = .ok (.return_, 1) := dk_177 (dk_at dksJ3_init_0 9 rfl rfl)
theorem q122 : (Jvm.Cond.initialized "java/util/AbstractList") ∈ lw_all := lw_g (lw_at lw_m1 7 rfl) rfl
theorem q255 : (Jvm.Cond.instanceMethod ({ cls := "java/util/AbstractList", name := "<init>", desc := "()V" } : Jvm.MethodName)) ∈ lw_all := lw_g (lw_at lw_m1 140 rfl) rfl
theorem q256 : (Jvm.Cond.code ({ cls := "java/util/AbstractList", name := "<init>", desc := "()V" } : Jvm.MethodName) prog_46_method_1_code (1 : Nat) (Option.none : Option Jvm.ClassFile.FieldType)) ∈ lw_all := lw_g (lw_at lw_m1 141 rfl) rfl
theorem q257 : (Jvm.Cond.methodLink "java/util/AbstractList" (1 : Nat) ({ cls := "java/util/AbstractCollection", name := "<init>", desc := "()V" } : Jvm.MethodName)) ∈ lw_all := lw_g (lw_at lw_m1 142 rfl) rfl
theorem q265 : (Jvm.Cond.fieldLink "java/util/AbstractList" (7 : Nat) "java/util/AbstractList" "modCount" "I") ∈ lw_all := lw_g (lw_at lw_m1 150 rfl) rfl
theorem q273 : (Jvm.Cond.soleField "java/util/AbstractList" "modCount") ∈ lw_all := lw_g (lw_at lw_m1 158 rfl) rfl
/-! java/util/ArrayList -/
set_option maxRecDepth 100000
def RJ4 : String := "java/util/ArrayList"
def TJ4 : u_T := fun k => match k with
  | 0 => ("java/util/AbstractList", "modCount", "I", false)
  | 1 => ("java/util/ArrayList", "elementData", "[Ljava/lang/Object;", false)
  | _ => ("java/util/ArrayList", "size", "I", false)
def tyJ4 : Nat → FieldType := fun k => match k with
  | 0 => .int
  | 1 => .array (.object "java/lang/Object")
  | _ => .int
abbrev wsJ40 : List Cond := u_ws RJ4 TJ4 3
theorem nmJ4 : ∀ a, a < 3 → ∀ b, b < 3 → a ≠ b → (TJ4 a).2.1 ≠ (TJ4 b).2.1 := by decide +kernel
theorem tyJ4_ok : ∀ k, k < 3 → parseFieldDescriptor (TJ4 k).2.2.1 = some (tyJ4 k) := by decide +kernel
abbrev cJ4_init : ByteArray := prog_48_method_2_code
def yJ4_init : MethodName := ⟨RJ4, "<init>", "()V"⟩
def dkwJ4_init_0 : List UInt8 := [42, 183, 0, 1, 42, 178, 0, 39, 181, 0, 9, 177]
abbrev dktJ4_init_0 : List UInt8 := dkwJ4_init_0 ++ []
theorem dksJ4_init_0 : cJ4_init.data.toList.drop 0 = dktJ4_init_0 := by decide +kernel
theorem dJ4_init_0 : decode cJ4_init 0 = .ok (.aload_n 0, 1) := dk_42 (dk_at dksJ4_init_0 0 rfl rfl)
theorem dJ4_init_1 : decode cJ4_init 1 = .ok (.invokespecial 1, 3) := dk_183 0 1 (dk_at dksJ4_init_0 1 rfl rfl)
theorem dJ4_init_4 : decode cJ4_init 4 = .ok (.aload_n 0, 1) := dk_42 (dk_at dksJ4_init_0 4 rfl rfl)
theorem dJ4_init_5 : decode cJ4_init 5 = .ok (.getstatic 39, 3) := dk_178 0 39 (dk_at dksJ4_init_0 5 rfl rfl)
theorem dJ4_init_8 : decode cJ4_init 8 = .ok (.putfield 9, 3) := dk_181 0 9 (dk_at dksJ4_init_0 8 rfl rfl)
theorem dJ4_init_11 : decode cJ4_init 11 = .ok (.return_, 1) := dk_177 (dk_at dksJ4_init_0 11 rfl rfl)
abbrev cJ4_size : ByteArray := prog_48_method_8_code
def yJ4_size : MethodName := ⟨RJ4, "size", "()I"⟩
theorem dJ4_size_0 : decode cJ4_size 0 = .ok (.aload_n 0, 1) := by decide +kernel
theorem dJ4_size_1 : decode cJ4_size 1 = .ok (.getfield 48, 3) := by decide +kernel
theorem dJ4_size_4 : decode cJ4_size 4 = .ok (.ireturn, 1) := by decide +kernel
abbrev cJ4_init_2 : ByteArray := prog_48_method_1_code
def yJ4_init_2 : MethodName := ⟨RJ4, "<init>", "(I)V"⟩
def dkwJ4_init_2_2 : List UInt8 := [182, 0, 25, 27, 182, 0, 29, 182, 0, 32, 183, 0, 36, 191, 177]
abbrev dktJ4_init_2_2 : List UInt8 := dkwJ4_init_2_2 ++ []
def dkwJ4_init_2_1 : List UInt8 := [178, 0, 15, 181, 0, 9, 167, 0, 30, 187, 0, 18, 89, 187, 0, 20, 89, 183, 0, 22, 18, 23]
abbrev dktJ4_init_2_1 : List UInt8 := dkwJ4_init_2_1 ++ dktJ4_init_2_2
def dkwJ4_init_2_0 : List UInt8 := [42, 183, 0, 1, 27, 158, 0, 14, 42, 27, 189, 0, 7, 181, 0, 9, 167, 0, 44, 27, 154, 0, 13, 42]
abbrev dktJ4_init_2_0 : List UInt8 := dkwJ4_init_2_0 ++ dktJ4_init_2_1
theorem dksJ4_init_2_0 : cJ4_init_2.data.toList.drop 0 = dktJ4_init_2_0 := by decide +kernel
theorem dksJ4_init_2_1 : cJ4_init_2.data.toList.drop 24 = dktJ4_init_2_1 := dk_seg dksJ4_init_2_0 24 rfl rfl
theorem dksJ4_init_2_2 : cJ4_init_2.data.toList.drop 46 = dktJ4_init_2_2 := dk_seg dksJ4_init_2_1 22 rfl rfl
theorem dJ4_init_2_0 : decode cJ4_init_2 0 = .ok (.aload_n 0, 1) := dk_42 (dk_at dksJ4_init_2_0 0 rfl rfl)
theorem dJ4_init_2_1 : decode cJ4_init_2 1 = .ok (.invokespecial 1, 3) := dk_183 0 1 (dk_at dksJ4_init_2_0 1 rfl rfl)
theorem dJ4_init_2_4 : decode cJ4_init_2 4 = .ok (.iload_n 1, 1) := dk_27 (dk_at dksJ4_init_2_0 4 rfl rfl)
theorem dJ4_init_2_5 : decode cJ4_init_2 5 = .ok (.ifCond .le 14, 3) := dk_158 0 14 (dk_at dksJ4_init_2_0 5 rfl rfl)
theorem dJ4_init_2_8 : decode cJ4_init_2 8 = .ok (.aload_n 0, 1) := dk_42 (dk_at dksJ4_init_2_0 8 rfl rfl)
theorem dJ4_init_2_9 : decode cJ4_init_2 9 = .ok (.iload_n 1, 1) := dk_27 (dk_at dksJ4_init_2_0 9 rfl rfl)
theorem dJ4_init_2_10 : decode cJ4_init_2 10 = .ok (.anewarray 7, 3) := dk_189 0 7 (dk_at dksJ4_init_2_0 10 rfl rfl)
theorem dJ4_init_2_13 : decode cJ4_init_2 13 = .ok (.putfield 9, 3) := dk_181 0 9 (dk_at dksJ4_init_2_0 13 rfl rfl)
theorem dJ4_init_2_16 : decode cJ4_init_2 16 = .ok (.goto 44, 3) := dk_167 0 44 (dk_at dksJ4_init_2_0 16 rfl rfl)
theorem dJ4_init_2_19 : decode cJ4_init_2 19 = .ok (.iload_n 1, 1) := dk_27 (dk_at dksJ4_init_2_0 19 rfl rfl)
theorem dJ4_init_2_20 : decode cJ4_init_2 20 = .ok (.ifCond .ne 13, 3) := dk_154 0 13 (dk_at dksJ4_init_2_0 20 rfl rfl)
theorem dJ4_init_2_23 : decode cJ4_init_2 23 = .ok (.aload_n 0, 1) := dk_42 (dk_at dksJ4_init_2_0 23 rfl rfl)
theorem dJ4_init_2_24 : decode cJ4_init_2 24 = .ok (.getstatic 15, 3) := dk_178 0 15 (dk_at dksJ4_init_2_1 0 rfl rfl)
theorem dJ4_init_2_27 : decode cJ4_init_2 27 = .ok (.putfield 9, 3) := dk_181 0 9 (dk_at dksJ4_init_2_1 3 rfl rfl)
theorem dJ4_init_2_30 : decode cJ4_init_2 30 = .ok (.goto 30, 3) := dk_167 0 30 (dk_at dksJ4_init_2_1 6 rfl rfl)
theorem dJ4_init_2_33 : decode cJ4_init_2 33 = .ok (.new 18, 3) := dk_187 0 18 (dk_at dksJ4_init_2_1 9 rfl rfl)
theorem dJ4_init_2_36 : decode cJ4_init_2 36 = .ok (.dup, 1) := dk_89 (dk_at dksJ4_init_2_1 12 rfl rfl)
theorem dJ4_init_2_37 : decode cJ4_init_2 37 = .ok (.new 20, 3) := dk_187 0 20 (dk_at dksJ4_init_2_1 13 rfl rfl)
theorem dJ4_init_2_40 : decode cJ4_init_2 40 = .ok (.dup, 1) := dk_89 (dk_at dksJ4_init_2_1 16 rfl rfl)
theorem dJ4_init_2_41 : decode cJ4_init_2 41 = .ok (.invokespecial 22, 3) := dk_183 0 22 (dk_at dksJ4_init_2_1 17 rfl rfl)
theorem dJ4_init_2_44 : decode cJ4_init_2 44 = .ok (.ldc 23, 2) := dk_18 23 (dk_at dksJ4_init_2_1 20 rfl rfl)
theorem dJ4_init_2_46 : decode cJ4_init_2 46 = .ok (.invokevirtual 25, 3) := dk_182 0 25 (dk_at dksJ4_init_2_2 0 rfl rfl)
theorem dJ4_init_2_49 : decode cJ4_init_2 49 = .ok (.iload_n 1, 1) := dk_27 (dk_at dksJ4_init_2_2 3 rfl rfl)
theorem dJ4_init_2_50 : decode cJ4_init_2 50 = .ok (.invokevirtual 29, 3) := dk_182 0 29 (dk_at dksJ4_init_2_2 4 rfl rfl)
theorem dJ4_init_2_53 : decode cJ4_init_2 53 = .ok (.invokevirtual 32, 3) := dk_182 0 32 (dk_at dksJ4_init_2_2 7 rfl rfl)
theorem dJ4_init_2_56 : decode cJ4_init_2 56 = .ok (.invokespecial 36, 3) := dk_183 0 36 (dk_at dksJ4_init_2_2 10 rfl rfl)
theorem dJ4_init_2_59 : decode cJ4_init_2 59 = .ok (.athrow, 1) := dk_191 (dk_at dksJ4_init_2_2 13 rfl rfl)
theorem dJ4_init_2_60 : decode cJ4_init_2 60 = .ok (.return_, 1) := dk_177 (dk_at dksJ4_init_2_2 14 rfl rfl)
abbrev cJ4_add : ByteArray := prog_48_method_25_code
def yJ4_add : MethodName := ⟨RJ4, "add", "(Ljava/lang/Object;)Z"⟩
def dkwJ4_add_1 : List UInt8 := [172]
abbrev dktJ4_add_1 : List UInt8 := dkwJ4_add_1 ++ []
def dkwJ4_add_0 : List UInt8 := [42, 89, 180, 0, 63, 4, 96, 181, 0, 63, 42, 43, 42, 180, 0, 9, 42, 180, 0, 48, 182, 0, 131, 4]
abbrev dktJ4_add_0 : List UInt8 := dkwJ4_add_0 ++ dktJ4_add_1
theorem dksJ4_add_0 : cJ4_add.data.toList.drop 0 = dktJ4_add_0 := by decide +kernel
theorem dksJ4_add_1 : cJ4_add.data.toList.drop 24 = dktJ4_add_1 := dk_seg dksJ4_add_0 24 rfl rfl
theorem dJ4_add_0 : decode cJ4_add 0 = .ok (.aload_n 0, 1) := dk_42 (dk_at dksJ4_add_0 0 rfl rfl)
theorem dJ4_add_1 : decode cJ4_add 1 = .ok (.dup, 1) := dk_89 (dk_at dksJ4_add_0 1 rfl rfl)
theorem dJ4_add_2 : decode cJ4_add 2 = .ok (.getfield 63, 3) := dk_180 0 63 (dk_at dksJ4_add_0 2 rfl rfl)
theorem dJ4_add_5 : decode cJ4_add 5 = .ok (.iconst 1, 1) := dk_4 (dk_at dksJ4_add_0 5 rfl rfl)
theorem dJ4_add_6 : decode cJ4_add 6 = .ok (.iadd, 1) := dk_96 (dk_at dksJ4_add_0 6 rfl rfl)
theorem dJ4_add_7 : decode cJ4_add 7 = .ok (.putfield 63, 3) := dk_181 0 63 (dk_at dksJ4_add_0 7 rfl rfl)
theorem dJ4_add_10 : decode cJ4_add 10 = .ok (.aload_n 0, 1) := dk_42 (dk_at dksJ4_add_0 10 rfl rfl)
theorem dJ4_add_11 : decode cJ4_add 11 = .ok (.aload_n 1, 1) := dk_43 (dk_at dksJ4_add_0 11 rfl rfl)
theorem dJ4_add_12 : decode cJ4_add 12 = .ok (.aload_n 0, 1) := dk_42 (dk_at dksJ4_add_0 12 rfl rfl)
theorem dJ4_add_13 : decode cJ4_add 13 = .ok (.getfield 9, 3) := dk_180 0 9 (dk_at dksJ4_add_0 13 rfl rfl)
theorem dJ4_add_16 : decode cJ4_add 16 = .ok (.aload_n 0, 1) := dk_42 (dk_at dksJ4_add_0 16 rfl rfl)
theorem dJ4_add_17 : decode cJ4_add 17 = .ok (.getfield 48, 3) := dk_180 0 48 (dk_at dksJ4_add_0 17 rfl rfl)
theorem dJ4_add_20 : decode cJ4_add 20 = .ok (.invokevirtual 131, 3) := dk_182 0 131 (dk_at dksJ4_add_0 20 rfl rfl)
theorem dJ4_add_23 : decode cJ4_add 23 = .ok (.iconst 1, 1) := dk_4 (dk_at dksJ4_add_0 23 rfl rfl)
theorem dJ4_add_24 : decode cJ4_add 24 = .ok (.ireturn, 1) := dk_172 (dk_at dksJ4_add_1 0 rfl rfl)
abbrev cJ4_add_2 : ByteArray := prog_48_method_24_code
def yJ4_add_2 : MethodName := ⟨RJ4, "add", "(Ljava/lang/Object;[Ljava/lang/Object;I)V"⟩
def dkwJ4_add_2_0 : List UInt8 := [29, 44, 190, 160, 0, 8, 42, 182, 0, 129, 77, 44, 29, 43, 83, 42, 29, 4, 96, 181, 0, 48, 177]
abbrev dktJ4_add_2_0 : List UInt8 := dkwJ4_add_2_0 ++ []
theorem dksJ4_add_2_0 : cJ4_add_2.data.toList.drop 0 = dktJ4_add_2_0 := by decide +kernel
theorem dJ4_add_2_0 : decode cJ4_add_2 0 = .ok (.iload_n 3, 1) := dk_29 (dk_at dksJ4_add_2_0 0 rfl rfl)
theorem dJ4_add_2_1 : decode cJ4_add_2 1 = .ok (.aload_n 2, 1) := dk_44 (dk_at dksJ4_add_2_0 1 rfl rfl)
theorem dJ4_add_2_2 : decode cJ4_add_2 2 = .ok (.arraylength, 1) := dk_190 (dk_at dksJ4_add_2_0 2 rfl rfl)
theorem dJ4_add_2_3 : decode cJ4_add_2 3 = .ok (.if_icmp .ne 8, 3) := dk_160 0 8 (dk_at dksJ4_add_2_0 3 rfl rfl)
theorem dJ4_add_2_6 : decode cJ4_add_2 6 = .ok (.aload_n 0, 1) := dk_42 (dk_at dksJ4_add_2_0 6 rfl rfl)
theorem dJ4_add_2_7 : decode cJ4_add_2 7 = .ok (.invokevirtual 129, 3) := dk_182 0 129 (dk_at dksJ4_add_2_0 7 rfl rfl)
theorem dJ4_add_2_10 : decode cJ4_add_2 10 = .ok (.astore_n 2, 1) := dk_77 (dk_at dksJ4_add_2_0 10 rfl rfl)
theorem dJ4_add_2_11 : decode cJ4_add_2 11 = .ok (.aload_n 2, 1) := dk_44 (dk_at dksJ4_add_2_0 11 rfl rfl)
theorem dJ4_add_2_12 : decode cJ4_add_2 12 = .ok (.iload_n 3, 1) := dk_29 (dk_at dksJ4_add_2_0 12 rfl rfl)
theorem dJ4_add_2_13 : decode cJ4_add_2 13 = .ok (.aload_n 1, 1) := dk_43 (dk_at dksJ4_add_2_0 13 rfl rfl)
theorem dJ4_add_2_14 : decode cJ4_add_2 14 = .ok (.aastore, 1) := dk_83 (dk_at dksJ4_add_2_0 14 rfl rfl)
theorem dJ4_add_2_15 : decode cJ4_add_2 15 = .ok (.aload_n 0, 1) := dk_42 (dk_at dksJ4_add_2_0 15 rfl rfl)
theorem dJ4_add_2_16 : decode cJ4_add_2 16 = .ok (.iload_n 3, 1) := dk_29 (dk_at dksJ4_add_2_0 16 rfl rfl)
theorem dJ4_add_2_17 : decode cJ4_add_2 17 = .ok (.iconst 1, 1) := dk_4 (dk_at dksJ4_add_2_0 17 rfl rfl)
theorem dJ4_add_2_18 : decode cJ4_add_2 18 = .ok (.iadd, 1) := dk_96 (dk_at dksJ4_add_2_0 18 rfl rfl)
theorem dJ4_add_2_19 : decode cJ4_add_2 19 = .ok (.putfield 48, 3) := dk_181 0 48 (dk_at dksJ4_add_2_0 19 rfl rfl)
theorem dJ4_add_2_22 : decode cJ4_add_2 22 = .ok (.return_, 1) := dk_177 (dk_at dksJ4_add_2_0 22 rfl rfl)
abbrev cJ4_grow : ByteArray := prog_48_method_7_code
def yJ4_grow : MethodName := ⟨RJ4, "grow", "()[Ljava/lang/Object;"⟩
def dkwJ4_grow_0 : List UInt8 := [42, 42, 180, 0, 48, 4, 96, 182, 0, 69, 176]
abbrev dktJ4_grow_0 : List UInt8 := dkwJ4_grow_0 ++ []
theorem dksJ4_grow_0 : cJ4_grow.data.toList.drop 0 = dktJ4_grow_0 := by decide +kernel
theorem dJ4_grow_0 : decode cJ4_grow 0 = .ok (.aload_n 0, 1) := dk_42 (dk_at dksJ4_grow_0 0 rfl rfl)
theorem dJ4_grow_1 : decode cJ4_grow 1 = .ok (.aload_n 0, 1) := dk_42 (dk_at dksJ4_grow_0 1 rfl rfl)
theorem dJ4_grow_2 : decode cJ4_grow 2 = .ok (.getfield 48, 3) := dk_180 0 48 (dk_at dksJ4_grow_0 2 rfl rfl)
theorem dJ4_grow_5 : decode cJ4_grow 5 = .ok (.iconst 1, 1) := dk_4 (dk_at dksJ4_grow_0 5 rfl rfl)
theorem dJ4_grow_6 : decode cJ4_grow 6 = .ok (.iadd, 1) := dk_96 (dk_at dksJ4_grow_0 6 rfl rfl)
theorem dJ4_grow_7 : decode cJ4_grow 7 = .ok (.invokevirtual 69, 3) := dk_182 0 69 (dk_at dksJ4_grow_0 7 rfl rfl)
theorem dJ4_grow_10 : decode cJ4_grow 10 = .ok (.areturn, 1) := dk_176 (dk_at dksJ4_grow_0 10 rfl rfl)
abbrev cJ4_grow_2 : ByteArray := prog_48_method_6_code
def yJ4_grow_2 : MethodName := ⟨RJ4, "grow", "(I)[Ljava/lang/Object;"⟩
def dkwJ4_grow_2_2 : List UInt8 := [27, 184, 0, 79, 189, 0, 7, 90, 181, 0, 9, 176]
abbrev dktJ4_grow_2_2 : List UInt8 := dkwJ4_grow_2_2 ++ []
def dkwJ4_grow_2_1 : List UInt8 := [28, 4, 122, 184, 0, 73, 62, 42, 42, 180, 0, 9, 29, 184, 0, 66, 90, 181, 0, 9, 176, 42, 16, 10]
abbrev dktJ4_grow_2_1 : List UInt8 := dkwJ4_grow_2_1 ++ dktJ4_grow_2_2
def dkwJ4_grow_2_0 : List UInt8 := [42, 180, 0, 9, 190, 61, 28, 157, 0, 13, 42, 180, 0, 9, 178, 0, 39, 165, 0, 28, 28, 27, 28, 100]
abbrev dktJ4_grow_2_0 : List UInt8 := dkwJ4_grow_2_0 ++ dktJ4_grow_2_1
theorem dksJ4_grow_2_0 : cJ4_grow_2.data.toList.drop 0 = dktJ4_grow_2_0 := by decide +kernel
theorem dksJ4_grow_2_1 : cJ4_grow_2.data.toList.drop 24 = dktJ4_grow_2_1 := dk_seg dksJ4_grow_2_0 24 rfl rfl
theorem dksJ4_grow_2_2 : cJ4_grow_2.data.toList.drop 48 = dktJ4_grow_2_2 := dk_seg dksJ4_grow_2_1 24 rfl rfl
theorem dJ4_grow_2_0 : decode cJ4_grow_2 0 = .ok (.aload_n 0, 1) := dk_42 (dk_at dksJ4_grow_2_0 0 rfl rfl)
theorem dJ4_grow_2_1 : decode cJ4_grow_2 1 = .ok (.getfield 9, 3) := dk_180 0 9 (dk_at dksJ4_grow_2_0 1 rfl rfl)
theorem dJ4_grow_2_4 : decode cJ4_grow_2 4 = .ok (.arraylength, 1) := dk_190 (dk_at dksJ4_grow_2_0 4 rfl rfl)
theorem dJ4_grow_2_5 : decode cJ4_grow_2 5 = .ok (.istore_n 2, 1) := dk_61 (dk_at dksJ4_grow_2_0 5 rfl rfl)
theorem dJ4_grow_2_6 : decode cJ4_grow_2 6 = .ok (.iload_n 2, 1) := dk_28 (dk_at dksJ4_grow_2_0 6 rfl rfl)
theorem dJ4_grow_2_7 : decode cJ4_grow_2 7 = .ok (.ifCond .gt 13, 3) := dk_157 0 13 (dk_at dksJ4_grow_2_0 7 rfl rfl)
theorem dJ4_grow_2_10 : decode cJ4_grow_2 10 = .ok (.aload_n 0, 1) := dk_42 (dk_at dksJ4_grow_2_0 10 rfl rfl)
theorem dJ4_grow_2_11 : decode cJ4_grow_2 11 = .ok (.getfield 9, 3) := dk_180 0 9 (dk_at dksJ4_grow_2_0 11 rfl rfl)
theorem dJ4_grow_2_14 : decode cJ4_grow_2 14 = .ok (.getstatic 39, 3) := dk_178 0 39 (dk_at dksJ4_grow_2_0 14 rfl rfl)
theorem dJ4_grow_2_17 : decode cJ4_grow_2 17 = .ok (.if_acmp .eq 28, 3) := dk_165 0 28 (dk_at dksJ4_grow_2_0 17 rfl rfl)
theorem dJ4_grow_2_20 : decode cJ4_grow_2 20 = .ok (.iload_n 2, 1) := dk_28 (dk_at dksJ4_grow_2_0 20 rfl rfl)
theorem dJ4_grow_2_21 : decode cJ4_grow_2 21 = .ok (.iload_n 1, 1) := dk_27 (dk_at dksJ4_grow_2_0 21 rfl rfl)
theorem dJ4_grow_2_22 : decode cJ4_grow_2 22 = .ok (.iload_n 2, 1) := dk_28 (dk_at dksJ4_grow_2_0 22 rfl rfl)
theorem dJ4_grow_2_23 : decode cJ4_grow_2 23 = .ok (.isub, 1) := dk_100 (dk_at dksJ4_grow_2_0 23 rfl rfl)
theorem dJ4_grow_2_24 : decode cJ4_grow_2 24 = .ok (.iload_n 2, 1) := dk_28 (dk_at dksJ4_grow_2_1 0 rfl rfl)
theorem dJ4_grow_2_25 : decode cJ4_grow_2 25 = .ok (.iconst 1, 1) := dk_4 (dk_at dksJ4_grow_2_1 1 rfl rfl)
theorem dJ4_grow_2_26 : decode cJ4_grow_2 26 = .ok (.ishr, 1) := dk_122 (dk_at dksJ4_grow_2_1 2 rfl rfl)
theorem dJ4_grow_2_27 : decode cJ4_grow_2 27 = .ok (.invokestatic 73, 3) := dk_184 0 73 (dk_at dksJ4_grow_2_1 3 rfl rfl)
theorem dJ4_grow_2_30 : decode cJ4_grow_2 30 = .ok (.istore_n 3, 1) := dk_62 (dk_at dksJ4_grow_2_1 6 rfl rfl)
theorem dJ4_grow_2_31 : decode cJ4_grow_2 31 = .ok (.aload_n 0, 1) := dk_42 (dk_at dksJ4_grow_2_1 7 rfl rfl)
theorem dJ4_grow_2_32 : decode cJ4_grow_2 32 = .ok (.aload_n 0, 1) := dk_42 (dk_at dksJ4_grow_2_1 8 rfl rfl)
theorem dJ4_grow_2_33 : decode cJ4_grow_2 33 = .ok (.getfield 9, 3) := dk_180 0 9 (dk_at dksJ4_grow_2_1 9 rfl rfl)
theorem dJ4_grow_2_36 : decode cJ4_grow_2 36 = .ok (.iload_n 3, 1) := dk_29 (dk_at dksJ4_grow_2_1 12 rfl rfl)
theorem dJ4_grow_2_37 : decode cJ4_grow_2 37 = .ok (.invokestatic 66, 3) := dk_184 0 66 (dk_at dksJ4_grow_2_1 13 rfl rfl)
theorem dJ4_grow_2_40 : decode cJ4_grow_2 40 = .ok (.dup_x1, 1) := dk_90 (dk_at dksJ4_grow_2_1 16 rfl rfl)
theorem dJ4_grow_2_41 : decode cJ4_grow_2 41 = .ok (.putfield 9, 3) := dk_181 0 9 (dk_at dksJ4_grow_2_1 17 rfl rfl)
theorem dJ4_grow_2_44 : decode cJ4_grow_2 44 = .ok (.areturn, 1) := dk_176 (dk_at dksJ4_grow_2_1 20 rfl rfl)
theorem dJ4_grow_2_45 : decode cJ4_grow_2 45 = .ok (.aload_n 0, 1) := dk_42 (dk_at dksJ4_grow_2_1 21 rfl rfl)
theorem dJ4_grow_2_46 : decode cJ4_grow_2 46 = .ok (.bipush 10, 2) := dk_16 10 (dk_at dksJ4_grow_2_1 22 rfl rfl)
theorem dJ4_grow_2_48 : decode cJ4_grow_2 48 = .ok (.iload_n 1, 1) := dk_27 (dk_at dksJ4_grow_2_2 0 rfl rfl)
theorem dJ4_grow_2_49 : decode cJ4_grow_2 49 = .ok (.invokestatic 79, 3) := dk_184 0 79 (dk_at dksJ4_grow_2_2 1 rfl rfl)
theorem dJ4_grow_2_52 : decode cJ4_grow_2 52 = .ok (.anewarray 7, 3) := dk_189 0 7 (dk_at dksJ4_grow_2_2 4 rfl rfl)
theorem dJ4_grow_2_55 : decode cJ4_grow_2 55 = .ok (.dup_x1, 1) := dk_90 (dk_at dksJ4_grow_2_2 7 rfl rfl)
theorem dJ4_grow_2_56 : decode cJ4_grow_2 56 = .ok (.putfield 9, 3) := dk_181 0 9 (dk_at dksJ4_grow_2_2 8 rfl rfl)
theorem dJ4_grow_2_59 : decode cJ4_grow_2 59 = .ok (.areturn, 1) := dk_176 (dk_at dksJ4_grow_2_2 11 rfl rfl)
abbrev cJ4_clear : ByteArray := prog_48_method_40_code
def yJ4_clear : MethodName := ⟨RJ4, "clear", "()V"⟩
def dkwJ4_clear_1 : List UInt8 := [181, 0, 48, 62, 29, 28, 162, 0, 13, 43, 29, 1, 83, 132, 3, 1, 167, 255, 244, 177]
abbrev dktJ4_clear_1 : List UInt8 := dkwJ4_clear_1 ++ []
def dkwJ4_clear_0 : List UInt8 := [42, 89, 180, 0, 63, 4, 96, 181, 0, 63, 42, 180, 0, 9, 76, 42, 180, 0, 48, 61, 42, 3, 90]
abbrev dktJ4_clear_0 : List UInt8 := dkwJ4_clear_0 ++ dktJ4_clear_1
theorem dksJ4_clear_0 : cJ4_clear.data.toList.drop 0 = dktJ4_clear_0 := by decide +kernel
theorem dksJ4_clear_1 : cJ4_clear.data.toList.drop 23 = dktJ4_clear_1 := dk_seg dksJ4_clear_0 23 rfl rfl
theorem dJ4_clear_0 : decode cJ4_clear 0 = .ok (.aload_n 0, 1) := dk_42 (dk_at dksJ4_clear_0 0 rfl rfl)
theorem dJ4_clear_1 : decode cJ4_clear 1 = .ok (.dup, 1) := dk_89 (dk_at dksJ4_clear_0 1 rfl rfl)
theorem dJ4_clear_2 : decode cJ4_clear 2 = .ok (.getfield 63, 3) := dk_180 0 63 (dk_at dksJ4_clear_0 2 rfl rfl)
theorem dJ4_clear_5 : decode cJ4_clear 5 = .ok (.iconst 1, 1) := dk_4 (dk_at dksJ4_clear_0 5 rfl rfl)
theorem dJ4_clear_6 : decode cJ4_clear 6 = .ok (.iadd, 1) := dk_96 (dk_at dksJ4_clear_0 6 rfl rfl)
theorem dJ4_clear_7 : decode cJ4_clear 7 = .ok (.putfield 63, 3) := dk_181 0 63 (dk_at dksJ4_clear_0 7 rfl rfl)
theorem dJ4_clear_10 : decode cJ4_clear 10 = .ok (.aload_n 0, 1) := dk_42 (dk_at dksJ4_clear_0 10 rfl rfl)
theorem dJ4_clear_11 : decode cJ4_clear 11 = .ok (.getfield 9, 3) := dk_180 0 9 (dk_at dksJ4_clear_0 11 rfl rfl)
theorem dJ4_clear_14 : decode cJ4_clear 14 = .ok (.astore_n 1, 1) := dk_76 (dk_at dksJ4_clear_0 14 rfl rfl)
theorem dJ4_clear_15 : decode cJ4_clear 15 = .ok (.aload_n 0, 1) := dk_42 (dk_at dksJ4_clear_0 15 rfl rfl)
theorem dJ4_clear_16 : decode cJ4_clear 16 = .ok (.getfield 48, 3) := dk_180 0 48 (dk_at dksJ4_clear_0 16 rfl rfl)
theorem dJ4_clear_19 : decode cJ4_clear 19 = .ok (.istore_n 2, 1) := dk_61 (dk_at dksJ4_clear_0 19 rfl rfl)
theorem dJ4_clear_20 : decode cJ4_clear 20 = .ok (.aload_n 0, 1) := dk_42 (dk_at dksJ4_clear_0 20 rfl rfl)
theorem dJ4_clear_21 : decode cJ4_clear 21 = .ok (.iconst 0, 1) := dk_3 (dk_at dksJ4_clear_0 21 rfl rfl)
theorem dJ4_clear_22 : decode cJ4_clear 22 = .ok (.dup_x1, 1) := dk_90 (dk_at dksJ4_clear_0 22 rfl rfl)
theorem dJ4_clear_23 : decode cJ4_clear 23 = .ok (.putfield 48, 3) := dk_181 0 48 (dk_at dksJ4_clear_1 0 rfl rfl)
theorem dJ4_clear_26 : decode cJ4_clear 26 = .ok (.istore_n 3, 1) := dk_62 (dk_at dksJ4_clear_1 3 rfl rfl)
theorem dJ4_clear_27 : decode cJ4_clear 27 = .ok (.iload_n 3, 1) := dk_29 (dk_at dksJ4_clear_1 4 rfl rfl)
theorem dJ4_clear_28 : decode cJ4_clear 28 = .ok (.iload_n 2, 1) := dk_28 (dk_at dksJ4_clear_1 5 rfl rfl)
theorem dJ4_clear_29 : decode cJ4_clear 29 = .ok (.if_icmp .ge 13, 3) := dk_162 0 13 (dk_at dksJ4_clear_1 6 rfl rfl)
theorem dJ4_clear_32 : decode cJ4_clear 32 = .ok (.aload_n 1, 1) := dk_43 (dk_at dksJ4_clear_1 9 rfl rfl)
theorem dJ4_clear_33 : decode cJ4_clear 33 = .ok (.iload_n 3, 1) := dk_29 (dk_at dksJ4_clear_1 10 rfl rfl)
theorem dJ4_clear_34 : decode cJ4_clear 34 = .ok (.aconst_null, 1) := dk_1 (dk_at dksJ4_clear_1 11 rfl rfl)
theorem dJ4_clear_35 : decode cJ4_clear 35 = .ok (.aastore, 1) := dk_83 (dk_at dksJ4_clear_1 12 rfl rfl)
theorem dJ4_clear_36 : decode cJ4_clear 36 = .ok (.iinc 3 1, 3) := dk_132 3 1 (dk_at dksJ4_clear_1 13 rfl rfl)
theorem dJ4_clear_39 : decode cJ4_clear 39 = .ok (.goto (-12), 3) := dk_167 255 244 (dk_at dksJ4_clear_1 16 rfl rfl)
theorem dJ4_clear_42 : decode cJ4_clear 42 = .ok (.return_, 1) := dk_177 (dk_at dksJ4_clear_1 19 rfl rfl)
abbrev cJ4_get : ByteArray := prog_48_method_20_code
def yJ4_get : MethodName := ⟨RJ4, "get", "(I)Ljava/lang/Object;"⟩
def dkwJ4_get_0 : List UInt8 := [27, 42, 180, 0, 48, 184, 0, 118, 87, 42, 27, 182, 0, 123, 176]
abbrev dktJ4_get_0 : List UInt8 := dkwJ4_get_0 ++ []
theorem dksJ4_get_0 : cJ4_get.data.toList.drop 0 = dktJ4_get_0 := by decide +kernel
theorem dJ4_get_0 : decode cJ4_get 0 = .ok (.iload_n 1, 1) := dk_27 (dk_at dksJ4_get_0 0 rfl rfl)
theorem dJ4_get_1 : decode cJ4_get 1 = .ok (.aload_n 0, 1) := dk_42 (dk_at dksJ4_get_0 1 rfl rfl)
theorem dJ4_get_2 : decode cJ4_get 2 = .ok (.getfield 48, 3) := dk_180 0 48 (dk_at dksJ4_get_0 2 rfl rfl)
theorem dJ4_get_5 : decode cJ4_get 5 = .ok (.invokestatic 118, 3) := dk_184 0 118 (dk_at dksJ4_get_0 5 rfl rfl)
theorem dJ4_get_8 : decode cJ4_get 8 = .ok (.pop, 1) := dk_87 (dk_at dksJ4_get_0 8 rfl rfl)
theorem dJ4_get_9 : decode cJ4_get 9 = .ok (.aload_n 0, 1) := dk_42 (dk_at dksJ4_get_0 9 rfl rfl)
theorem dJ4_get_10 : decode cJ4_get 10 = .ok (.iload_n 1, 1) := dk_27 (dk_at dksJ4_get_0 10 rfl rfl)
theorem dJ4_get_11 : decode cJ4_get 11 = .ok (.invokevirtual 123, 3) := dk_182 0 123 (dk_at dksJ4_get_0 11 rfl rfl)
theorem dJ4_get_14 : decode cJ4_get 14 = .ok (.areturn, 1) := dk_176 (dk_at dksJ4_get_0 14 rfl rfl)
abbrev cJ4_elementData : ByteArray := prog_48_method_18_code
def yJ4_elementData : MethodName := ⟨RJ4, "elementData", "(I)Ljava/lang/Object;"⟩
def dkwJ4_elementData_0 : List UInt8 := [42, 180, 0, 9, 27, 50, 176]
abbrev dktJ4_elementData_0 : List UInt8 := dkwJ4_elementData_0 ++ []
theorem dksJ4_elementData_0 : cJ4_elementData.data.toList.drop 0 = dktJ4_elementData_0 := by decide +kernel
theorem dJ4_elementData_0 : decode cJ4_elementData 0 = .ok (.aload_n 0, 1) := dk_42 (dk_at dksJ4_elementData_0 0 rfl rfl)
theorem dJ4_elementData_1 : decode cJ4_elementData 1 = .ok (.getfield 9, 3) := dk_180 0 9 (dk_at dksJ4_elementData_0 1 rfl rfl)
theorem dJ4_elementData_4 : decode cJ4_elementData 4 = .ok (.iload_n 1, 1) := dk_27 (dk_at dksJ4_elementData_0 4 rfl rfl)
theorem dJ4_elementData_5 : decode cJ4_elementData 5 = .ok (.aaload, 1) := dk_50 (dk_at dksJ4_elementData_0 5 rfl rfl)
theorem dJ4_elementData_6 : decode cJ4_elementData 6 = .ok (.areturn, 1) := dk_176 (dk_at dksJ4_elementData_0 6 rfl rfl)
theorem q123 : (Jvm.Cond.initialized "java/util/ArrayList") ∈ lw_all := lw_g (lw_at lw_m1 8 rfl) rfl
theorem q250 : (Jvm.Cond.instantiable "java/util/ArrayList" (3 : Nat)) ∈ lw_all := lw_g (lw_at lw_m1 135 rfl) rfl
theorem q252 : (Jvm.Cond.instanceMethod ({ cls := "java/util/ArrayList", name := "<init>", desc := "()V" } : Jvm.MethodName)) ∈ lw_all := lw_g (lw_at lw_m1 137 rfl) rfl
theorem q253 : (Jvm.Cond.code ({ cls := "java/util/ArrayList", name := "<init>", desc := "()V" } : Jvm.MethodName) prog_48_method_2_code (1 : Nat) (Option.none : Option Jvm.ClassFile.FieldType)) ∈ lw_all := lw_g (lw_at lw_m1 138 rfl) rfl
theorem q254 : (Jvm.Cond.methodLink "java/util/ArrayList" (1 : Nat) ({ cls := "java/util/AbstractList", name := "<init>", desc := "()V" } : Jvm.MethodName)) ∈ lw_all := lw_g (lw_at lw_m1 139 rfl) rfl
theorem q261 : (Jvm.Cond.fieldLink "java/util/ArrayList" (39 : Nat) "java/util/ArrayList" "DEFAULTCAPACITY_EMPTY_ELEMENTDATA" "[Ljava/lang/Object;") ∈ lw_all := lw_g (lw_at lw_m1 146 rfl) rfl
theorem q262 : (Jvm.Cond.laysStatic "java/util/ArrayList" "DEFAULTCAPACITY_EMPTY_ELEMENTDATA" "[Ljava/lang/Object;") ∈ lw_tbl := lw_at lw_m1 147 rfl
theorem q263 : (Jvm.Cond.fieldLink "java/util/ArrayList" (9 : Nat) "java/util/ArrayList" "elementData" "[Ljava/lang/Object;") ∈ lw_all := lw_g (lw_at lw_m1 148 rfl) rfl
theorem q264 : (Jvm.Cond.fieldLink "java/util/ArrayList" (48 : Nat) "java/util/ArrayList" "size" "I") ∈ lw_all := lw_g (lw_at lw_m1 149 rfl) rfl
theorem q266 : (Jvm.Cond.fieldLink "java/util/ArrayList" (63 : Nat) "java/util/ArrayList" "modCount" "I") ∈ lw_all := lw_g (lw_at lw_m1 151 rfl) rfl
theorem q267 : (Jvm.Cond.sameField "java/util/ArrayList" "java/util/AbstractList" "modCount" "I") ∈ lw_all := lw_g (lw_at lw_m1 152 rfl) rfl
theorem q268 : (Jvm.Cond.lays "java/util/ArrayList" "java/util/ArrayList" "elementData" "[Ljava/lang/Object;") ∈ lw_all := lw_g (lw_at lw_m1 153 rfl) rfl
theorem q269 : (Jvm.Cond.soleField "java/util/ArrayList" "elementData") ∈ lw_all := lw_g (lw_at lw_m1 154 rfl) rfl
theorem q270 : (Jvm.Cond.lays "java/util/ArrayList" "java/util/ArrayList" "size" "I") ∈ lw_all := lw_g (lw_at lw_m1 155 rfl) rfl
theorem q271 : (Jvm.Cond.soleField "java/util/ArrayList" "size") ∈ lw_all := lw_g (lw_at lw_m1 156 rfl) rfl
theorem q272 : (Jvm.Cond.lays "java/util/ArrayList" "java/util/AbstractList" "modCount" "I") ∈ lw_all := lw_g (lw_at lw_m1 157 rfl) rfl
theorem q274 : (Jvm.Cond.superclass "java/util/ArrayList" "java/util/AbstractList") ∈ lw_all := lw_g (lw_at lw_m1 159 rfl) rfl
theorem q381 : (Jvm.Cond.castable "java/util/ArrayList" "java/util/List") ∈ lw_tbl := lw_at lw_m2 26 rfl
theorem q382 : (Jvm.Cond.selects "java/util/ArrayList" ({ cls := "java/util/List", name := "size", desc := "()I" } : Jvm.MethodName) ({ cls := "java/util/ArrayList", name := "size", desc := "()I" } : Jvm.MethodName)) ∈ lw_all := lw_g (lw_at lw_m2 27 rfl) rfl
theorem q383 : (Jvm.Cond.unhidden "java/util/ArrayList" "size" "()I") ∈ lw_tbl := lw_at lw_m2 28 rfl
theorem q384 : (Jvm.Cond.instanceMethod ({ cls := "java/util/ArrayList", name := "size", desc := "()I" } : Jvm.MethodName)) ∈ lw_all := lw_g (lw_at lw_m2 29 rfl) rfl
theorem q385 : (Jvm.Cond.publicMethod ({ cls := "java/util/ArrayList", name := "size", desc := "()I" } : Jvm.MethodName)) ∈ lw_tbl := lw_at lw_m2 30 rfl
theorem q386 : (Jvm.Cond.code ({ cls := "java/util/ArrayList", name := "size", desc := "()I" } : Jvm.MethodName) prog_48_method_8_code (1 : Nat) (Option.some Jvm.ClassFile.FieldType.int)) ∈ lw_all := lw_g (lw_at lw_m2 31 rfl) rfl
theorem q879 : (Jvm.Cond.instanceMethod ({ cls := "java/util/ArrayList", name := "<init>", desc := "(I)V" } : Jvm.MethodName)) ∈ lw_all := lw_g (lw_at lw_m4 44 rfl) rfl
theorem q880 : (Jvm.Cond.code ({ cls := "java/util/ArrayList", name := "<init>", desc := "(I)V" } : Jvm.MethodName) prog_48_method_1_code (2 : Nat) (Option.none : Option Jvm.ClassFile.FieldType)) ∈ lw_all := lw_g (lw_at lw_m4 45 rfl) rfl
theorem q881 : (Jvm.Cond.classLink "java/util/ArrayList" (7 : Nat) "java/lang/Object") ∈ lw_all := lw_g (lw_at lw_m4 46 rfl) rfl
theorem q883 : (Jvm.Cond.fieldLink "java/util/ArrayList" (15 : Nat) "java/util/ArrayList" "EMPTY_ELEMENTDATA" "[Ljava/lang/Object;") ∈ lw_all := lw_g (lw_at lw_m4 48 rfl) rfl
theorem q884 : (Jvm.Cond.laysStatic "java/util/ArrayList" "EMPTY_ELEMENTDATA" "[Ljava/lang/Object;") ∈ lw_tbl := lw_at lw_m4 49 rfl
theorem q885 : (Jvm.Cond.classLink "java/util/ArrayList" (18 : Nat) "java/lang/IllegalArgumentException") ∈ lw_all := lw_g (lw_at lw_m4 50 rfl) rfl
theorem q886 : (Jvm.Cond.classLink "java/util/ArrayList" (20 : Nat) "java/lang/StringBuilder") ∈ lw_all := lw_g (lw_at lw_m4 51 rfl) rfl
theorem q887 : (Jvm.Cond.methodLink "java/util/ArrayList" (22 : Nat) ({ cls := "java/lang/StringBuilder", name := "<init>", desc := "()V" } : Jvm.MethodName)) ∈ lw_all := lw_g (lw_at lw_m4 52 rfl) rfl
theorem q888 : (Jvm.Cond.stringRef "java/util/ArrayList" (23 : Nat) "Illegal Capacity: ") ∈ lw_tbl := lw_at lw_m4 53 rfl
theorem q889 : (Jvm.Cond.methodLink "java/util/ArrayList" (25 : Nat) ({ cls := "java/lang/StringBuilder", name := "append", desc := "(Ljava/lang/String;)Ljava/lang/StringBuilder;" } : Jvm.MethodName)) ∈ lw_all := lw_g (lw_at lw_m4 54 rfl) rfl
theorem q890 : (Jvm.Cond.methodLink "java/util/ArrayList" (29 : Nat) ({ cls := "java/lang/StringBuilder", name := "append", desc := "(I)Ljava/lang/StringBuilder;" } : Jvm.MethodName)) ∈ lw_all := lw_g (lw_at lw_m4 55 rfl) rfl
theorem q891 : (Jvm.Cond.methodLink "java/util/ArrayList" (32 : Nat) ({ cls := "java/lang/StringBuilder", name := "toString", desc := "()Ljava/lang/String;" } : Jvm.MethodName)) ∈ lw_all := lw_g (lw_at lw_m4 56 rfl) rfl
theorem q892 : (Jvm.Cond.methodLink "java/util/ArrayList" (36 : Nat) ({ cls := "java/lang/IllegalArgumentException", name := "<init>", desc := "(Ljava/lang/String;)V" } : Jvm.MethodName)) ∈ lw_all := lw_g (lw_at lw_m4 57 rfl) rfl
theorem q974 : (Jvm.Cond.selects "java/util/ArrayList" ({ cls := "java/util/List", name := "add", desc := "(Ljava/lang/Object;)Z" } : Jvm.MethodName) ({ cls := "java/util/ArrayList", name := "add", desc := "(Ljava/lang/Object;)Z" } : Jvm.MethodName)) ∈ lw_all := lw_g (lw_at lw_m4 139 rfl) rfl
theorem q975 : (Jvm.Cond.unhidden "java/util/ArrayList" "add" "(Ljava/lang/Object;)Z") ∈ lw_tbl := lw_at lw_m4 140 rfl
theorem q976 : (Jvm.Cond.instanceMethod ({ cls := "java/util/ArrayList", name := "add", desc := "(Ljava/lang/Object;)Z" } : Jvm.MethodName)) ∈ lw_all := lw_g (lw_at lw_m4 141 rfl) rfl
theorem q977 : (Jvm.Cond.publicMethod ({ cls := "java/util/ArrayList", name := "add", desc := "(Ljava/lang/Object;)Z" } : Jvm.MethodName)) ∈ lw_tbl := lw_at lw_m4 142 rfl
theorem q978 : (Jvm.Cond.code ({ cls := "java/util/ArrayList", name := "add", desc := "(Ljava/lang/Object;)Z" } : Jvm.MethodName) prog_48_method_25_code (2 : Nat) (Option.some Jvm.ClassFile.FieldType.boolean)) ∈ lw_all := lw_g (lw_at lw_m4 143 rfl) rfl
theorem q979 : (Jvm.Cond.methodLink "java/util/ArrayList" (131 : Nat) ({ cls := "java/util/ArrayList", name := "add", desc := "(Ljava/lang/Object;[Ljava/lang/Object;I)V" } : Jvm.MethodName)) ∈ lw_all := lw_g (lw_at lw_m4 144 rfl) rfl
theorem q980 : (Jvm.Cond.privateMethod ({ cls := "java/util/ArrayList", name := "add", desc := "(Ljava/lang/Object;[Ljava/lang/Object;I)V" } : Jvm.MethodName)) ∈ lw_tbl := lw_at lw_m4 145 rfl
theorem q981 : (Jvm.Cond.instanceMethod ({ cls := "java/util/ArrayList", name := "add", desc := "(Ljava/lang/Object;[Ljava/lang/Object;I)V" } : Jvm.MethodName)) ∈ lw_all := lw_g (lw_at lw_m4 146 rfl) rfl
theorem q982 : (Jvm.Cond.code ({ cls := "java/util/ArrayList", name := "add", desc := "(Ljava/lang/Object;[Ljava/lang/Object;I)V" } : Jvm.MethodName) prog_48_method_24_code (4 : Nat) (Option.none : Option Jvm.ClassFile.FieldType)) ∈ lw_all := lw_g (lw_at lw_m4 147 rfl) rfl
theorem q983 : (Jvm.Cond.methodLink "java/util/ArrayList" (129 : Nat) ({ cls := "java/util/ArrayList", name := "grow", desc := "()[Ljava/lang/Object;" } : Jvm.MethodName)) ∈ lw_all := lw_g (lw_at lw_m4 148 rfl) rfl
theorem q984 : (Jvm.Cond.privateMethod ({ cls := "java/util/ArrayList", name := "grow", desc := "()[Ljava/lang/Object;" } : Jvm.MethodName)) ∈ lw_tbl := lw_at lw_m4 149 rfl
theorem q985 : (Jvm.Cond.instanceMethod ({ cls := "java/util/ArrayList", name := "grow", desc := "()[Ljava/lang/Object;" } : Jvm.MethodName)) ∈ lw_all := lw_g (lw_at lw_m4 150 rfl) rfl
theorem q986 : (Jvm.Cond.code ({ cls := "java/util/ArrayList", name := "grow", desc := "()[Ljava/lang/Object;" } : Jvm.MethodName) prog_48_method_7_code (1 : Nat) (Option.some (Jvm.ClassFile.FieldType.array (Jvm.ClassFile.FieldType.object "java/lang/Object")))) ∈ lw_all := lw_g (lw_at lw_m4 151 rfl) rfl
theorem q987 : (Jvm.Cond.methodLink "java/util/ArrayList" (69 : Nat) ({ cls := "java/util/ArrayList", name := "grow", desc := "(I)[Ljava/lang/Object;" } : Jvm.MethodName)) ∈ lw_all := lw_g (lw_at lw_m4 152 rfl) rfl
theorem q988 : (Jvm.Cond.privateMethod ({ cls := "java/util/ArrayList", name := "grow", desc := "(I)[Ljava/lang/Object;" } : Jvm.MethodName)) ∈ lw_tbl := lw_at lw_m4 153 rfl
theorem q989 : (Jvm.Cond.instanceMethod ({ cls := "java/util/ArrayList", name := "grow", desc := "(I)[Ljava/lang/Object;" } : Jvm.MethodName)) ∈ lw_all := lw_g (lw_at lw_m4 154 rfl) rfl
theorem q990 : (Jvm.Cond.code ({ cls := "java/util/ArrayList", name := "grow", desc := "(I)[Ljava/lang/Object;" } : Jvm.MethodName) prog_48_method_6_code (4 : Nat) (Option.some (Jvm.ClassFile.FieldType.array (Jvm.ClassFile.FieldType.object "java/lang/Object")))) ∈ lw_all := lw_g (lw_at lw_m4 155 rfl) rfl
theorem q991 : (Jvm.Cond.methodLink "java/util/ArrayList" (73 : Nat) ({ cls := "jdk/internal/util/ArraysSupport", name := "newLength", desc := "(III)I" } : Jvm.MethodName)) ∈ lw_all := lw_g (lw_at lw_m4 156 rfl) rfl
theorem q992 : (Jvm.Cond.methodLink "java/util/ArrayList" (66 : Nat) ({ cls := "java/util/Arrays", name := "copyOf", desc := "([Ljava/lang/Object;I)[Ljava/lang/Object;" } : Jvm.MethodName)) ∈ lw_all := lw_g (lw_at lw_m4 157 rfl) rfl
theorem q1017 : (Jvm.Cond.selects "java/util/ArrayList" ({ cls := "java/lang/Object", name := "getClass", desc := "()Ljava/lang/Class;" } : Jvm.MethodName) ({ cls := "java/lang/Object", name := "getClass", desc := "()Ljava/lang/Class;" } : Jvm.MethodName)) ∈ lw_all := lw_g (lw_at lw_m4 182 rfl) rfl
theorem q1030 : (Jvm.Cond.methodLink "java/util/ArrayList" (79 : Nat) ({ cls := "java/lang/Math", name := "max", desc := "(II)I" } : Jvm.MethodName)) ∈ lw_all := lw_g (lw_at lw_m4 195 rfl) rfl
theorem q1933 : (Jvm.Cond.selects "java/util/ArrayList" ({ cls := "java/util/List", name := "clear", desc := "()V" } : Jvm.MethodName) ({ cls := "java/util/ArrayList", name := "clear", desc := "()V" } : Jvm.MethodName)) ∈ lw_all := lw_g (lw_at lw_m8 138 rfl) rfl
theorem q1934 : (Jvm.Cond.unhidden "java/util/ArrayList" "clear" "()V") ∈ lw_tbl := lw_at lw_m8 139 rfl
theorem q1935 : (Jvm.Cond.instanceMethod ({ cls := "java/util/ArrayList", name := "clear", desc := "()V" } : Jvm.MethodName)) ∈ lw_all := lw_g (lw_at lw_m8 140 rfl) rfl
theorem q1936 : (Jvm.Cond.publicMethod ({ cls := "java/util/ArrayList", name := "clear", desc := "()V" } : Jvm.MethodName)) ∈ lw_tbl := lw_at lw_m8 141 rfl
theorem q1937 : (Jvm.Cond.code ({ cls := "java/util/ArrayList", name := "clear", desc := "()V" } : Jvm.MethodName) prog_48_method_40_code (4 : Nat) (Option.none : Option Jvm.ClassFile.FieldType)) ∈ lw_all := lw_g (lw_at lw_m8 142 rfl) rfl
theorem q2002 : (Jvm.Cond.selects "java/util/ArrayList" ({ cls := "java/util/List", name := "get", desc := "(I)Ljava/lang/Object;" } : Jvm.MethodName) ({ cls := "java/util/ArrayList", name := "get", desc := "(I)Ljava/lang/Object;" } : Jvm.MethodName)) ∈ lw_all := lw_g (lw_at lw_m8 207 rfl) rfl
theorem q2003 : (Jvm.Cond.unhidden "java/util/ArrayList" "get" "(I)Ljava/lang/Object;") ∈ lw_tbl := lw_at lw_m8 208 rfl
theorem q2004 : (Jvm.Cond.instanceMethod ({ cls := "java/util/ArrayList", name := "get", desc := "(I)Ljava/lang/Object;" } : Jvm.MethodName)) ∈ lw_all := lw_g (lw_at lw_m8 209 rfl) rfl
theorem q2005 : (Jvm.Cond.publicMethod ({ cls := "java/util/ArrayList", name := "get", desc := "(I)Ljava/lang/Object;" } : Jvm.MethodName)) ∈ lw_tbl := lw_at lw_m8 210 rfl
theorem q2006 : (Jvm.Cond.code ({ cls := "java/util/ArrayList", name := "get", desc := "(I)Ljava/lang/Object;" } : Jvm.MethodName) prog_48_method_20_code (2 : Nat) (Option.some (Jvm.ClassFile.FieldType.object "java/lang/Object"))) ∈ lw_all := lw_g (lw_at lw_m8 211 rfl) rfl
theorem q2007 : (Jvm.Cond.methodLink "java/util/ArrayList" (118 : Nat) ({ cls := "java/util/Objects", name := "checkIndex", desc := "(II)I" } : Jvm.MethodName)) ∈ lw_all := lw_g (lw_at lw_m8 212 rfl) rfl
theorem q2011 : (Jvm.Cond.methodLink "java/util/ArrayList" (123 : Nat) ({ cls := "java/util/ArrayList", name := "elementData", desc := "(I)Ljava/lang/Object;" } : Jvm.MethodName)) ∈ lw_all := lw_g (lw_at lw_m8 216 rfl) rfl
theorem q2012 : (Jvm.Cond.instanceMethod ({ cls := "java/util/ArrayList", name := "elementData", desc := "(I)Ljava/lang/Object;" } : Jvm.MethodName)) ∈ lw_all := lw_g (lw_at lw_m8 217 rfl) rfl
theorem q2013 : (Jvm.Cond.selects "java/util/ArrayList" ({ cls := "java/util/ArrayList", name := "elementData", desc := "(I)Ljava/lang/Object;" } : Jvm.MethodName) ({ cls := "java/util/ArrayList", name := "elementData", desc := "(I)Ljava/lang/Object;" } : Jvm.MethodName)) ∈ lw_all := lw_g (lw_at lw_m8 218 rfl) rfl
theorem q2014 : (Jvm.Cond.code ({ cls := "java/util/ArrayList", name := "elementData", desc := "(I)Ljava/lang/Object;" } : Jvm.MethodName) prog_48_method_18_code (2 : Nat) (Option.some (Jvm.ClassFile.FieldType.object "java/lang/Object"))) ∈ lw_all := lw_g (lw_at lw_m8 219 rfl) rfl
theorem q2796 : (Jvm.Cond.castable "java/util/ArrayList" "java/lang/Object") ∈ lw_tbl := lw_at lw_m12 41 rfl
theorem in_J4 : ∀ w ∈ wsJ40, w ∈ lw_all := lw_in wsJ40 [272, 268, 270] (by decide +kernel) (by decide +kernel)
/-! java/util/TreeMap -/
set_option maxRecDepth 100000
def RJ5 : String := "java/util/TreeMap"
def TJ5 : u_T := fun k => match k with
  | 0 => ("java/util/AbstractMap", "keySet", "Ljava/util/Set;", false)
  | 1 => ("java/util/AbstractMap", "values", "Ljava/util/Collection;", false)
  | 2 => ("java/util/TreeMap", "comparator", "Ljava/util/Comparator;", true)
  | 3 => ("java/util/TreeMap", "root", "Ljava/util/TreeMap$Entry;", false)
  | 4 => ("java/util/TreeMap", "size", "I", false)
  | 5 => ("java/util/TreeMap", "modCount", "I", false)
  | 6 => ("java/util/TreeMap", "entrySet", "Ljava/util/TreeMap$EntrySet;", false)
  | 7 => ("java/util/TreeMap", "navigableKeySet", "Ljava/util/TreeMap$KeySet;", false)
  | _ => ("java/util/TreeMap", "descendingMap", "Ljava/util/NavigableMap;", false)
def tyJ5 : Nat → FieldType := fun k => match k with
  | 0 => .object "java/util/Set"
  | 1 => .object "java/util/Collection"
  | 2 => .object "java/util/Comparator"
  | 3 => .object "java/util/TreeMap$Entry"
  | 4 => .int
  | 5 => .int
  | 6 => .object "java/util/TreeMap$EntrySet"
  | 7 => .object "java/util/TreeMap$KeySet"
  | _ => .object "java/util/NavigableMap"
abbrev wsJ50 : List Cond := u_ws RJ5 TJ5 9
theorem nmJ5 : ∀ a, a < 9 → ∀ b, b < 9 → a ≠ b → (TJ5 a).2.1 ≠ (TJ5 b).2.1 := by decide +kernel
theorem tyJ5_ok : ∀ k, k < 9 → parseFieldDescriptor (TJ5 k).2.2.1 = some (tyJ5 k) := by decide +kernel
abbrev cJ5_init : ByteArray := prog_65_method_1_code
def yJ5_init : MethodName := ⟨RJ5, "<init>", "()V"⟩
def dkwJ5_init_0 : List UInt8 := [42, 183, 0, 1, 42, 3, 181, 0, 7, 42, 3, 181, 0, 13, 42, 1, 181, 0, 16, 177]
abbrev dktJ5_init_0 : List UInt8 := dkwJ5_init_0 ++ []
theorem dksJ5_init_0 : cJ5_init.data.toList.drop 0 = dktJ5_init_0 := by decide +kernel
theorem dJ5_init_0 : decode cJ5_init 0 = .ok (.aload_n 0, 1) := dk_42 (dk_at dksJ5_init_0 0 rfl rfl)
theorem dJ5_init_1 : decode cJ5_init 1 = .ok (.invokespecial 1, 3) := dk_183 0 1 (dk_at dksJ5_init_0 1 rfl rfl)
theorem dJ5_init_4 : decode cJ5_init 4 = .ok (.aload_n 0, 1) := dk_42 (dk_at dksJ5_init_0 4 rfl rfl)
theorem dJ5_init_5 : decode cJ5_init 5 = .ok (.iconst 0, 1) := dk_3 (dk_at dksJ5_init_0 5 rfl rfl)
theorem dJ5_init_6 : decode cJ5_init 6 = .ok (.putfield 7, 3) := dk_181 0 7 (dk_at dksJ5_init_0 6 rfl rfl)
theorem dJ5_init_9 : decode cJ5_init 9 = .ok (.aload_n 0, 1) := dk_42 (dk_at dksJ5_init_0 9 rfl rfl)
theorem dJ5_init_10 : decode cJ5_init 10 = .ok (.iconst 0, 1) := dk_3 (dk_at dksJ5_init_0 10 rfl rfl)
theorem dJ5_init_11 : decode cJ5_init 11 = .ok (.putfield 13, 3) := dk_181 0 13 (dk_at dksJ5_init_0 11 rfl rfl)
theorem dJ5_init_14 : decode cJ5_init 14 = .ok (.aload_n 0, 1) := dk_42 (dk_at dksJ5_init_0 14 rfl rfl)
theorem dJ5_init_15 : decode cJ5_init 15 = .ok (.aconst_null, 1) := dk_1 (dk_at dksJ5_init_0 15 rfl rfl)
theorem dJ5_init_16 : decode cJ5_init 16 = .ok (.putfield 16, 3) := dk_181 0 16 (dk_at dksJ5_init_0 16 rfl rfl)
theorem dJ5_init_19 : decode cJ5_init 19 = .ok (.return_, 1) := dk_177 (dk_at dksJ5_init_0 19 rfl rfl)
abbrev cJ5_containsKey : ByteArray := prog_65_method_6_code
def yJ5_containsKey : MethodName := ⟨RJ5, "containsKey", "(Ljava/lang/Object;)Z"⟩
def dkwJ5_containsKey_0 : List UInt8 := [42, 43, 182, 0, 50, 198, 0, 7, 4, 167, 0, 4, 3, 172]
abbrev dktJ5_containsKey_0 : List UInt8 := dkwJ5_containsKey_0 ++ []
theorem dksJ5_containsKey_0 : cJ5_containsKey.data.toList.drop 0 = dktJ5_containsKey_0 := by decide +kernel
theorem dJ5_containsKey_0 : decode cJ5_containsKey 0 = .ok (.aload_n 0, 1) := dk_42 (dk_at dksJ5_containsKey_0 0 rfl rfl)
theorem dJ5_containsKey_1 : decode cJ5_containsKey 1 = .ok (.aload_n 1, 1) := dk_43 (dk_at dksJ5_containsKey_0 1 rfl rfl)
theorem dJ5_containsKey_2 : decode cJ5_containsKey 2 = .ok (.invokevirtual 50, 3) := dk_182 0 50 (dk_at dksJ5_containsKey_0 2 rfl rfl)
theorem dJ5_containsKey_5 : decode cJ5_containsKey 5 = .ok (.ifnull 7, 3) := dk_198 0 7 (dk_at dksJ5_containsKey_0 5 rfl rfl)
theorem dJ5_containsKey_8 : decode cJ5_containsKey 8 = .ok (.iconst 1, 1) := dk_4 (dk_at dksJ5_containsKey_0 8 rfl rfl)
theorem dJ5_containsKey_9 : decode cJ5_containsKey 9 = .ok (.goto 4, 3) := dk_167 0 4 (dk_at dksJ5_containsKey_0 9 rfl rfl)
theorem dJ5_containsKey_12 : decode cJ5_containsKey 12 = .ok (.iconst 0, 1) := dk_3 (dk_at dksJ5_containsKey_0 12 rfl rfl)
theorem dJ5_containsKey_13 : decode cJ5_containsKey 13 = .ok (.ireturn, 1) := dk_172 (dk_at dksJ5_containsKey_0 13 rfl rfl)
abbrev cJ5_getEntry : ByteArray := prog_65_method_15_code
def yJ5_getEntry : MethodName := ⟨RJ5, "getEntry", "(Ljava/lang/Object;)Ljava/util/TreeMap$Entry;"⟩
def dkwJ5_getEntry_3 : List UInt8 := [45, 176, 167, 255, 212, 1, 176]
abbrev dktJ5_getEntry_3 : List UInt8 := dkwJ5_getEntry_3 ++ []
def dkwJ5_getEntry_2 : List UInt8 := [156, 0, 11, 45, 180, 0, 111, 78, 167, 0, 18, 21, 4, 158, 0, 11, 45, 180, 0, 114, 78, 167, 0, 5]
abbrev dktJ5_getEntry_2 : List UInt8 := dkwJ5_getEntry_2 ++ dktJ5_getEntry_3
def dkwJ5_getEntry_1 : List UInt8 := [180, 0, 101, 78, 45, 198, 0, 46, 44, 45, 180, 0, 105, 185, 0, 107, 2, 0, 54, 4, 21, 4]
abbrev dktJ5_getEntry_1 : List UInt8 := dkwJ5_getEntry_1 ++ dktJ5_getEntry_2
def dkwJ5_getEntry_0 : List UInt8 := [42, 180, 0, 16, 198, 0, 9, 42, 43, 182, 0, 92, 176, 43, 184, 0, 95, 87, 43, 192, 0, 99, 77, 42]
abbrev dktJ5_getEntry_0 : List UInt8 := dkwJ5_getEntry_0 ++ dktJ5_getEntry_1
theorem dksJ5_getEntry_0 : cJ5_getEntry.data.toList.drop 0 = dktJ5_getEntry_0 := by decide +kernel
theorem dksJ5_getEntry_1 : cJ5_getEntry.data.toList.drop 24 = dktJ5_getEntry_1 := dk_seg dksJ5_getEntry_0 24 rfl rfl
theorem dksJ5_getEntry_2 : cJ5_getEntry.data.toList.drop 46 = dktJ5_getEntry_2 := dk_seg dksJ5_getEntry_1 22 rfl rfl
theorem dksJ5_getEntry_3 : cJ5_getEntry.data.toList.drop 70 = dktJ5_getEntry_3 := dk_seg dksJ5_getEntry_2 24 rfl rfl
theorem dJ5_getEntry_0 : decode cJ5_getEntry 0 = .ok (.aload_n 0, 1) := dk_42 (dk_at dksJ5_getEntry_0 0 rfl rfl)
theorem dJ5_getEntry_1 : decode cJ5_getEntry 1 = .ok (.getfield 16, 3) := dk_180 0 16 (dk_at dksJ5_getEntry_0 1 rfl rfl)
theorem dJ5_getEntry_4 : decode cJ5_getEntry 4 = .ok (.ifnull 9, 3) := dk_198 0 9 (dk_at dksJ5_getEntry_0 4 rfl rfl)
theorem dJ5_getEntry_7 : decode cJ5_getEntry 7 = .ok (.aload_n 0, 1) := dk_42 (dk_at dksJ5_getEntry_0 7 rfl rfl)
theorem dJ5_getEntry_8 : decode cJ5_getEntry 8 = .ok (.aload_n 1, 1) := dk_43 (dk_at dksJ5_getEntry_0 8 rfl rfl)
theorem dJ5_getEntry_9 : decode cJ5_getEntry 9 = .ok (.invokevirtual 92, 3) := dk_182 0 92 (dk_at dksJ5_getEntry_0 9 rfl rfl)
theorem dJ5_getEntry_12 : decode cJ5_getEntry 12 = .ok (.areturn, 1) := dk_176 (dk_at dksJ5_getEntry_0 12 rfl rfl)
theorem dJ5_getEntry_13 : decode cJ5_getEntry 13 = .ok (.aload_n 1, 1) := dk_43 (dk_at dksJ5_getEntry_0 13 rfl rfl)
theorem dJ5_getEntry_14 : decode cJ5_getEntry 14 = .ok (.invokestatic 95, 3) := dk_184 0 95 (dk_at dksJ5_getEntry_0 14 rfl rfl)
theorem dJ5_getEntry_17 : decode cJ5_getEntry 17 = .ok (.pop, 1) := dk_87 (dk_at dksJ5_getEntry_0 17 rfl rfl)
theorem dJ5_getEntry_18 : decode cJ5_getEntry 18 = .ok (.aload_n 1, 1) := dk_43 (dk_at dksJ5_getEntry_0 18 rfl rfl)
theorem dJ5_getEntry_19 : decode cJ5_getEntry 19 = .ok (.checkcast 99, 3) := dk_192 0 99 (dk_at dksJ5_getEntry_0 19 rfl rfl)
theorem dJ5_getEntry_22 : decode cJ5_getEntry 22 = .ok (.astore_n 2, 1) := dk_77 (dk_at dksJ5_getEntry_0 22 rfl rfl)
theorem dJ5_getEntry_23 : decode cJ5_getEntry 23 = .ok (.aload_n 0, 1) := dk_42 (dk_at dksJ5_getEntry_0 23 rfl rfl)
theorem dJ5_getEntry_24 : decode cJ5_getEntry 24 = .ok (.getfield 101, 3) := dk_180 0 101 (dk_at dksJ5_getEntry_1 0 rfl rfl)
theorem dJ5_getEntry_27 : decode cJ5_getEntry 27 = .ok (.astore_n 3, 1) := dk_78 (dk_at dksJ5_getEntry_1 3 rfl rfl)
theorem dJ5_getEntry_28 : decode cJ5_getEntry 28 = .ok (.aload_n 3, 1) := dk_45 (dk_at dksJ5_getEntry_1 4 rfl rfl)
theorem dJ5_getEntry_29 : decode cJ5_getEntry 29 = .ok (.ifnull 46, 3) := dk_198 0 46 (dk_at dksJ5_getEntry_1 5 rfl rfl)
theorem dJ5_getEntry_32 : decode cJ5_getEntry 32 = .ok (.aload_n 2, 1) := dk_44 (dk_at dksJ5_getEntry_1 8 rfl rfl)
theorem dJ5_getEntry_33 : decode cJ5_getEntry 33 = .ok (.aload_n 3, 1) := dk_45 (dk_at dksJ5_getEntry_1 9 rfl rfl)
theorem dJ5_getEntry_34 : decode cJ5_getEntry 34 = .ok (.getfield 105, 3) := dk_180 0 105 (dk_at dksJ5_getEntry_1 10 rfl rfl)
theorem dJ5_getEntry_37 : decode cJ5_getEntry 37 = .ok (.invokeinterface 107 2, 5) := by decide +kernel
theorem dJ5_getEntry_42 : decode cJ5_getEntry 42 = .ok (.istore 4, 2) := dk_54 4 (dk_at dksJ5_getEntry_1 18 rfl rfl)
theorem dJ5_getEntry_44 : decode cJ5_getEntry 44 = .ok (.iload 4, 2) := dk_21 4 (dk_at dksJ5_getEntry_1 20 rfl rfl)
theorem dJ5_getEntry_46 : decode cJ5_getEntry 46 = .ok (.ifCond .ge 11, 3) := dk_156 0 11 (dk_at dksJ5_getEntry_2 0 rfl rfl)
theorem dJ5_getEntry_49 : decode cJ5_getEntry 49 = .ok (.aload_n 3, 1) := dk_45 (dk_at dksJ5_getEntry_2 3 rfl rfl)
theorem dJ5_getEntry_50 : decode cJ5_getEntry 50 = .ok (.getfield 111, 3) := dk_180 0 111 (dk_at dksJ5_getEntry_2 4 rfl rfl)
theorem dJ5_getEntry_53 : decode cJ5_getEntry 53 = .ok (.astore_n 3, 1) := dk_78 (dk_at dksJ5_getEntry_2 7 rfl rfl)
theorem dJ5_getEntry_54 : decode cJ5_getEntry 54 = .ok (.goto 18, 3) := dk_167 0 18 (dk_at dksJ5_getEntry_2 8 rfl rfl)
theorem dJ5_getEntry_57 : decode cJ5_getEntry 57 = .ok (.iload 4, 2) := dk_21 4 (dk_at dksJ5_getEntry_2 11 rfl rfl)
theorem dJ5_getEntry_59 : decode cJ5_getEntry 59 = .ok (.ifCond .le 11, 3) := dk_158 0 11 (dk_at dksJ5_getEntry_2 13 rfl rfl)
theorem dJ5_getEntry_62 : decode cJ5_getEntry 62 = .ok (.aload_n 3, 1) := dk_45 (dk_at dksJ5_getEntry_2 16 rfl rfl)
theorem dJ5_getEntry_63 : decode cJ5_getEntry 63 = .ok (.getfield 114, 3) := dk_180 0 114 (dk_at dksJ5_getEntry_2 17 rfl rfl)
theorem dJ5_getEntry_66 : decode cJ5_getEntry 66 = .ok (.astore_n 3, 1) := dk_78 (dk_at dksJ5_getEntry_2 20 rfl rfl)
theorem dJ5_getEntry_67 : decode cJ5_getEntry 67 = .ok (.goto 5, 3) := dk_167 0 5 (dk_at dksJ5_getEntry_2 21 rfl rfl)
theorem dJ5_getEntry_70 : decode cJ5_getEntry 70 = .ok (.aload_n 3, 1) := dk_45 (dk_at dksJ5_getEntry_3 0 rfl rfl)
theorem dJ5_getEntry_71 : decode cJ5_getEntry 71 = .ok (.areturn, 1) := dk_176 (dk_at dksJ5_getEntry_3 1 rfl rfl)
theorem dJ5_getEntry_72 : decode cJ5_getEntry 72 = .ok (.goto (-44), 3) := dk_167 255 212 (dk_at dksJ5_getEntry_3 2 rfl rfl)
theorem dJ5_getEntry_75 : decode cJ5_getEntry 75 = .ok (.aconst_null, 1) := dk_1 (dk_at dksJ5_getEntry_3 5 rfl rfl)
theorem dJ5_getEntry_76 : decode cJ5_getEntry 76 = .ok (.areturn, 1) := dk_176 (dk_at dksJ5_getEntry_3 6 rfl rfl)
abbrev cJ5_getEntryUsingComparator : ByteArray := prog_65_method_16_code
def yJ5_getEntryUsingComparator : MethodName := ⟨RJ5, "getEntryUsingComparator", "(Ljava/lang/Object;)Ljava/util/TreeMap$Entry;"⟩
def dkwJ5_getEntryUsingComparator_3 : List UInt8 := [1, 176]
abbrev dktJ5_getEntryUsingComparator_3 : List UInt8 := dkwJ5_getEntryUsingComparator_3 ++ []
def dkwJ5_getEntryUsingComparator_2 : List UInt8 := [167, 0, 21, 21, 5, 158, 0, 13, 25, 4, 180, 0, 114, 58, 4, 167, 0, 6, 25, 4, 176, 167, 255, 204]
abbrev dktJ5_getEntryUsingComparator_2 : List UInt8 := dkwJ5_getEntryUsingComparator_2 ++ dktJ5_getEntryUsingComparator_3
def dkwJ5_getEntryUsingComparator_1 : List UInt8 := [25, 4, 180, 0, 105, 185, 0, 117, 3, 0, 54, 5, 21, 5, 156, 0, 13, 25, 4, 180, 0, 111, 58, 4]
abbrev dktJ5_getEntryUsingComparator_1 : List UInt8 := dkwJ5_getEntryUsingComparator_1 ++ dktJ5_getEntryUsingComparator_2
def dkwJ5_getEntryUsingComparator_0 : List UInt8 := [43, 77, 42, 180, 0, 16, 78, 45, 198, 0, 64, 42, 180, 0, 101, 58, 4, 25, 4, 198, 0, 53, 45, 44]
abbrev dktJ5_getEntryUsingComparator_0 : List UInt8 := dkwJ5_getEntryUsingComparator_0 ++ dktJ5_getEntryUsingComparator_1
theorem dksJ5_getEntryUsingComparator_0 : cJ5_getEntryUsingComparator.data.toList.drop 0 = dktJ5_getEntryUsingComparator_0 := by decide +kernel
theorem dksJ5_getEntryUsingComparator_1 : cJ5_getEntryUsingComparator.data.toList.drop 24 = dktJ5_getEntryUsingComparator_1 := dk_seg dksJ5_getEntryUsingComparator_0 24 rfl rfl
theorem dksJ5_getEntryUsingComparator_2 : cJ5_getEntryUsingComparator.data.toList.drop 48 = dktJ5_getEntryUsingComparator_2 := dk_seg dksJ5_getEntryUsingComparator_1 24 rfl rfl
theorem dksJ5_getEntryUsingComparator_3 : cJ5_getEntryUsingComparator.data.toList.drop 72 = dktJ5_getEntryUsingComparator_3 := dk_seg dksJ5_getEntryUsingComparator_2 24 rfl rfl
theorem dJ5_getEntryUsingComparator_0 : decode cJ5_getEntryUsingComparator 0 = .ok (.aload_n 1, 1) := dk_43 (dk_at dksJ5_getEntryUsingComparator_0 0 rfl rfl)
theorem dJ5_getEntryUsingComparator_1 : decode cJ5_getEntryUsingComparator 1 = .ok (.astore_n 2, 1) := dk_77 (dk_at dksJ5_getEntryUsingComparator_0 1 rfl rfl)
theorem dJ5_getEntryUsingComparator_2 : decode cJ5_getEntryUsingComparator 2 = .ok (.aload_n 0, 1) := dk_42 (dk_at dksJ5_getEntryUsingComparator_0 2 rfl rfl)
theorem dJ5_getEntryUsingComparator_3 : decode cJ5_getEntryUsingComparator 3 = .ok (.getfield 16, 3) := dk_180 0 16 (dk_at dksJ5_getEntryUsingComparator_0 3 rfl rfl)
theorem dJ5_getEntryUsingComparator_6 : decode cJ5_getEntryUsingComparator 6 = .ok (.astore_n 3, 1) := dk_78 (dk_at dksJ5_getEntryUsingComparator_0 6 rfl rfl)
theorem dJ5_getEntryUsingComparator_7 : decode cJ5_getEntryUsingComparator 7 = .ok (.aload_n 3, 1) := dk_45 (dk_at dksJ5_getEntryUsingComparator_0 7 rfl rfl)
theorem dJ5_getEntryUsingComparator_8 : decode cJ5_getEntryUsingComparator 8 = .ok (.ifnull 64, 3) := dk_198 0 64 (dk_at dksJ5_getEntryUsingComparator_0 8 rfl rfl)
theorem dJ5_getEntryUsingComparator_11 : decode cJ5_getEntryUsingComparator 11 = .ok (.aload_n 0, 1) := dk_42 (dk_at dksJ5_getEntryUsingComparator_0 11 rfl rfl)
theorem dJ5_getEntryUsingComparator_12 : decode cJ5_getEntryUsingComparator 12 = .ok (.getfield 101, 3) := dk_180 0 101 (dk_at dksJ5_getEntryUsingComparator_0 12 rfl rfl)
theorem dJ5_getEntryUsingComparator_15 : decode cJ5_getEntryUsingComparator 15 = .ok (.astore 4, 2) := dk_58 4 (dk_at dksJ5_getEntryUsingComparator_0 15 rfl rfl)
theorem dJ5_getEntryUsingComparator_17 : decode cJ5_getEntryUsingComparator 17 = .ok (.aload 4, 2) := dk_25 4 (dk_at dksJ5_getEntryUsingComparator_0 17 rfl rfl)
theorem dJ5_getEntryUsingComparator_19 : decode cJ5_getEntryUsingComparator 19 = .ok (.ifnull 53, 3) := dk_198 0 53 (dk_at dksJ5_getEntryUsingComparator_0 19 rfl rfl)
theorem dJ5_getEntryUsingComparator_22 : decode cJ5_getEntryUsingComparator 22 = .ok (.aload_n 3, 1) := dk_45 (dk_at dksJ5_getEntryUsingComparator_0 22 rfl rfl)
theorem dJ5_getEntryUsingComparator_23 : decode cJ5_getEntryUsingComparator 23 = .ok (.aload_n 2, 1) := dk_44 (dk_at dksJ5_getEntryUsingComparator_0 23 rfl rfl)
theorem dJ5_getEntryUsingComparator_24 : decode cJ5_getEntryUsingComparator 24 = .ok (.aload 4, 2) := dk_25 4 (dk_at dksJ5_getEntryUsingComparator_1 0 rfl rfl)
theorem dJ5_getEntryUsingComparator_26 : decode cJ5_getEntryUsingComparator 26 = .ok (.getfield 105, 3) := dk_180 0 105 (dk_at dksJ5_getEntryUsingComparator_1 2 rfl rfl)
theorem dJ5_getEntryUsingComparator_29 : decode cJ5_getEntryUsingComparator 29 = .ok (.invokeinterface 117 3, 5) := by decide +kernel
theorem dJ5_getEntryUsingComparator_34 : decode cJ5_getEntryUsingComparator 34 = .ok (.istore 5, 2) := dk_54 5 (dk_at dksJ5_getEntryUsingComparator_1 10 rfl rfl)
theorem dJ5_getEntryUsingComparator_36 : decode cJ5_getEntryUsingComparator 36 = .ok (.iload 5, 2) := dk_21 5 (dk_at dksJ5_getEntryUsingComparator_1 12 rfl rfl)
theorem dJ5_getEntryUsingComparator_38 : decode cJ5_getEntryUsingComparator 38 = .ok (.ifCond .ge 13, 3) := dk_156 0 13 (dk_at dksJ5_getEntryUsingComparator_1 14 rfl rfl)
theorem dJ5_getEntryUsingComparator_41 : decode cJ5_getEntryUsingComparator 41 = .ok (.aload 4, 2) := dk_25 4 (dk_at dksJ5_getEntryUsingComparator_1 17 rfl rfl)
theorem dJ5_getEntryUsingComparator_43 : decode cJ5_getEntryUsingComparator 43 = .ok (.getfield 111, 3) := dk_180 0 111 (dk_at dksJ5_getEntryUsingComparator_1 19 rfl rfl)
theorem dJ5_getEntryUsingComparator_46 : decode cJ5_getEntryUsingComparator 46 = .ok (.astore 4, 2) := dk_58 4 (dk_at dksJ5_getEntryUsingComparator_1 22 rfl rfl)
theorem dJ5_getEntryUsingComparator_48 : decode cJ5_getEntryUsingComparator 48 = .ok (.goto 21, 3) := dk_167 0 21 (dk_at dksJ5_getEntryUsingComparator_2 0 rfl rfl)
theorem dJ5_getEntryUsingComparator_51 : decode cJ5_getEntryUsingComparator 51 = .ok (.iload 5, 2) := dk_21 5 (dk_at dksJ5_getEntryUsingComparator_2 3 rfl rfl)
theorem dJ5_getEntryUsingComparator_53 : decode cJ5_getEntryUsingComparator 53 = .ok (.ifCond .le 13, 3) := dk_158 0 13 (dk_at dksJ5_getEntryUsingComparator_2 5 rfl rfl)
theorem dJ5_getEntryUsingComparator_56 : decode cJ5_getEntryUsingComparator 56 = .ok (.aload 4, 2) := dk_25 4 (dk_at dksJ5_getEntryUsingComparator_2 8 rfl rfl)
theorem dJ5_getEntryUsingComparator_58 : decode cJ5_getEntryUsingComparator 58 = .ok (.getfield 114, 3) := dk_180 0 114 (dk_at dksJ5_getEntryUsingComparator_2 10 rfl rfl)
theorem dJ5_getEntryUsingComparator_61 : decode cJ5_getEntryUsingComparator 61 = .ok (.astore 4, 2) := dk_58 4 (dk_at dksJ5_getEntryUsingComparator_2 13 rfl rfl)
theorem dJ5_getEntryUsingComparator_63 : decode cJ5_getEntryUsingComparator 63 = .ok (.goto 6, 3) := dk_167 0 6 (dk_at dksJ5_getEntryUsingComparator_2 15 rfl rfl)
theorem dJ5_getEntryUsingComparator_66 : decode cJ5_getEntryUsingComparator 66 = .ok (.aload 4, 2) := dk_25 4 (dk_at dksJ5_getEntryUsingComparator_2 18 rfl rfl)
theorem dJ5_getEntryUsingComparator_68 : decode cJ5_getEntryUsingComparator 68 = .ok (.areturn, 1) := dk_176 (dk_at dksJ5_getEntryUsingComparator_2 20 rfl rfl)
theorem dJ5_getEntryUsingComparator_69 : decode cJ5_getEntryUsingComparator 69 = .ok (.goto (-52), 3) := dk_167 255 204 (dk_at dksJ5_getEntryUsingComparator_2 21 rfl rfl)
theorem dJ5_getEntryUsingComparator_72 : decode cJ5_getEntryUsingComparator 72 = .ok (.aconst_null, 1) := dk_1 (dk_at dksJ5_getEntryUsingComparator_3 0 rfl rfl)
theorem dJ5_getEntryUsingComparator_73 : decode cJ5_getEntryUsingComparator 73 = .ok (.areturn, 1) := dk_176 (dk_at dksJ5_getEntryUsingComparator_3 1 rfl rfl)
abbrev cJ5_put : ByteArray := prog_65_method_21_code
def yJ5_put : MethodName := ⟨RJ5, "put", "(Ljava/lang/Object;Ljava/lang/Object;)Ljava/lang/Object;"⟩
def dkwJ5_put_0 : List UInt8 := [42, 43, 44, 4, 182, 0, 127, 176]
abbrev dktJ5_put_0 : List UInt8 := dkwJ5_put_0 ++ []
theorem dksJ5_put_0 : cJ5_put.data.toList.drop 0 = dktJ5_put_0 := by decide +kernel
theorem dJ5_put_0 : decode cJ5_put 0 = .ok (.aload_n 0, 1) := dk_42 (dk_at dksJ5_put_0 0 rfl rfl)
theorem dJ5_put_1 : decode cJ5_put 1 = .ok (.aload_n 1, 1) := dk_43 (dk_at dksJ5_put_0 1 rfl rfl)
theorem dJ5_put_2 : decode cJ5_put 2 = .ok (.aload_n 2, 1) := dk_44 (dk_at dksJ5_put_0 2 rfl rfl)
theorem dJ5_put_3 : decode cJ5_put 3 = .ok (.iconst 1, 1) := dk_4 (dk_at dksJ5_put_0 3 rfl rfl)
theorem dJ5_put_4 : decode cJ5_put 4 = .ok (.invokevirtual 127, 3) := dk_182 0 127 (dk_at dksJ5_put_0 4 rfl rfl)
theorem dJ5_put_7 : decode cJ5_put 7 = .ok (.areturn, 1) := dk_176 (dk_at dksJ5_put_0 7 rfl rfl)
abbrev cJ5_put_2 : ByteArray := prog_65_method_31_code
def yJ5_put_2 : MethodName := ⟨RJ5, "put", "(Ljava/lang/Object;Ljava/lang/Object;Z)Ljava/lang/Object;"⟩
def dkwJ5_put_2_9 : List UInt8 := [4, 167, 0, 4, 3, 182, 0, 139, 1, 176]
abbrev dktJ5_put_2_9 : List UInt8 := dkwJ5_put_2_9 ++ []
def dkwJ5_put_2_8 : List UInt8 := [25, 4, 44, 181, 0, 58, 25, 9, 176, 25, 4, 199, 255, 181, 42, 43, 44, 25, 6, 21, 5, 156, 0, 7]
abbrev dktJ5_put_2_8 : List UInt8 := dkwJ5_put_2_8 ++ dktJ5_put_2_9
def dkwJ5_put_2_7 : List UInt8 := [180, 0, 114, 58, 4, 167, 0, 28, 25, 4, 180, 0, 58, 58, 9, 29, 154, 0, 8, 25, 9, 199, 0, 9]
abbrev dktJ5_put_2_7 : List UInt8 := dkwJ5_put_2_7 ++ dktJ5_put_2_8
def dkwJ5_put_2_6 : List UInt8 := [21, 5, 156, 0, 13, 25, 4, 180, 0, 111, 58, 4, 167, 0, 43, 21, 5, 158, 0, 13, 25, 4]
abbrev dktJ5_put_2_6 : List UInt8 := dkwJ5_put_2_6 ++ dktJ5_put_2_7
def dkwJ5_put_2_5 : List UInt8 := [192, 0, 99, 58, 8, 25, 4, 58, 6, 25, 8, 25, 4, 180, 0, 105, 185, 0, 107, 2, 0, 54, 5]
abbrev dktJ5_put_2_5 : List UInt8 := dkwJ5_put_2_5 ++ dktJ5_put_2_6
def dkwJ5_put_2_4 : List UInt8 := [25, 4, 44, 181, 0, 58, 25, 8, 176, 25, 4, 199, 255, 180, 167, 0, 92, 43, 184, 0, 95, 87, 43]
abbrev dktJ5_put_2_4 : List UInt8 := dkwJ5_put_2_4 ++ dktJ5_put_2_5
def dkwJ5_put_2_3 : List UInt8 := [180, 0, 114, 58, 4, 167, 0, 28, 25, 4, 180, 0, 58, 58, 8, 29, 154, 0, 8, 25, 8, 199, 0, 9]
abbrev dktJ5_put_2_3 : List UInt8 := dkwJ5_put_2_3 ++ dktJ5_put_2_4
def dkwJ5_put_2_2 : List UInt8 := [54, 5, 21, 5, 156, 0, 13, 25, 4, 180, 0, 111, 58, 4, 167, 0, 43, 21, 5, 158, 0, 13, 25, 4]
abbrev dktJ5_put_2_2 : List UInt8 := dkwJ5_put_2_2 ++ dktJ5_put_2_3
def dkwJ5_put_2_1 : List UInt8 := [58, 7, 25, 7, 198, 0, 85, 25, 4, 58, 6, 25, 7, 43, 25, 4, 180, 0, 105, 185, 0, 117, 3, 0]
abbrev dktJ5_put_2_1 : List UInt8 := dkwJ5_put_2_1 ++ dktJ5_put_2_2
def dkwJ5_put_2_0 : List UInt8 := [42, 180, 0, 101, 58, 4, 25, 4, 199, 0, 11, 42, 43, 44, 182, 0, 135, 1, 176, 42, 180, 0, 16]
abbrev dktJ5_put_2_0 : List UInt8 := dkwJ5_put_2_0 ++ dktJ5_put_2_1
theorem dksJ5_put_2_0 : cJ5_put_2.data.toList.drop 0 = dktJ5_put_2_0 := by decide +kernel
theorem dksJ5_put_2_1 : cJ5_put_2.data.toList.drop 23 = dktJ5_put_2_1 := dk_seg dksJ5_put_2_0 23 rfl rfl
theorem dksJ5_put_2_2 : cJ5_put_2.data.toList.drop 47 = dktJ5_put_2_2 := dk_seg dksJ5_put_2_1 24 rfl rfl
theorem dksJ5_put_2_3 : cJ5_put_2.data.toList.drop 71 = dktJ5_put_2_3 := dk_seg dksJ5_put_2_2 24 rfl rfl
theorem dksJ5_put_2_4 : cJ5_put_2.data.toList.drop 95 = dktJ5_put_2_4 := dk_seg dksJ5_put_2_3 24 rfl rfl
theorem dksJ5_put_2_5 : cJ5_put_2.data.toList.drop 118 = dktJ5_put_2_5 := dk_seg dksJ5_put_2_4 23 rfl rfl
theorem dksJ5_put_2_6 : cJ5_put_2.data.toList.drop 141 = dktJ5_put_2_6 := dk_seg dksJ5_put_2_5 23 rfl rfl
theorem dksJ5_put_2_7 : cJ5_put_2.data.toList.drop 163 = dktJ5_put_2_7 := dk_seg dksJ5_put_2_6 22 rfl rfl
theorem dksJ5_put_2_8 : cJ5_put_2.data.toList.drop 187 = dktJ5_put_2_8 := dk_seg dksJ5_put_2_7 24 rfl rfl
theorem dksJ5_put_2_9 : cJ5_put_2.data.toList.drop 211 = dktJ5_put_2_9 := dk_seg dksJ5_put_2_8 24 rfl rfl
theorem dJ5_put_2_0 : decode cJ5_put_2 0 = .ok (.aload_n 0, 1) := dk_42 (dk_at dksJ5_put_2_0 0 rfl rfl)
theorem dJ5_put_2_1 : decode cJ5_put_2 1 = .ok (.getfield 101, 3) := dk_180 0 101 (dk_at dksJ5_put_2_0 1 rfl rfl)
theorem dJ5_put_2_4 : decode cJ5_put_2 4 = .ok (.astore 4, 2) := dk_58 4 (dk_at dksJ5_put_2_0 4 rfl rfl)
theorem dJ5_put_2_6 : decode cJ5_put_2 6 = .ok (.aload 4, 2) := dk_25 4 (dk_at dksJ5_put_2_0 6 rfl rfl)
theorem dJ5_put_2_8 : decode cJ5_put_2 8 = .ok (.ifnonnull 11, 3) := dk_199 0 11 (dk_at dksJ5_put_2_0 8 rfl rfl)
theorem dJ5_put_2_11 : decode cJ5_put_2 11 = .ok (.aload_n 0, 1) := dk_42 (dk_at dksJ5_put_2_0 11 rfl rfl)
theorem dJ5_put_2_12 : decode cJ5_put_2 12 = .ok (.aload_n 1, 1) := dk_43 (dk_at dksJ5_put_2_0 12 rfl rfl)
theorem dJ5_put_2_13 : decode cJ5_put_2 13 = .ok (.aload_n 2, 1) := dk_44 (dk_at dksJ5_put_2_0 13 rfl rfl)
theorem dJ5_put_2_14 : decode cJ5_put_2 14 = .ok (.invokevirtual 135, 3) := dk_182 0 135 (dk_at dksJ5_put_2_0 14 rfl rfl)
theorem dJ5_put_2_17 : decode cJ5_put_2 17 = .ok (.aconst_null, 1) := dk_1 (dk_at dksJ5_put_2_0 17 rfl rfl)
theorem dJ5_put_2_18 : decode cJ5_put_2 18 = .ok (.areturn, 1) := dk_176 (dk_at dksJ5_put_2_0 18 rfl rfl)
theorem dJ5_put_2_19 : decode cJ5_put_2 19 = .ok (.aload_n 0, 1) := dk_42 (dk_at dksJ5_put_2_0 19 rfl rfl)
theorem dJ5_put_2_20 : decode cJ5_put_2 20 = .ok (.getfield 16, 3) := dk_180 0 16 (dk_at dksJ5_put_2_0 20 rfl rfl)
theorem dJ5_put_2_23 : decode cJ5_put_2 23 = .ok (.astore 7, 2) := dk_58 7 (dk_at dksJ5_put_2_1 0 rfl rfl)
theorem dJ5_put_2_25 : decode cJ5_put_2 25 = .ok (.aload 7, 2) := dk_25 7 (dk_at dksJ5_put_2_1 2 rfl rfl)
theorem dJ5_put_2_27 : decode cJ5_put_2 27 = .ok (.ifnull 85, 3) := dk_198 0 85 (dk_at dksJ5_put_2_1 4 rfl rfl)
theorem dJ5_put_2_30 : decode cJ5_put_2 30 = .ok (.aload 4, 2) := dk_25 4 (dk_at dksJ5_put_2_1 7 rfl rfl)
theorem dJ5_put_2_32 : decode cJ5_put_2 32 = .ok (.astore 6, 2) := dk_58 6 (dk_at dksJ5_put_2_1 9 rfl rfl)
theorem dJ5_put_2_34 : decode cJ5_put_2 34 = .ok (.aload 7, 2) := dk_25 7 (dk_at dksJ5_put_2_1 11 rfl rfl)
theorem dJ5_put_2_36 : decode cJ5_put_2 36 = .ok (.aload_n 1, 1) := dk_43 (dk_at dksJ5_put_2_1 13 rfl rfl)
theorem dJ5_put_2_37 : decode cJ5_put_2 37 = .ok (.aload 4, 2) := dk_25 4 (dk_at dksJ5_put_2_1 14 rfl rfl)
theorem dJ5_put_2_39 : decode cJ5_put_2 39 = .ok (.getfield 105, 3) := dk_180 0 105 (dk_at dksJ5_put_2_1 16 rfl rfl)
theorem dJ5_put_2_42 : decode cJ5_put_2 42 = .ok (.invokeinterface 117 3, 5) := by decide +kernel
theorem dJ5_put_2_47 : decode cJ5_put_2 47 = .ok (.istore 5, 2) := dk_54 5 (dk_at dksJ5_put_2_2 0 rfl rfl)
theorem dJ5_put_2_49 : decode cJ5_put_2 49 = .ok (.iload 5, 2) := dk_21 5 (dk_at dksJ5_put_2_2 2 rfl rfl)
theorem dJ5_put_2_51 : decode cJ5_put_2 51 = .ok (.ifCond .ge 13, 3) := dk_156 0 13 (dk_at dksJ5_put_2_2 4 rfl rfl)
theorem dJ5_put_2_54 : decode cJ5_put_2 54 = .ok (.aload 4, 2) := dk_25 4 (dk_at dksJ5_put_2_2 7 rfl rfl)
theorem dJ5_put_2_56 : decode cJ5_put_2 56 = .ok (.getfield 111, 3) := dk_180 0 111 (dk_at dksJ5_put_2_2 9 rfl rfl)
theorem dJ5_put_2_59 : decode cJ5_put_2 59 = .ok (.astore 4, 2) := dk_58 4 (dk_at dksJ5_put_2_2 12 rfl rfl)
theorem dJ5_put_2_61 : decode cJ5_put_2 61 = .ok (.goto 43, 3) := dk_167 0 43 (dk_at dksJ5_put_2_2 14 rfl rfl)
theorem dJ5_put_2_64 : decode cJ5_put_2 64 = .ok (.iload 5, 2) := dk_21 5 (dk_at dksJ5_put_2_2 17 rfl rfl)
theorem dJ5_put_2_66 : decode cJ5_put_2 66 = .ok (.ifCond .le 13, 3) := dk_158 0 13 (dk_at dksJ5_put_2_2 19 rfl rfl)
theorem dJ5_put_2_69 : decode cJ5_put_2 69 = .ok (.aload 4, 2) := dk_25 4 (dk_at dksJ5_put_2_2 22 rfl rfl)
theorem dJ5_put_2_71 : decode cJ5_put_2 71 = .ok (.getfield 114, 3) := dk_180 0 114 (dk_at dksJ5_put_2_3 0 rfl rfl)
theorem dJ5_put_2_74 : decode cJ5_put_2 74 = .ok (.astore 4, 2) := dk_58 4 (dk_at dksJ5_put_2_3 3 rfl rfl)
theorem dJ5_put_2_76 : decode cJ5_put_2 76 = .ok (.goto 28, 3) := dk_167 0 28 (dk_at dksJ5_put_2_3 5 rfl rfl)
theorem dJ5_put_2_79 : decode cJ5_put_2 79 = .ok (.aload 4, 2) := dk_25 4 (dk_at dksJ5_put_2_3 8 rfl rfl)
theorem dJ5_put_2_81 : decode cJ5_put_2 81 = .ok (.getfield 58, 3) := dk_180 0 58 (dk_at dksJ5_put_2_3 10 rfl rfl)
theorem dJ5_put_2_84 : decode cJ5_put_2 84 = .ok (.astore 8, 2) := dk_58 8 (dk_at dksJ5_put_2_3 13 rfl rfl)
theorem dJ5_put_2_86 : decode cJ5_put_2 86 = .ok (.iload_n 3, 1) := dk_29 (dk_at dksJ5_put_2_3 15 rfl rfl)
theorem dJ5_put_2_87 : decode cJ5_put_2 87 = .ok (.ifCond .ne 8, 3) := dk_154 0 8 (dk_at dksJ5_put_2_3 16 rfl rfl)
theorem dJ5_put_2_90 : decode cJ5_put_2 90 = .ok (.aload 8, 2) := dk_25 8 (dk_at dksJ5_put_2_3 19 rfl rfl)
theorem dJ5_put_2_92 : decode cJ5_put_2 92 = .ok (.ifnonnull 9, 3) := dk_199 0 9 (dk_at dksJ5_put_2_3 21 rfl rfl)
theorem dJ5_put_2_95 : decode cJ5_put_2 95 = .ok (.aload 4, 2) := dk_25 4 (dk_at dksJ5_put_2_4 0 rfl rfl)
theorem dJ5_put_2_97 : decode cJ5_put_2 97 = .ok (.aload_n 2, 1) := dk_44 (dk_at dksJ5_put_2_4 2 rfl rfl)
theorem dJ5_put_2_98 : decode cJ5_put_2 98 = .ok (.putfield 58, 3) := dk_181 0 58 (dk_at dksJ5_put_2_4 3 rfl rfl)
theorem dJ5_put_2_101 : decode cJ5_put_2 101 = .ok (.aload 8, 2) := dk_25 8 (dk_at dksJ5_put_2_4 6 rfl rfl)
theorem dJ5_put_2_103 : decode cJ5_put_2 103 = .ok (.areturn, 1) := dk_176 (dk_at dksJ5_put_2_4 8 rfl rfl)
theorem dJ5_put_2_104 : decode cJ5_put_2 104 = .ok (.aload 4, 2) := dk_25 4 (dk_at dksJ5_put_2_4 9 rfl rfl)
theorem dJ5_put_2_106 : decode cJ5_put_2 106 = .ok (.ifnonnull (-76), 3) := dk_199 255 180 (dk_at dksJ5_put_2_4 11 rfl rfl)
theorem dJ5_put_2_109 : decode cJ5_put_2 109 = .ok (.goto 92, 3) := dk_167 0 92 (dk_at dksJ5_put_2_4 14 rfl rfl)
theorem dJ5_put_2_112 : decode cJ5_put_2 112 = .ok (.aload_n 1, 1) := dk_43 (dk_at dksJ5_put_2_4 17 rfl rfl)
theorem dJ5_put_2_113 : decode cJ5_put_2 113 = .ok (.invokestatic 95, 3) := dk_184 0 95 (dk_at dksJ5_put_2_4 18 rfl rfl)
theorem dJ5_put_2_116 : decode cJ5_put_2 116 = .ok (.pop, 1) := dk_87 (dk_at dksJ5_put_2_4 21 rfl rfl)
theorem dJ5_put_2_117 : decode cJ5_put_2 117 = .ok (.aload_n 1, 1) := dk_43 (dk_at dksJ5_put_2_4 22 rfl rfl)
theorem dJ5_put_2_118 : decode cJ5_put_2 118 = .ok (.checkcast 99, 3) := dk_192 0 99 (dk_at dksJ5_put_2_5 0 rfl rfl)
theorem dJ5_put_2_121 : decode cJ5_put_2 121 = .ok (.astore 8, 2) := dk_58 8 (dk_at dksJ5_put_2_5 3 rfl rfl)
theorem dJ5_put_2_123 : decode cJ5_put_2 123 = .ok (.aload 4, 2) := dk_25 4 (dk_at dksJ5_put_2_5 5 rfl rfl)
theorem dJ5_put_2_125 : decode cJ5_put_2 125 = .ok (.astore 6, 2) := dk_58 6 (dk_at dksJ5_put_2_5 7 rfl rfl)
theorem dJ5_put_2_127 : decode cJ5_put_2 127 = .ok (.aload 8, 2) := dk_25 8 (dk_at dksJ5_put_2_5 9 rfl rfl)
theorem dJ5_put_2_129 : decode cJ5_put_2 129 = .ok (.aload 4, 2) := dk_25 4 (dk_at dksJ5_put_2_5 11 rfl rfl)
theorem dJ5_put_2_131 : decode cJ5_put_2 131 = .ok (.getfield 105, 3) := dk_180 0 105 (dk_at dksJ5_put_2_5 13 rfl rfl)
theorem dJ5_put_2_134 : decode cJ5_put_2 134 = .ok (.invokeinterface 107 2, 5) := by decide +kernel
theorem dJ5_put_2_139 : decode cJ5_put_2 139 = .ok (.istore 5, 2) := dk_54 5 (dk_at dksJ5_put_2_5 21 rfl rfl)
theorem dJ5_put_2_141 : decode cJ5_put_2 141 = .ok (.iload 5, 2) := dk_21 5 (dk_at dksJ5_put_2_6 0 rfl rfl)
theorem dJ5_put_2_143 : decode cJ5_put_2 143 = .ok (.ifCond .ge 13, 3) := dk_156 0 13 (dk_at dksJ5_put_2_6 2 rfl rfl)
theorem dJ5_put_2_146 : decode cJ5_put_2 146 = .ok (.aload 4, 2) := dk_25 4 (dk_at dksJ5_put_2_6 5 rfl rfl)
theorem dJ5_put_2_148 : decode cJ5_put_2 148 = .ok (.getfield 111, 3) := dk_180 0 111 (dk_at dksJ5_put_2_6 7 rfl rfl)
theorem dJ5_put_2_151 : decode cJ5_put_2 151 = .ok (.astore 4, 2) := dk_58 4 (dk_at dksJ5_put_2_6 10 rfl rfl)
theorem dJ5_put_2_153 : decode cJ5_put_2 153 = .ok (.goto 43, 3) := dk_167 0 43 (dk_at dksJ5_put_2_6 12 rfl rfl)
theorem dJ5_put_2_156 : decode cJ5_put_2 156 = .ok (.iload 5, 2) := dk_21 5 (dk_at dksJ5_put_2_6 15 rfl rfl)
theorem dJ5_put_2_158 : decode cJ5_put_2 158 = .ok (.ifCond .le 13, 3) := dk_158 0 13 (dk_at dksJ5_put_2_6 17 rfl rfl)
theorem dJ5_put_2_161 : decode cJ5_put_2 161 = .ok (.aload 4, 2) := dk_25 4 (dk_at dksJ5_put_2_6 20 rfl rfl)
theorem dJ5_put_2_163 : decode cJ5_put_2 163 = .ok (.getfield 114, 3) := dk_180 0 114 (dk_at dksJ5_put_2_7 0 rfl rfl)
theorem dJ5_put_2_166 : decode cJ5_put_2 166 = .ok (.astore 4, 2) := dk_58 4 (dk_at dksJ5_put_2_7 3 rfl rfl)
theorem dJ5_put_2_168 : decode cJ5_put_2 168 = .ok (.goto 28, 3) := dk_167 0 28 (dk_at dksJ5_put_2_7 5 rfl rfl)
theorem dJ5_put_2_171 : decode cJ5_put_2 171 = .ok (.aload 4, 2) := dk_25 4 (dk_at dksJ5_put_2_7 8 rfl rfl)
theorem dJ5_put_2_173 : decode cJ5_put_2 173 = .ok (.getfield 58, 3) := dk_180 0 58 (dk_at dksJ5_put_2_7 10 rfl rfl)
theorem dJ5_put_2_176 : decode cJ5_put_2 176 = .ok (.astore 9, 2) := dk_58 9 (dk_at dksJ5_put_2_7 13 rfl rfl)
theorem dJ5_put_2_178 : decode cJ5_put_2 178 = .ok (.iload_n 3, 1) := dk_29 (dk_at dksJ5_put_2_7 15 rfl rfl)
theorem dJ5_put_2_179 : decode cJ5_put_2 179 = .ok (.ifCond .ne 8, 3) := dk_154 0 8 (dk_at dksJ5_put_2_7 16 rfl rfl)
theorem dJ5_put_2_182 : decode cJ5_put_2 182 = .ok (.aload 9, 2) := dk_25 9 (dk_at dksJ5_put_2_7 19 rfl rfl)
theorem dJ5_put_2_184 : decode cJ5_put_2 184 = .ok (.ifnonnull 9, 3) := dk_199 0 9 (dk_at dksJ5_put_2_7 21 rfl rfl)
theorem dJ5_put_2_187 : decode cJ5_put_2 187 = .ok (.aload 4, 2) := dk_25 4 (dk_at dksJ5_put_2_8 0 rfl rfl)
theorem dJ5_put_2_189 : decode cJ5_put_2 189 = .ok (.aload_n 2, 1) := dk_44 (dk_at dksJ5_put_2_8 2 rfl rfl)
theorem dJ5_put_2_190 : decode cJ5_put_2 190 = .ok (.putfield 58, 3) := dk_181 0 58 (dk_at dksJ5_put_2_8 3 rfl rfl)
theorem dJ5_put_2_193 : decode cJ5_put_2 193 = .ok (.aload 9, 2) := dk_25 9 (dk_at dksJ5_put_2_8 6 rfl rfl)
theorem dJ5_put_2_195 : decode cJ5_put_2 195 = .ok (.areturn, 1) := dk_176 (dk_at dksJ5_put_2_8 8 rfl rfl)
theorem dJ5_put_2_196 : decode cJ5_put_2 196 = .ok (.aload 4, 2) := dk_25 4 (dk_at dksJ5_put_2_8 9 rfl rfl)
theorem dJ5_put_2_198 : decode cJ5_put_2 198 = .ok (.ifnonnull (-75), 3) := dk_199 255 181 (dk_at dksJ5_put_2_8 11 rfl rfl)
theorem dJ5_put_2_201 : decode cJ5_put_2 201 = .ok (.aload_n 0, 1) := dk_42 (dk_at dksJ5_put_2_8 14 rfl rfl)
theorem dJ5_put_2_202 : decode cJ5_put_2 202 = .ok (.aload_n 1, 1) := dk_43 (dk_at dksJ5_put_2_8 15 rfl rfl)
theorem dJ5_put_2_203 : decode cJ5_put_2 203 = .ok (.aload_n 2, 1) := dk_44 (dk_at dksJ5_put_2_8 16 rfl rfl)
theorem dJ5_put_2_204 : decode cJ5_put_2 204 = .ok (.aload 6, 2) := dk_25 6 (dk_at dksJ5_put_2_8 17 rfl rfl)
theorem dJ5_put_2_206 : decode cJ5_put_2 206 = .ok (.iload 5, 2) := dk_21 5 (dk_at dksJ5_put_2_8 19 rfl rfl)
theorem dJ5_put_2_208 : decode cJ5_put_2 208 = .ok (.ifCond .ge 7, 3) := dk_156 0 7 (dk_at dksJ5_put_2_8 21 rfl rfl)
theorem dJ5_put_2_211 : decode cJ5_put_2 211 = .ok (.iconst 1, 1) := dk_4 (dk_at dksJ5_put_2_9 0 rfl rfl)
theorem dJ5_put_2_212 : decode cJ5_put_2 212 = .ok (.goto 4, 3) := dk_167 0 4 (dk_at dksJ5_put_2_9 1 rfl rfl)
theorem dJ5_put_2_215 : decode cJ5_put_2 215 = .ok (.iconst 0, 1) := dk_3 (dk_at dksJ5_put_2_9 4 rfl rfl)
theorem dJ5_put_2_216 : decode cJ5_put_2 216 = .ok (.invokevirtual 139, 3) := dk_182 0 139 (dk_at dksJ5_put_2_9 5 rfl rfl)
theorem dJ5_put_2_219 : decode cJ5_put_2 219 = .ok (.aconst_null, 1) := dk_1 (dk_at dksJ5_put_2_9 8 rfl rfl)
theorem dJ5_put_2_220 : decode cJ5_put_2 220 = .ok (.areturn, 1) := dk_176 (dk_at dksJ5_put_2_9 9 rfl rfl)
abbrev cJ5_addEntryToEmptyMap : ByteArray := prog_65_method_30_code
def yJ5_addEntryToEmptyMap : MethodName := ⟨RJ5, "addEntryToEmptyMap", "(Ljava/lang/Object;Ljava/lang/Object;)V"⟩
def dkwJ5_addEntryToEmptyMap_1 : List UInt8 := [181, 0, 7, 42, 89, 180, 0, 13, 4, 96, 181, 0, 13, 177]
abbrev dktJ5_addEntryToEmptyMap_1 : List UInt8 := dkwJ5_addEntryToEmptyMap_1 ++ []
def dkwJ5_addEntryToEmptyMap_0 : List UInt8 := [42, 43, 43, 182, 0, 123, 87, 42, 187, 0, 59, 89, 43, 44, 1, 183, 0, 167, 181, 0, 101, 42, 4]
abbrev dktJ5_addEntryToEmptyMap_0 : List UInt8 := dkwJ5_addEntryToEmptyMap_0 ++ dktJ5_addEntryToEmptyMap_1
theorem dksJ5_addEntryToEmptyMap_0 : cJ5_addEntryToEmptyMap.data.toList.drop 0 = dktJ5_addEntryToEmptyMap_0 := by decide +kernel
theorem dksJ5_addEntryToEmptyMap_1 : cJ5_addEntryToEmptyMap.data.toList.drop 23 = dktJ5_addEntryToEmptyMap_1 := dk_seg dksJ5_addEntryToEmptyMap_0 23 rfl rfl
theorem dJ5_addEntryToEmptyMap_0 : decode cJ5_addEntryToEmptyMap 0 = .ok (.aload_n 0, 1) := dk_42 (dk_at dksJ5_addEntryToEmptyMap_0 0 rfl rfl)
theorem dJ5_addEntryToEmptyMap_1 : decode cJ5_addEntryToEmptyMap 1 = .ok (.aload_n 1, 1) := dk_43 (dk_at dksJ5_addEntryToEmptyMap_0 1 rfl rfl)
theorem dJ5_addEntryToEmptyMap_2 : decode cJ5_addEntryToEmptyMap 2 = .ok (.aload_n 1, 1) := dk_43 (dk_at dksJ5_addEntryToEmptyMap_0 2 rfl rfl)
theorem dJ5_addEntryToEmptyMap_3 : decode cJ5_addEntryToEmptyMap 3 = .ok (.invokevirtual 123, 3) := dk_182 0 123 (dk_at dksJ5_addEntryToEmptyMap_0 3 rfl rfl)
theorem dJ5_addEntryToEmptyMap_6 : decode cJ5_addEntryToEmptyMap 6 = .ok (.pop, 1) := dk_87 (dk_at dksJ5_addEntryToEmptyMap_0 6 rfl rfl)
theorem dJ5_addEntryToEmptyMap_7 : decode cJ5_addEntryToEmptyMap 7 = .ok (.aload_n 0, 1) := dk_42 (dk_at dksJ5_addEntryToEmptyMap_0 7 rfl rfl)
theorem dJ5_addEntryToEmptyMap_8 : decode cJ5_addEntryToEmptyMap 8 = .ok (.new 59, 3) := dk_187 0 59 (dk_at dksJ5_addEntryToEmptyMap_0 8 rfl rfl)
theorem dJ5_addEntryToEmptyMap_11 : decode cJ5_addEntryToEmptyMap 11 = .ok (.dup, 1) := dk_89 (dk_at dksJ5_addEntryToEmptyMap_0 11 rfl rfl)
theorem dJ5_addEntryToEmptyMap_12 : decode cJ5_addEntryToEmptyMap 12 = .ok (.aload_n 1, 1) := dk_43 (dk_at dksJ5_addEntryToEmptyMap_0 12 rfl rfl)
theorem dJ5_addEntryToEmptyMap_13 : decode cJ5_addEntryToEmptyMap 13 = .ok (.aload_n 2, 1) := dk_44 (dk_at dksJ5_addEntryToEmptyMap_0 13 rfl rfl)
theorem dJ5_addEntryToEmptyMap_14 : decode cJ5_addEntryToEmptyMap 14 = .ok (.aconst_null, 1) := dk_1 (dk_at dksJ5_addEntryToEmptyMap_0 14 rfl rfl)
theorem dJ5_addEntryToEmptyMap_15 : decode cJ5_addEntryToEmptyMap 15 = .ok (.invokespecial 167, 3) := dk_183 0 167 (dk_at dksJ5_addEntryToEmptyMap_0 15 rfl rfl)
theorem dJ5_addEntryToEmptyMap_18 : decode cJ5_addEntryToEmptyMap 18 = .ok (.putfield 101, 3) := dk_181 0 101 (dk_at dksJ5_addEntryToEmptyMap_0 18 rfl rfl)
theorem dJ5_addEntryToEmptyMap_21 : decode cJ5_addEntryToEmptyMap 21 = .ok (.aload_n 0, 1) := dk_42 (dk_at dksJ5_addEntryToEmptyMap_0 21 rfl rfl)
theorem dJ5_addEntryToEmptyMap_22 : decode cJ5_addEntryToEmptyMap 22 = .ok (.iconst 1, 1) := dk_4 (dk_at dksJ5_addEntryToEmptyMap_0 22 rfl rfl)
theorem dJ5_addEntryToEmptyMap_23 : decode cJ5_addEntryToEmptyMap 23 = .ok (.putfield 7, 3) := dk_181 0 7 (dk_at dksJ5_addEntryToEmptyMap_1 0 rfl rfl)
theorem dJ5_addEntryToEmptyMap_26 : decode cJ5_addEntryToEmptyMap 26 = .ok (.aload_n 0, 1) := dk_42 (dk_at dksJ5_addEntryToEmptyMap_1 3 rfl rfl)
theorem dJ5_addEntryToEmptyMap_27 : decode cJ5_addEntryToEmptyMap 27 = .ok (.dup, 1) := dk_89 (dk_at dksJ5_addEntryToEmptyMap_1 4 rfl rfl)
theorem dJ5_addEntryToEmptyMap_28 : decode cJ5_addEntryToEmptyMap 28 = .ok (.getfield 13, 3) := dk_180 0 13 (dk_at dksJ5_addEntryToEmptyMap_1 5 rfl rfl)
theorem dJ5_addEntryToEmptyMap_31 : decode cJ5_addEntryToEmptyMap 31 = .ok (.iconst 1, 1) := dk_4 (dk_at dksJ5_addEntryToEmptyMap_1 8 rfl rfl)
theorem dJ5_addEntryToEmptyMap_32 : decode cJ5_addEntryToEmptyMap 32 = .ok (.iadd, 1) := dk_96 (dk_at dksJ5_addEntryToEmptyMap_1 9 rfl rfl)
theorem dJ5_addEntryToEmptyMap_33 : decode cJ5_addEntryToEmptyMap 33 = .ok (.putfield 13, 3) := dk_181 0 13 (dk_at dksJ5_addEntryToEmptyMap_1 10 rfl rfl)
theorem dJ5_addEntryToEmptyMap_36 : decode cJ5_addEntryToEmptyMap 36 = .ok (.return_, 1) := dk_177 (dk_at dksJ5_addEntryToEmptyMap_1 13 rfl rfl)
abbrev cJ5_compare : ByteArray := prog_65_method_67_code
def yJ5_compare : MethodName := ⟨RJ5, "compare", "(Ljava/lang/Object;Ljava/lang/Object;)I"⟩
def dkwJ5_compare_1 : List UInt8 := [43, 44, 185, 0, 117, 3, 0, 172]
abbrev dktJ5_compare_1 : List UInt8 := dkwJ5_compare_1 ++ []
def dkwJ5_compare_0 : List UInt8 := [42, 180, 0, 16, 199, 0, 16, 43, 192, 0, 99, 44, 185, 0, 107, 2, 0, 167, 0, 14, 42, 180, 0, 16]
abbrev dktJ5_compare_0 : List UInt8 := dkwJ5_compare_0 ++ dktJ5_compare_1
theorem dksJ5_compare_0 : cJ5_compare.data.toList.drop 0 = dktJ5_compare_0 := by decide +kernel
theorem dksJ5_compare_1 : cJ5_compare.data.toList.drop 24 = dktJ5_compare_1 := dk_seg dksJ5_compare_0 24 rfl rfl
theorem dJ5_compare_0 : decode cJ5_compare 0 = .ok (.aload_n 0, 1) := dk_42 (dk_at dksJ5_compare_0 0 rfl rfl)
theorem dJ5_compare_1 : decode cJ5_compare 1 = .ok (.getfield 16, 3) := dk_180 0 16 (dk_at dksJ5_compare_0 1 rfl rfl)
theorem dJ5_compare_4 : decode cJ5_compare 4 = .ok (.ifnonnull 16, 3) := dk_199 0 16 (dk_at dksJ5_compare_0 4 rfl rfl)
theorem dJ5_compare_7 : decode cJ5_compare 7 = .ok (.aload_n 1, 1) := dk_43 (dk_at dksJ5_compare_0 7 rfl rfl)
theorem dJ5_compare_8 : decode cJ5_compare 8 = .ok (.checkcast 99, 3) := dk_192 0 99 (dk_at dksJ5_compare_0 8 rfl rfl)
theorem dJ5_compare_11 : decode cJ5_compare 11 = .ok (.aload_n 2, 1) := dk_44 (dk_at dksJ5_compare_0 11 rfl rfl)
theorem dJ5_compare_12 : decode cJ5_compare 12 = .ok (.invokeinterface 107 2, 5) := by decide +kernel
theorem dJ5_compare_17 : decode cJ5_compare 17 = .ok (.goto 14, 3) := dk_167 0 14 (dk_at dksJ5_compare_0 17 rfl rfl)
theorem dJ5_compare_20 : decode cJ5_compare 20 = .ok (.aload_n 0, 1) := dk_42 (dk_at dksJ5_compare_0 20 rfl rfl)
theorem dJ5_compare_21 : decode cJ5_compare 21 = .ok (.getfield 16, 3) := dk_180 0 16 (dk_at dksJ5_compare_0 21 rfl rfl)
theorem dJ5_compare_24 : decode cJ5_compare 24 = .ok (.aload_n 1, 1) := dk_43 (dk_at dksJ5_compare_1 0 rfl rfl)
theorem dJ5_compare_25 : decode cJ5_compare 25 = .ok (.aload_n 2, 1) := dk_44 (dk_at dksJ5_compare_1 1 rfl rfl)
theorem dJ5_compare_26 : decode cJ5_compare 26 = .ok (.invokeinterface 117 3, 5) := by decide +kernel
theorem dJ5_compare_31 : decode cJ5_compare 31 = .ok (.ireturn, 1) := dk_172 (dk_at dksJ5_compare_1 7 rfl rfl)
abbrev cJ5_addEntry : ByteArray := prog_65_method_29_code
def yJ5_addEntry : MethodName := ⟨RJ5, "addEntry", "(Ljava/lang/Object;Ljava/lang/Object;Ljava/util/TreeMap$Entry;Z)V"⟩
def dkwJ5_addEntry_2 : List UInt8 := [181, 0, 7, 42, 89, 180, 0, 13, 4, 96, 181, 0, 13, 177]
abbrev dktJ5_addEntry_2 : List UInt8 := dkwJ5_addEntry_2 ++ []
def dkwJ5_addEntry_1 : List UInt8 := [167, 0, 9, 45, 25, 5, 181, 0, 114, 42, 25, 5, 182, 0, 170, 42, 89, 180, 0, 7, 4, 96]
abbrev dktJ5_addEntry_1 : List UInt8 := dkwJ5_addEntry_1 ++ dktJ5_addEntry_2
def dkwJ5_addEntry_0 : List UInt8 := [187, 0, 59, 89, 43, 44, 45, 183, 0, 167, 58, 5, 21, 4, 153, 0, 12, 45, 25, 5, 181, 0, 111]
abbrev dktJ5_addEntry_0 : List UInt8 := dkwJ5_addEntry_0 ++ dktJ5_addEntry_1
theorem dksJ5_addEntry_0 : cJ5_addEntry.data.toList.drop 0 = dktJ5_addEntry_0 := by decide +kernel
theorem dksJ5_addEntry_1 : cJ5_addEntry.data.toList.drop 23 = dktJ5_addEntry_1 := dk_seg dksJ5_addEntry_0 23 rfl rfl
theorem dksJ5_addEntry_2 : cJ5_addEntry.data.toList.drop 45 = dktJ5_addEntry_2 := dk_seg dksJ5_addEntry_1 22 rfl rfl
theorem dJ5_addEntry_0 : decode cJ5_addEntry 0 = .ok (.new 59, 3) := dk_187 0 59 (dk_at dksJ5_addEntry_0 0 rfl rfl)
theorem dJ5_addEntry_3 : decode cJ5_addEntry 3 = .ok (.dup, 1) := dk_89 (dk_at dksJ5_addEntry_0 3 rfl rfl)
theorem dJ5_addEntry_4 : decode cJ5_addEntry 4 = .ok (.aload_n 1, 1) := dk_43 (dk_at dksJ5_addEntry_0 4 rfl rfl)
theorem dJ5_addEntry_5 : decode cJ5_addEntry 5 = .ok (.aload_n 2, 1) := dk_44 (dk_at dksJ5_addEntry_0 5 rfl rfl)
theorem dJ5_addEntry_6 : decode cJ5_addEntry 6 = .ok (.aload_n 3, 1) := dk_45 (dk_at dksJ5_addEntry_0 6 rfl rfl)
theorem dJ5_addEntry_7 : decode cJ5_addEntry 7 = .ok (.invokespecial 167, 3) := dk_183 0 167 (dk_at dksJ5_addEntry_0 7 rfl rfl)
theorem dJ5_addEntry_10 : decode cJ5_addEntry 10 = .ok (.astore 5, 2) := dk_58 5 (dk_at dksJ5_addEntry_0 10 rfl rfl)
theorem dJ5_addEntry_12 : decode cJ5_addEntry 12 = .ok (.iload 4, 2) := dk_21 4 (dk_at dksJ5_addEntry_0 12 rfl rfl)
theorem dJ5_addEntry_14 : decode cJ5_addEntry 14 = .ok (.ifCond .eq 12, 3) := dk_153 0 12 (dk_at dksJ5_addEntry_0 14 rfl rfl)
theorem dJ5_addEntry_17 : decode cJ5_addEntry 17 = .ok (.aload_n 3, 1) := dk_45 (dk_at dksJ5_addEntry_0 17 rfl rfl)
theorem dJ5_addEntry_18 : decode cJ5_addEntry 18 = .ok (.aload 5, 2) := dk_25 5 (dk_at dksJ5_addEntry_0 18 rfl rfl)
theorem dJ5_addEntry_20 : decode cJ5_addEntry 20 = .ok (.putfield 111, 3) := dk_181 0 111 (dk_at dksJ5_addEntry_0 20 rfl rfl)
theorem dJ5_addEntry_23 : decode cJ5_addEntry 23 = .ok (.goto 9, 3) := dk_167 0 9 (dk_at dksJ5_addEntry_1 0 rfl rfl)
theorem dJ5_addEntry_26 : decode cJ5_addEntry 26 = .ok (.aload_n 3, 1) := dk_45 (dk_at dksJ5_addEntry_1 3 rfl rfl)
theorem dJ5_addEntry_27 : decode cJ5_addEntry 27 = .ok (.aload 5, 2) := dk_25 5 (dk_at dksJ5_addEntry_1 4 rfl rfl)
theorem dJ5_addEntry_29 : decode cJ5_addEntry 29 = .ok (.putfield 114, 3) := dk_181 0 114 (dk_at dksJ5_addEntry_1 6 rfl rfl)
theorem dJ5_addEntry_32 : decode cJ5_addEntry 32 = .ok (.aload_n 0, 1) := dk_42 (dk_at dksJ5_addEntry_1 9 rfl rfl)
theorem dJ5_addEntry_33 : decode cJ5_addEntry 33 = .ok (.aload 5, 2) := dk_25 5 (dk_at dksJ5_addEntry_1 10 rfl rfl)
theorem dJ5_addEntry_35 : decode cJ5_addEntry 35 = .ok (.invokevirtual 170, 3) := dk_182 0 170 (dk_at dksJ5_addEntry_1 12 rfl rfl)
theorem dJ5_addEntry_38 : decode cJ5_addEntry 38 = .ok (.aload_n 0, 1) := dk_42 (dk_at dksJ5_addEntry_1 15 rfl rfl)
theorem dJ5_addEntry_39 : decode cJ5_addEntry 39 = .ok (.dup, 1) := dk_89 (dk_at dksJ5_addEntry_1 16 rfl rfl)
theorem dJ5_addEntry_40 : decode cJ5_addEntry 40 = .ok (.getfield 7, 3) := dk_180 0 7 (dk_at dksJ5_addEntry_1 17 rfl rfl)
theorem dJ5_addEntry_43 : decode cJ5_addEntry 43 = .ok (.iconst 1, 1) := dk_4 (dk_at dksJ5_addEntry_1 20 rfl rfl)
theorem dJ5_addEntry_44 : decode cJ5_addEntry 44 = .ok (.iadd, 1) := dk_96 (dk_at dksJ5_addEntry_1 21 rfl rfl)
theorem dJ5_addEntry_45 : decode cJ5_addEntry 45 = .ok (.putfield 7, 3) := dk_181 0 7 (dk_at dksJ5_addEntry_2 0 rfl rfl)
theorem dJ5_addEntry_48 : decode cJ5_addEntry 48 = .ok (.aload_n 0, 1) := dk_42 (dk_at dksJ5_addEntry_2 3 rfl rfl)
theorem dJ5_addEntry_49 : decode cJ5_addEntry 49 = .ok (.dup, 1) := dk_89 (dk_at dksJ5_addEntry_2 4 rfl rfl)
theorem dJ5_addEntry_50 : decode cJ5_addEntry 50 = .ok (.getfield 13, 3) := dk_180 0 13 (dk_at dksJ5_addEntry_2 5 rfl rfl)
theorem dJ5_addEntry_53 : decode cJ5_addEntry 53 = .ok (.iconst 1, 1) := dk_4 (dk_at dksJ5_addEntry_2 8 rfl rfl)
theorem dJ5_addEntry_54 : decode cJ5_addEntry 54 = .ok (.iadd, 1) := dk_96 (dk_at dksJ5_addEntry_2 9 rfl rfl)
theorem dJ5_addEntry_55 : decode cJ5_addEntry 55 = .ok (.putfield 13, 3) := dk_181 0 13 (dk_at dksJ5_addEntry_2 10 rfl rfl)
theorem dJ5_addEntry_58 : decode cJ5_addEntry 58 = .ok (.return_, 1) := dk_177 (dk_at dksJ5_addEntry_2 13 rfl rfl)
abbrev cJ5_fixAfterInsertion : ByteArray := prog_65_method_83_code
def yJ5_fixAfterInsertion : MethodName := ⟨RJ5, "fixAfterInsertion", "(Ljava/util/TreeMap$Entry;)V"⟩
def dkwJ5_fixAfterInsertion_11 : List UInt8 := [42, 180, 0, 101, 4, 181, 1, 34, 177]
abbrev dktJ5_fixAfterInsertion_11 : List UInt8 := dkwJ5_fixAfterInsertion_11 ++ []
def dkwJ5_fixAfterInsertion_10 : List UInt8 := [184, 1, 38, 184, 1, 38, 3, 184, 1, 51, 42, 43, 184, 1, 38, 184, 1, 38, 182, 1, 55, 167, 255, 6]
abbrev dktJ5_fixAfterInsertion_10 : List UInt8 := dkwJ5_fixAfterInsertion_10 ++ dktJ5_fixAfterInsertion_11
def dkwJ5_fixAfterInsertion_9 : List UInt8 := [166, 0, 13, 43, 184, 1, 38, 76, 42, 43, 182, 1, 58, 43, 184, 1, 38, 4, 184, 1, 51, 43]
abbrev dktJ5_fixAfterInsertion_9 : List UInt8 := dkwJ5_fixAfterInsertion_9 ++ dktJ5_fixAfterInsertion_10
def dkwJ5_fixAfterInsertion_8 : List UInt8 := [184, 1, 51, 43, 184, 1, 38, 184, 1, 38, 76, 167, 0, 54, 43, 43, 184, 1, 38, 184, 1, 41]
abbrev dktJ5_fixAfterInsertion_8 : List UInt8 := dkwJ5_fixAfterInsertion_8 ++ dktJ5_fixAfterInsertion_9
def dkwJ5_fixAfterInsertion_7 : List UInt8 := [154, 0, 38, 43, 184, 1, 38, 4, 184, 1, 51, 44, 4, 184, 1, 51, 43, 184, 1, 38, 184, 1, 38, 3]
abbrev dktJ5_fixAfterInsertion_7 : List UInt8 := dkwJ5_fixAfterInsertion_7 ++ dktJ5_fixAfterInsertion_8
def dkwJ5_fixAfterInsertion_6 : List UInt8 := [184, 1, 38, 182, 1, 58, 167, 255, 113, 43, 184, 1, 38, 184, 1, 38, 184, 1, 41, 77, 44, 184, 1, 47]
abbrev dktJ5_fixAfterInsertion_6 : List UInt8 := dkwJ5_fixAfterInsertion_6 ++ dktJ5_fixAfterInsertion_7
def dkwJ5_fixAfterInsertion_5 : List UInt8 := [43, 184, 1, 38, 4, 184, 1, 51, 43, 184, 1, 38, 184, 1, 38, 3, 184, 1, 51, 42, 43, 184, 1, 38]
abbrev dktJ5_fixAfterInsertion_5 : List UInt8 := dkwJ5_fixAfterInsertion_5 ++ dktJ5_fixAfterInsertion_6
def dkwJ5_fixAfterInsertion_4 : List UInt8 := [167, 0, 54, 43, 43, 184, 1, 38, 184, 1, 44, 166, 0, 13, 43, 184, 1, 38, 76, 42, 43, 182, 1, 55]
abbrev dktJ5_fixAfterInsertion_4 : List UInt8 := dkwJ5_fixAfterInsertion_4 ++ dktJ5_fixAfterInsertion_5
def dkwJ5_fixAfterInsertion_3 : List UInt8 := [184, 1, 51, 43, 184, 1, 38, 184, 1, 38, 3, 184, 1, 51, 43, 184, 1, 38, 184, 1, 38, 76]
abbrev dktJ5_fixAfterInsertion_3 : List UInt8 := dkwJ5_fixAfterInsertion_3 ++ dktJ5_fixAfterInsertion_4
def dkwJ5_fixAfterInsertion_2 : List UInt8 := [184, 1, 38, 184, 1, 44, 77, 44, 184, 1, 47, 154, 0, 38, 43, 184, 1, 38, 4, 184, 1, 51, 44, 4]
abbrev dktJ5_fixAfterInsertion_2 : List UInt8 := dkwJ5_fixAfterInsertion_2 ++ dktJ5_fixAfterInsertion_3
def dkwJ5_fixAfterInsertion_1 : List UInt8 := [154, 0, 234, 43, 184, 1, 38, 43, 184, 1, 38, 184, 1, 38, 184, 1, 41, 166, 0, 110, 43, 184, 1, 38]
abbrev dktJ5_fixAfterInsertion_1 : List UInt8 := dkwJ5_fixAfterInsertion_1 ++ dktJ5_fixAfterInsertion_2
def dkwJ5_fixAfterInsertion_0 : List UInt8 := [43, 3, 181, 1, 34, 43, 198, 0, 252, 43, 42, 180, 0, 101, 165, 0, 244, 43, 180, 0, 124, 180, 1, 34]
abbrev dktJ5_fixAfterInsertion_0 : List UInt8 := dkwJ5_fixAfterInsertion_0 ++ dktJ5_fixAfterInsertion_1
theorem dksJ5_fixAfterInsertion_0 : cJ5_fixAfterInsertion.data.toList.drop 0 = dktJ5_fixAfterInsertion_0 := by decide +kernel
theorem dksJ5_fixAfterInsertion_1 : cJ5_fixAfterInsertion.data.toList.drop 24 = dktJ5_fixAfterInsertion_1 := dk_seg dksJ5_fixAfterInsertion_0 24 rfl rfl
theorem dksJ5_fixAfterInsertion_2 : cJ5_fixAfterInsertion.data.toList.drop 48 = dktJ5_fixAfterInsertion_2 := dk_seg dksJ5_fixAfterInsertion_1 24 rfl rfl
theorem dksJ5_fixAfterInsertion_3 : cJ5_fixAfterInsertion.data.toList.drop 72 = dktJ5_fixAfterInsertion_3 := dk_seg dksJ5_fixAfterInsertion_2 24 rfl rfl
theorem dksJ5_fixAfterInsertion_4 : cJ5_fixAfterInsertion.data.toList.drop 94 = dktJ5_fixAfterInsertion_4 := dk_seg dksJ5_fixAfterInsertion_3 22 rfl rfl
theorem dksJ5_fixAfterInsertion_5 : cJ5_fixAfterInsertion.data.toList.drop 118 = dktJ5_fixAfterInsertion_5 := dk_seg dksJ5_fixAfterInsertion_4 24 rfl rfl
theorem dksJ5_fixAfterInsertion_6 : cJ5_fixAfterInsertion.data.toList.drop 142 = dktJ5_fixAfterInsertion_6 := dk_seg dksJ5_fixAfterInsertion_5 24 rfl rfl
theorem dksJ5_fixAfterInsertion_7 : cJ5_fixAfterInsertion.data.toList.drop 166 = dktJ5_fixAfterInsertion_7 := dk_seg dksJ5_fixAfterInsertion_6 24 rfl rfl
theorem dksJ5_fixAfterInsertion_8 : cJ5_fixAfterInsertion.data.toList.drop 190 = dktJ5_fixAfterInsertion_8 := dk_seg dksJ5_fixAfterInsertion_7 24 rfl rfl
theorem dksJ5_fixAfterInsertion_9 : cJ5_fixAfterInsertion.data.toList.drop 212 = dktJ5_fixAfterInsertion_9 := dk_seg dksJ5_fixAfterInsertion_8 22 rfl rfl
theorem dksJ5_fixAfterInsertion_10 : cJ5_fixAfterInsertion.data.toList.drop 234 = dktJ5_fixAfterInsertion_10 := dk_seg dksJ5_fixAfterInsertion_9 22 rfl rfl
theorem dksJ5_fixAfterInsertion_11 : cJ5_fixAfterInsertion.data.toList.drop 258 = dktJ5_fixAfterInsertion_11 := dk_seg dksJ5_fixAfterInsertion_10 24 rfl rfl
theorem dJ5_fixAfterInsertion_0 : decode cJ5_fixAfterInsertion 0 = .ok (.aload_n 1, 1) := dk_43 (dk_at dksJ5_fixAfterInsertion_0 0 rfl rfl)
theorem dJ5_fixAfterInsertion_1 : decode cJ5_fixAfterInsertion 1 = .ok (.iconst 0, 1) := dk_3 (dk_at dksJ5_fixAfterInsertion_0 1 rfl rfl)
theorem dJ5_fixAfterInsertion_2 : decode cJ5_fixAfterInsertion 2 = .ok (.putfield 290, 3) := dk_181 1 34 (dk_at dksJ5_fixAfterInsertion_0 2 rfl rfl)
theorem dJ5_fixAfterInsertion_5 : decode cJ5_fixAfterInsertion 5 = .ok (.aload_n 1, 1) := dk_43 (dk_at dksJ5_fixAfterInsertion_0 5 rfl rfl)
theorem dJ5_fixAfterInsertion_6 : decode cJ5_fixAfterInsertion 6 = .ok (.ifnull 252, 3) := dk_198 0 252 (dk_at dksJ5_fixAfterInsertion_0 6 rfl rfl)
theorem dJ5_fixAfterInsertion_9 : decode cJ5_fixAfterInsertion 9 = .ok (.aload_n 1, 1) := dk_43 (dk_at dksJ5_fixAfterInsertion_0 9 rfl rfl)
theorem dJ5_fixAfterInsertion_10 : decode cJ5_fixAfterInsertion 10 = .ok (.aload_n 0, 1) := dk_42 (dk_at dksJ5_fixAfterInsertion_0 10 rfl rfl)
theorem dJ5_fixAfterInsertion_11 : decode cJ5_fixAfterInsertion 11 = .ok (.getfield 101, 3) := dk_180 0 101 (dk_at dksJ5_fixAfterInsertion_0 11 rfl rfl)
theorem dJ5_fixAfterInsertion_14 : decode cJ5_fixAfterInsertion 14 = .ok (.if_acmp .eq 244, 3) := dk_165 0 244 (dk_at dksJ5_fixAfterInsertion_0 14 rfl rfl)
theorem dJ5_fixAfterInsertion_17 : decode cJ5_fixAfterInsertion 17 = .ok (.aload_n 1, 1) := dk_43 (dk_at dksJ5_fixAfterInsertion_0 17 rfl rfl)
theorem dJ5_fixAfterInsertion_18 : decode cJ5_fixAfterInsertion 18 = .ok (.getfield 124, 3) := dk_180 0 124 (dk_at dksJ5_fixAfterInsertion_0 18 rfl rfl)
theorem dJ5_fixAfterInsertion_21 : decode cJ5_fixAfterInsertion 21 = .ok (.getfield 290, 3) := dk_180 1 34 (dk_at dksJ5_fixAfterInsertion_0 21 rfl rfl)
theorem dJ5_fixAfterInsertion_24 : decode cJ5_fixAfterInsertion 24 = .ok (.ifCond .ne 234, 3) := dk_154 0 234 (dk_at dksJ5_fixAfterInsertion_1 0 rfl rfl)
theorem dJ5_fixAfterInsertion_27 : decode cJ5_fixAfterInsertion 27 = .ok (.aload_n 1, 1) := dk_43 (dk_at dksJ5_fixAfterInsertion_1 3 rfl rfl)
theorem dJ5_fixAfterInsertion_28 : decode cJ5_fixAfterInsertion 28 = .ok (.invokestatic 294, 3) := dk_184 1 38 (dk_at dksJ5_fixAfterInsertion_1 4 rfl rfl)
theorem dJ5_fixAfterInsertion_31 : decode cJ5_fixAfterInsertion 31 = .ok (.aload_n 1, 1) := dk_43 (dk_at dksJ5_fixAfterInsertion_1 7 rfl rfl)
theorem dJ5_fixAfterInsertion_32 : decode cJ5_fixAfterInsertion 32 = .ok (.invokestatic 294, 3) := dk_184 1 38 (dk_at dksJ5_fixAfterInsertion_1 8 rfl rfl)
theorem dJ5_fixAfterInsertion_35 : decode cJ5_fixAfterInsertion 35 = .ok (.invokestatic 294, 3) := dk_184 1 38 (dk_at dksJ5_fixAfterInsertion_1 11 rfl rfl)
theorem dJ5_fixAfterInsertion_38 : decode cJ5_fixAfterInsertion 38 = .ok (.invokestatic 297, 3) := dk_184 1 41 (dk_at dksJ5_fixAfterInsertion_1 14 rfl rfl)
theorem dJ5_fixAfterInsertion_41 : decode cJ5_fixAfterInsertion 41 = .ok (.if_acmp .ne 110, 3) := dk_166 0 110 (dk_at dksJ5_fixAfterInsertion_1 17 rfl rfl)
theorem dJ5_fixAfterInsertion_44 : decode cJ5_fixAfterInsertion 44 = .ok (.aload_n 1, 1) := dk_43 (dk_at dksJ5_fixAfterInsertion_1 20 rfl rfl)
theorem dJ5_fixAfterInsertion_45 : decode cJ5_fixAfterInsertion 45 = .ok (.invokestatic 294, 3) := dk_184 1 38 (dk_at dksJ5_fixAfterInsertion_1 21 rfl rfl)
theorem dJ5_fixAfterInsertion_48 : decode cJ5_fixAfterInsertion 48 = .ok (.invokestatic 294, 3) := dk_184 1 38 (dk_at dksJ5_fixAfterInsertion_2 0 rfl rfl)
theorem dJ5_fixAfterInsertion_51 : decode cJ5_fixAfterInsertion 51 = .ok (.invokestatic 300, 3) := dk_184 1 44 (dk_at dksJ5_fixAfterInsertion_2 3 rfl rfl)
theorem dJ5_fixAfterInsertion_54 : decode cJ5_fixAfterInsertion 54 = .ok (.astore_n 2, 1) := dk_77 (dk_at dksJ5_fixAfterInsertion_2 6 rfl rfl)
theorem dJ5_fixAfterInsertion_55 : decode cJ5_fixAfterInsertion 55 = .ok (.aload_n 2, 1) := dk_44 (dk_at dksJ5_fixAfterInsertion_2 7 rfl rfl)
theorem dJ5_fixAfterInsertion_56 : decode cJ5_fixAfterInsertion 56 = .ok (.invokestatic 303, 3) := dk_184 1 47 (dk_at dksJ5_fixAfterInsertion_2 8 rfl rfl)
theorem dJ5_fixAfterInsertion_59 : decode cJ5_fixAfterInsertion 59 = .ok (.ifCond .ne 38, 3) := dk_154 0 38 (dk_at dksJ5_fixAfterInsertion_2 11 rfl rfl)
theorem dJ5_fixAfterInsertion_62 : decode cJ5_fixAfterInsertion 62 = .ok (.aload_n 1, 1) := dk_43 (dk_at dksJ5_fixAfterInsertion_2 14 rfl rfl)
theorem dJ5_fixAfterInsertion_63 : decode cJ5_fixAfterInsertion 63 = .ok (.invokestatic 294, 3) := dk_184 1 38 (dk_at dksJ5_fixAfterInsertion_2 15 rfl rfl)
theorem dJ5_fixAfterInsertion_66 : decode cJ5_fixAfterInsertion 66 = .ok (.iconst 1, 1) := dk_4 (dk_at dksJ5_fixAfterInsertion_2 18 rfl rfl)
theorem dJ5_fixAfterInsertion_67 : decode cJ5_fixAfterInsertion 67 = .ok (.invokestatic 307, 3) := dk_184 1 51 (dk_at dksJ5_fixAfterInsertion_2 19 rfl rfl)
theorem dJ5_fixAfterInsertion_70 : decode cJ5_fixAfterInsertion 70 = .ok (.aload_n 2, 1) := dk_44 (dk_at dksJ5_fixAfterInsertion_2 22 rfl rfl)
theorem dJ5_fixAfterInsertion_71 : decode cJ5_fixAfterInsertion 71 = .ok (.iconst 1, 1) := dk_4 (dk_at dksJ5_fixAfterInsertion_2 23 rfl rfl)
theorem dJ5_fixAfterInsertion_72 : decode cJ5_fixAfterInsertion 72 = .ok (.invokestatic 307, 3) := dk_184 1 51 (dk_at dksJ5_fixAfterInsertion_3 0 rfl rfl)
theorem dJ5_fixAfterInsertion_75 : decode cJ5_fixAfterInsertion 75 = .ok (.aload_n 1, 1) := dk_43 (dk_at dksJ5_fixAfterInsertion_3 3 rfl rfl)
theorem dJ5_fixAfterInsertion_76 : decode cJ5_fixAfterInsertion 76 = .ok (.invokestatic 294, 3) := dk_184 1 38 (dk_at dksJ5_fixAfterInsertion_3 4 rfl rfl)
theorem dJ5_fixAfterInsertion_79 : decode cJ5_fixAfterInsertion 79 = .ok (.invokestatic 294, 3) := dk_184 1 38 (dk_at dksJ5_fixAfterInsertion_3 7 rfl rfl)
theorem dJ5_fixAfterInsertion_82 : decode cJ5_fixAfterInsertion 82 = .ok (.iconst 0, 1) := dk_3 (dk_at dksJ5_fixAfterInsertion_3 10 rfl rfl)
theorem dJ5_fixAfterInsertion_83 : decode cJ5_fixAfterInsertion 83 = .ok (.invokestatic 307, 3) := dk_184 1 51 (dk_at dksJ5_fixAfterInsertion_3 11 rfl rfl)
theorem dJ5_fixAfterInsertion_86 : decode cJ5_fixAfterInsertion 86 = .ok (.aload_n 1, 1) := dk_43 (dk_at dksJ5_fixAfterInsertion_3 14 rfl rfl)
theorem dJ5_fixAfterInsertion_87 : decode cJ5_fixAfterInsertion 87 = .ok (.invokestatic 294, 3) := dk_184 1 38 (dk_at dksJ5_fixAfterInsertion_3 15 rfl rfl)
theorem dJ5_fixAfterInsertion_90 : decode cJ5_fixAfterInsertion 90 = .ok (.invokestatic 294, 3) := dk_184 1 38 (dk_at dksJ5_fixAfterInsertion_3 18 rfl rfl)
theorem dJ5_fixAfterInsertion_93 : decode cJ5_fixAfterInsertion 93 = .ok (.astore_n 1, 1) := dk_76 (dk_at dksJ5_fixAfterInsertion_3 21 rfl rfl)
theorem dJ5_fixAfterInsertion_94 : decode cJ5_fixAfterInsertion 94 = .ok (.goto 54, 3) := dk_167 0 54 (dk_at dksJ5_fixAfterInsertion_4 0 rfl rfl)
theorem dJ5_fixAfterInsertion_97 : decode cJ5_fixAfterInsertion 97 = .ok (.aload_n 1, 1) := dk_43 (dk_at dksJ5_fixAfterInsertion_4 3 rfl rfl)
theorem dJ5_fixAfterInsertion_98 : decode cJ5_fixAfterInsertion 98 = .ok (.aload_n 1, 1) := dk_43 (dk_at dksJ5_fixAfterInsertion_4 4 rfl rfl)
theorem dJ5_fixAfterInsertion_99 : decode cJ5_fixAfterInsertion 99 = .ok (.invokestatic 294, 3) := dk_184 1 38 (dk_at dksJ5_fixAfterInsertion_4 5 rfl rfl)
theorem dJ5_fixAfterInsertion_102 : decode cJ5_fixAfterInsertion 102 = .ok (.invokestatic 300, 3) := dk_184 1 44 (dk_at dksJ5_fixAfterInsertion_4 8 rfl rfl)
theorem dJ5_fixAfterInsertion_105 : decode cJ5_fixAfterInsertion 105 = .ok (.if_acmp .ne 13, 3) := dk_166 0 13 (dk_at dksJ5_fixAfterInsertion_4 11 rfl rfl)
theorem dJ5_fixAfterInsertion_108 : decode cJ5_fixAfterInsertion 108 = .ok (.aload_n 1, 1) := dk_43 (dk_at dksJ5_fixAfterInsertion_4 14 rfl rfl)
theorem dJ5_fixAfterInsertion_109 : decode cJ5_fixAfterInsertion 109 = .ok (.invokestatic 294, 3) := dk_184 1 38 (dk_at dksJ5_fixAfterInsertion_4 15 rfl rfl)
theorem dJ5_fixAfterInsertion_112 : decode cJ5_fixAfterInsertion 112 = .ok (.astore_n 1, 1) := dk_76 (dk_at dksJ5_fixAfterInsertion_4 18 rfl rfl)
theorem dJ5_fixAfterInsertion_113 : decode cJ5_fixAfterInsertion 113 = .ok (.aload_n 0, 1) := dk_42 (dk_at dksJ5_fixAfterInsertion_4 19 rfl rfl)
theorem dJ5_fixAfterInsertion_114 : decode cJ5_fixAfterInsertion 114 = .ok (.aload_n 1, 1) := dk_43 (dk_at dksJ5_fixAfterInsertion_4 20 rfl rfl)
theorem dJ5_fixAfterInsertion_115 : decode cJ5_fixAfterInsertion 115 = .ok (.invokevirtual 311, 3) := dk_182 1 55 (dk_at dksJ5_fixAfterInsertion_4 21 rfl rfl)
theorem dJ5_fixAfterInsertion_118 : decode cJ5_fixAfterInsertion 118 = .ok (.aload_n 1, 1) := dk_43 (dk_at dksJ5_fixAfterInsertion_5 0 rfl rfl)
theorem dJ5_fixAfterInsertion_119 : decode cJ5_fixAfterInsertion 119 = .ok (.invokestatic 294, 3) := dk_184 1 38 (dk_at dksJ5_fixAfterInsertion_5 1 rfl rfl)
theorem dJ5_fixAfterInsertion_122 : decode cJ5_fixAfterInsertion 122 = .ok (.iconst 1, 1) := dk_4 (dk_at dksJ5_fixAfterInsertion_5 4 rfl rfl)
theorem dJ5_fixAfterInsertion_123 : decode cJ5_fixAfterInsertion 123 = .ok (.invokestatic 307, 3) := dk_184 1 51 (dk_at dksJ5_fixAfterInsertion_5 5 rfl rfl)
theorem dJ5_fixAfterInsertion_126 : decode cJ5_fixAfterInsertion 126 = .ok (.aload_n 1, 1) := dk_43 (dk_at dksJ5_fixAfterInsertion_5 8 rfl rfl)
theorem dJ5_fixAfterInsertion_127 : decode cJ5_fixAfterInsertion 127 = .ok (.invokestatic 294, 3) := dk_184 1 38 (dk_at dksJ5_fixAfterInsertion_5 9 rfl rfl)
theorem dJ5_fixAfterInsertion_130 : decode cJ5_fixAfterInsertion 130 = .ok (.invokestatic 294, 3) := dk_184 1 38 (dk_at dksJ5_fixAfterInsertion_5 12 rfl rfl)
theorem dJ5_fixAfterInsertion_133 : decode cJ5_fixAfterInsertion 133 = .ok (.iconst 0, 1) := dk_3 (dk_at dksJ5_fixAfterInsertion_5 15 rfl rfl)
theorem dJ5_fixAfterInsertion_134 : decode cJ5_fixAfterInsertion 134 = .ok (.invokestatic 307, 3) := dk_184 1 51 (dk_at dksJ5_fixAfterInsertion_5 16 rfl rfl)
theorem dJ5_fixAfterInsertion_137 : decode cJ5_fixAfterInsertion 137 = .ok (.aload_n 0, 1) := dk_42 (dk_at dksJ5_fixAfterInsertion_5 19 rfl rfl)
theorem dJ5_fixAfterInsertion_138 : decode cJ5_fixAfterInsertion 138 = .ok (.aload_n 1, 1) := dk_43 (dk_at dksJ5_fixAfterInsertion_5 20 rfl rfl)
theorem dJ5_fixAfterInsertion_139 : decode cJ5_fixAfterInsertion 139 = .ok (.invokestatic 294, 3) := dk_184 1 38 (dk_at dksJ5_fixAfterInsertion_5 21 rfl rfl)
theorem dJ5_fixAfterInsertion_142 : decode cJ5_fixAfterInsertion 142 = .ok (.invokestatic 294, 3) := dk_184 1 38 (dk_at dksJ5_fixAfterInsertion_6 0 rfl rfl)
theorem dJ5_fixAfterInsertion_145 : decode cJ5_fixAfterInsertion 145 = .ok (.invokevirtual 314, 3) := dk_182 1 58 (dk_at dksJ5_fixAfterInsertion_6 3 rfl rfl)
theorem dJ5_fixAfterInsertion_148 : decode cJ5_fixAfterInsertion 148 = .ok (.goto (-143), 3) := dk_167 255 113 (dk_at dksJ5_fixAfterInsertion_6 6 rfl rfl)
theorem dJ5_fixAfterInsertion_151 : decode cJ5_fixAfterInsertion 151 = .ok (.aload_n 1, 1) := dk_43 (dk_at dksJ5_fixAfterInsertion_6 9 rfl rfl)
theorem dJ5_fixAfterInsertion_152 : decode cJ5_fixAfterInsertion 152 = .ok (.invokestatic 294, 3) := dk_184 1 38 (dk_at dksJ5_fixAfterInsertion_6 10 rfl rfl)
theorem dJ5_fixAfterInsertion_155 : decode cJ5_fixAfterInsertion 155 = .ok (.invokestatic 294, 3) := dk_184 1 38 (dk_at dksJ5_fixAfterInsertion_6 13 rfl rfl)
theorem dJ5_fixAfterInsertion_158 : decode cJ5_fixAfterInsertion 158 = .ok (.invokestatic 297, 3) := dk_184 1 41 (dk_at dksJ5_fixAfterInsertion_6 16 rfl rfl)
theorem dJ5_fixAfterInsertion_161 : decode cJ5_fixAfterInsertion 161 = .ok (.astore_n 2, 1) := dk_77 (dk_at dksJ5_fixAfterInsertion_6 19 rfl rfl)
theorem dJ5_fixAfterInsertion_162 : decode cJ5_fixAfterInsertion 162 = .ok (.aload_n 2, 1) := dk_44 (dk_at dksJ5_fixAfterInsertion_6 20 rfl rfl)
theorem dJ5_fixAfterInsertion_163 : decode cJ5_fixAfterInsertion 163 = .ok (.invokestatic 303, 3) := dk_184 1 47 (dk_at dksJ5_fixAfterInsertion_6 21 rfl rfl)
theorem dJ5_fixAfterInsertion_166 : decode cJ5_fixAfterInsertion 166 = .ok (.ifCond .ne 38, 3) := dk_154 0 38 (dk_at dksJ5_fixAfterInsertion_7 0 rfl rfl)
theorem dJ5_fixAfterInsertion_169 : decode cJ5_fixAfterInsertion 169 = .ok (.aload_n 1, 1) := dk_43 (dk_at dksJ5_fixAfterInsertion_7 3 rfl rfl)
theorem dJ5_fixAfterInsertion_170 : decode cJ5_fixAfterInsertion 170 = .ok (.invokestatic 294, 3) := dk_184 1 38 (dk_at dksJ5_fixAfterInsertion_7 4 rfl rfl)
theorem dJ5_fixAfterInsertion_173 : decode cJ5_fixAfterInsertion 173 = .ok (.iconst 1, 1) := dk_4 (dk_at dksJ5_fixAfterInsertion_7 7 rfl rfl)
theorem dJ5_fixAfterInsertion_174 : decode cJ5_fixAfterInsertion 174 = .ok (.invokestatic 307, 3) := dk_184 1 51 (dk_at dksJ5_fixAfterInsertion_7 8 rfl rfl)
theorem dJ5_fixAfterInsertion_177 : decode cJ5_fixAfterInsertion 177 = .ok (.aload_n 2, 1) := dk_44 (dk_at dksJ5_fixAfterInsertion_7 11 rfl rfl)
theorem dJ5_fixAfterInsertion_178 : decode cJ5_fixAfterInsertion 178 = .ok (.iconst 1, 1) := dk_4 (dk_at dksJ5_fixAfterInsertion_7 12 rfl rfl)
theorem dJ5_fixAfterInsertion_179 : decode cJ5_fixAfterInsertion 179 = .ok (.invokestatic 307, 3) := dk_184 1 51 (dk_at dksJ5_fixAfterInsertion_7 13 rfl rfl)
theorem dJ5_fixAfterInsertion_182 : decode cJ5_fixAfterInsertion 182 = .ok (.aload_n 1, 1) := dk_43 (dk_at dksJ5_fixAfterInsertion_7 16 rfl rfl)
theorem dJ5_fixAfterInsertion_183 : decode cJ5_fixAfterInsertion 183 = .ok (.invokestatic 294, 3) := dk_184 1 38 (dk_at dksJ5_fixAfterInsertion_7 17 rfl rfl)
theorem dJ5_fixAfterInsertion_186 : decode cJ5_fixAfterInsertion 186 = .ok (.invokestatic 294, 3) := dk_184 1 38 (dk_at dksJ5_fixAfterInsertion_7 20 rfl rfl)
theorem dJ5_fixAfterInsertion_189 : decode cJ5_fixAfterInsertion 189 = .ok (.iconst 0, 1) := dk_3 (dk_at dksJ5_fixAfterInsertion_7 23 rfl rfl)
theorem dJ5_fixAfterInsertion_190 : decode cJ5_fixAfterInsertion 190 = .ok (.invokestatic 307, 3) := dk_184 1 51 (dk_at dksJ5_fixAfterInsertion_8 0 rfl rfl)
theorem dJ5_fixAfterInsertion_193 : decode cJ5_fixAfterInsertion 193 = .ok (.aload_n 1, 1) := dk_43 (dk_at dksJ5_fixAfterInsertion_8 3 rfl rfl)
theorem dJ5_fixAfterInsertion_194 : decode cJ5_fixAfterInsertion 194 = .ok (.invokestatic 294, 3) := dk_184 1 38 (dk_at dksJ5_fixAfterInsertion_8 4 rfl rfl)
theorem dJ5_fixAfterInsertion_197 : decode cJ5_fixAfterInsertion 197 = .ok (.invokestatic 294, 3) := dk_184 1 38 (dk_at dksJ5_fixAfterInsertion_8 7 rfl rfl)
theorem dJ5_fixAfterInsertion_200 : decode cJ5_fixAfterInsertion 200 = .ok (.astore_n 1, 1) := dk_76 (dk_at dksJ5_fixAfterInsertion_8 10 rfl rfl)
theorem dJ5_fixAfterInsertion_201 : decode cJ5_fixAfterInsertion 201 = .ok (.goto 54, 3) := dk_167 0 54 (dk_at dksJ5_fixAfterInsertion_8 11 rfl rfl)
theorem dJ5_fixAfterInsertion_204 : decode cJ5_fixAfterInsertion 204 = .ok (.aload_n 1, 1) := dk_43 (dk_at dksJ5_fixAfterInsertion_8 14 rfl rfl)
theorem dJ5_fixAfterInsertion_205 : decode cJ5_fixAfterInsertion 205 = .ok (.aload_n 1, 1) := dk_43 (dk_at dksJ5_fixAfterInsertion_8 15 rfl rfl)
theorem dJ5_fixAfterInsertion_206 : decode cJ5_fixAfterInsertion 206 = .ok (.invokestatic 294, 3) := dk_184 1 38 (dk_at dksJ5_fixAfterInsertion_8 16 rfl rfl)
theorem dJ5_fixAfterInsertion_209 : decode cJ5_fixAfterInsertion 209 = .ok (.invokestatic 297, 3) := dk_184 1 41 (dk_at dksJ5_fixAfterInsertion_8 19 rfl rfl)
theorem dJ5_fixAfterInsertion_212 : decode cJ5_fixAfterInsertion 212 = .ok (.if_acmp .ne 13, 3) := dk_166 0 13 (dk_at dksJ5_fixAfterInsertion_9 0 rfl rfl)
theorem dJ5_fixAfterInsertion_215 : decode cJ5_fixAfterInsertion 215 = .ok (.aload_n 1, 1) := dk_43 (dk_at dksJ5_fixAfterInsertion_9 3 rfl rfl)
theorem dJ5_fixAfterInsertion_216 : decode cJ5_fixAfterInsertion 216 = .ok (.invokestatic 294, 3) := dk_184 1 38 (dk_at dksJ5_fixAfterInsertion_9 4 rfl rfl)
theorem dJ5_fixAfterInsertion_219 : decode cJ5_fixAfterInsertion 219 = .ok (.astore_n 1, 1) := dk_76 (dk_at dksJ5_fixAfterInsertion_9 7 rfl rfl)
theorem dJ5_fixAfterInsertion_220 : decode cJ5_fixAfterInsertion 220 = .ok (.aload_n 0, 1) := dk_42 (dk_at dksJ5_fixAfterInsertion_9 8 rfl rfl)
theorem dJ5_fixAfterInsertion_221 : decode cJ5_fixAfterInsertion 221 = .ok (.aload_n 1, 1) := dk_43 (dk_at dksJ5_fixAfterInsertion_9 9 rfl rfl)
theorem dJ5_fixAfterInsertion_222 : decode cJ5_fixAfterInsertion 222 = .ok (.invokevirtual 314, 3) := dk_182 1 58 (dk_at dksJ5_fixAfterInsertion_9 10 rfl rfl)
theorem dJ5_fixAfterInsertion_225 : decode cJ5_fixAfterInsertion 225 = .ok (.aload_n 1, 1) := dk_43 (dk_at dksJ5_fixAfterInsertion_9 13 rfl rfl)
theorem dJ5_fixAfterInsertion_226 : decode cJ5_fixAfterInsertion 226 = .ok (.invokestatic 294, 3) := dk_184 1 38 (dk_at dksJ5_fixAfterInsertion_9 14 rfl rfl)
theorem dJ5_fixAfterInsertion_229 : decode cJ5_fixAfterInsertion 229 = .ok (.iconst 1, 1) := dk_4 (dk_at dksJ5_fixAfterInsertion_9 17 rfl rfl)
theorem dJ5_fixAfterInsertion_230 : decode cJ5_fixAfterInsertion 230 = .ok (.invokestatic 307, 3) := dk_184 1 51 (dk_at dksJ5_fixAfterInsertion_9 18 rfl rfl)
theorem dJ5_fixAfterInsertion_233 : decode cJ5_fixAfterInsertion 233 = .ok (.aload_n 1, 1) := dk_43 (dk_at dksJ5_fixAfterInsertion_9 21 rfl rfl)
theorem dJ5_fixAfterInsertion_234 : decode cJ5_fixAfterInsertion 234 = .ok (.invokestatic 294, 3) := dk_184 1 38 (dk_at dksJ5_fixAfterInsertion_10 0 rfl rfl)
theorem dJ5_fixAfterInsertion_237 : decode cJ5_fixAfterInsertion 237 = .ok (.invokestatic 294, 3) := dk_184 1 38 (dk_at dksJ5_fixAfterInsertion_10 3 rfl rfl)
theorem dJ5_fixAfterInsertion_240 : decode cJ5_fixAfterInsertion 240 = .ok (.iconst 0, 1) := dk_3 (dk_at dksJ5_fixAfterInsertion_10 6 rfl rfl)
theorem dJ5_fixAfterInsertion_241 : decode cJ5_fixAfterInsertion 241 = .ok (.invokestatic 307, 3) := dk_184 1 51 (dk_at dksJ5_fixAfterInsertion_10 7 rfl rfl)
theorem dJ5_fixAfterInsertion_244 : decode cJ5_fixAfterInsertion 244 = .ok (.aload_n 0, 1) := dk_42 (dk_at dksJ5_fixAfterInsertion_10 10 rfl rfl)
theorem dJ5_fixAfterInsertion_245 : decode cJ5_fixAfterInsertion 245 = .ok (.aload_n 1, 1) := dk_43 (dk_at dksJ5_fixAfterInsertion_10 11 rfl rfl)
theorem dJ5_fixAfterInsertion_246 : decode cJ5_fixAfterInsertion 246 = .ok (.invokestatic 294, 3) := dk_184 1 38 (dk_at dksJ5_fixAfterInsertion_10 12 rfl rfl)
theorem dJ5_fixAfterInsertion_249 : decode cJ5_fixAfterInsertion 249 = .ok (.invokestatic 294, 3) := dk_184 1 38 (dk_at dksJ5_fixAfterInsertion_10 15 rfl rfl)
theorem dJ5_fixAfterInsertion_252 : decode cJ5_fixAfterInsertion 252 = .ok (.invokevirtual 311, 3) := dk_182 1 55 (dk_at dksJ5_fixAfterInsertion_10 18 rfl rfl)
theorem dJ5_fixAfterInsertion_255 : decode cJ5_fixAfterInsertion 255 = .ok (.goto (-250), 3) := dk_167 255 6 (dk_at dksJ5_fixAfterInsertion_10 21 rfl rfl)
theorem dJ5_fixAfterInsertion_258 : decode cJ5_fixAfterInsertion 258 = .ok (.aload_n 0, 1) := dk_42 (dk_at dksJ5_fixAfterInsertion_11 0 rfl rfl)
theorem dJ5_fixAfterInsertion_259 : decode cJ5_fixAfterInsertion 259 = .ok (.getfield 101, 3) := dk_180 0 101 (dk_at dksJ5_fixAfterInsertion_11 1 rfl rfl)
theorem dJ5_fixAfterInsertion_262 : decode cJ5_fixAfterInsertion 262 = .ok (.iconst 1, 1) := dk_4 (dk_at dksJ5_fixAfterInsertion_11 4 rfl rfl)
theorem dJ5_fixAfterInsertion_263 : decode cJ5_fixAfterInsertion 263 = .ok (.putfield 290, 3) := dk_181 1 34 (dk_at dksJ5_fixAfterInsertion_11 5 rfl rfl)
theorem dJ5_fixAfterInsertion_266 : decode cJ5_fixAfterInsertion 266 = .ok (.return_, 1) := dk_177 (dk_at dksJ5_fixAfterInsertion_11 8 rfl rfl)
abbrev cJ5_parentOf : ByteArray := prog_65_method_77_code
def yJ5_parentOf : MethodName := ⟨RJ5, "parentOf", "(Ljava/util/TreeMap$Entry;)Ljava/util/TreeMap$Entry;"⟩
def dkwJ5_parentOf_0 : List UInt8 := [42, 199, 0, 7, 1, 167, 0, 7, 42, 180, 0, 124, 176]
abbrev dktJ5_parentOf_0 : List UInt8 := dkwJ5_parentOf_0 ++ []
theorem dksJ5_parentOf_0 : cJ5_parentOf.data.toList.drop 0 = dktJ5_parentOf_0 := by decide +kernel
theorem dJ5_parentOf_0 : decode cJ5_parentOf 0 = .ok (.aload_n 0, 1) := dk_42 (dk_at dksJ5_parentOf_0 0 rfl rfl)
theorem dJ5_parentOf_1 : decode cJ5_parentOf 1 = .ok (.ifnonnull 7, 3) := dk_199 0 7 (dk_at dksJ5_parentOf_0 1 rfl rfl)
theorem dJ5_parentOf_4 : decode cJ5_parentOf 4 = .ok (.aconst_null, 1) := dk_1 (dk_at dksJ5_parentOf_0 4 rfl rfl)
theorem dJ5_parentOf_5 : decode cJ5_parentOf 5 = .ok (.goto 7, 3) := dk_167 0 7 (dk_at dksJ5_parentOf_0 5 rfl rfl)
theorem dJ5_parentOf_8 : decode cJ5_parentOf 8 = .ok (.aload_n 0, 1) := dk_42 (dk_at dksJ5_parentOf_0 8 rfl rfl)
theorem dJ5_parentOf_9 : decode cJ5_parentOf 9 = .ok (.getfield 124, 3) := dk_180 0 124 (dk_at dksJ5_parentOf_0 9 rfl rfl)
theorem dJ5_parentOf_12 : decode cJ5_parentOf 12 = .ok (.areturn, 1) := dk_176 (dk_at dksJ5_parentOf_0 12 rfl rfl)
abbrev cJ5_leftOf : ByteArray := prog_65_method_79_code
def yJ5_leftOf : MethodName := ⟨RJ5, "leftOf", "(Ljava/util/TreeMap$Entry;)Ljava/util/TreeMap$Entry;"⟩
def dkwJ5_leftOf_0 : List UInt8 := [42, 199, 0, 7, 1, 167, 0, 7, 42, 180, 0, 111, 176]
abbrev dktJ5_leftOf_0 : List UInt8 := dkwJ5_leftOf_0 ++ []
theorem dksJ5_leftOf_0 : cJ5_leftOf.data.toList.drop 0 = dktJ5_leftOf_0 := by decide +kernel
theorem dJ5_leftOf_0 : decode cJ5_leftOf 0 = .ok (.aload_n 0, 1) := dk_42 (dk_at dksJ5_leftOf_0 0 rfl rfl)
theorem dJ5_leftOf_1 : decode cJ5_leftOf 1 = .ok (.ifnonnull 7, 3) := dk_199 0 7 (dk_at dksJ5_leftOf_0 1 rfl rfl)
theorem dJ5_leftOf_4 : decode cJ5_leftOf 4 = .ok (.aconst_null, 1) := dk_1 (dk_at dksJ5_leftOf_0 4 rfl rfl)
theorem dJ5_leftOf_5 : decode cJ5_leftOf 5 = .ok (.goto 7, 3) := dk_167 0 7 (dk_at dksJ5_leftOf_0 5 rfl rfl)
theorem dJ5_leftOf_8 : decode cJ5_leftOf 8 = .ok (.aload_n 0, 1) := dk_42 (dk_at dksJ5_leftOf_0 8 rfl rfl)
theorem dJ5_leftOf_9 : decode cJ5_leftOf 9 = .ok (.getfield 111, 3) := dk_180 0 111 (dk_at dksJ5_leftOf_0 9 rfl rfl)
theorem dJ5_leftOf_12 : decode cJ5_leftOf 12 = .ok (.areturn, 1) := dk_176 (dk_at dksJ5_leftOf_0 12 rfl rfl)
abbrev cJ5_rightOf : ByteArray := prog_65_method_80_code
def yJ5_rightOf : MethodName := ⟨RJ5, "rightOf", "(Ljava/util/TreeMap$Entry;)Ljava/util/TreeMap$Entry;"⟩
def dkwJ5_rightOf_0 : List UInt8 := [42, 199, 0, 7, 1, 167, 0, 7, 42, 180, 0, 114, 176]
abbrev dktJ5_rightOf_0 : List UInt8 := dkwJ5_rightOf_0 ++ []
theorem dksJ5_rightOf_0 : cJ5_rightOf.data.toList.drop 0 = dktJ5_rightOf_0 := by decide +kernel
theorem dJ5_rightOf_0 : decode cJ5_rightOf 0 = .ok (.aload_n 0, 1) := dk_42 (dk_at dksJ5_rightOf_0 0 rfl rfl)
theorem dJ5_rightOf_1 : decode cJ5_rightOf 1 = .ok (.ifnonnull 7, 3) := dk_199 0 7 (dk_at dksJ5_rightOf_0 1 rfl rfl)
theorem dJ5_rightOf_4 : decode cJ5_rightOf 4 = .ok (.aconst_null, 1) := dk_1 (dk_at dksJ5_rightOf_0 4 rfl rfl)
theorem dJ5_rightOf_5 : decode cJ5_rightOf 5 = .ok (.goto 7, 3) := dk_167 0 7 (dk_at dksJ5_rightOf_0 5 rfl rfl)
theorem dJ5_rightOf_8 : decode cJ5_rightOf 8 = .ok (.aload_n 0, 1) := dk_42 (dk_at dksJ5_rightOf_0 8 rfl rfl)
theorem dJ5_rightOf_9 : decode cJ5_rightOf 9 = .ok (.getfield 114, 3) := dk_180 0 114 (dk_at dksJ5_rightOf_0 9 rfl rfl)
theorem dJ5_rightOf_12 : decode cJ5_rightOf 12 = .ok (.areturn, 1) := dk_176 (dk_at dksJ5_rightOf_0 12 rfl rfl)
abbrev cJ5_colorOf : ByteArray := prog_65_method_76_code
def yJ5_colorOf : MethodName := ⟨RJ5, "colorOf", "(Ljava/util/TreeMap$Entry;)Z"⟩
def dkwJ5_colorOf_0 : List UInt8 := [42, 199, 0, 7, 4, 167, 0, 7, 42, 180, 1, 34, 172]
abbrev dktJ5_colorOf_0 : List UInt8 := dkwJ5_colorOf_0 ++ []
theorem dksJ5_colorOf_0 : cJ5_colorOf.data.toList.drop 0 = dktJ5_colorOf_0 := by decide +kernel
theorem dJ5_colorOf_0 : decode cJ5_colorOf 0 = .ok (.aload_n 0, 1) := dk_42 (dk_at dksJ5_colorOf_0 0 rfl rfl)
theorem dJ5_colorOf_1 : decode cJ5_colorOf 1 = .ok (.ifnonnull 7, 3) := dk_199 0 7 (dk_at dksJ5_colorOf_0 1 rfl rfl)
theorem dJ5_colorOf_4 : decode cJ5_colorOf 4 = .ok (.iconst 1, 1) := dk_4 (dk_at dksJ5_colorOf_0 4 rfl rfl)
theorem dJ5_colorOf_5 : decode cJ5_colorOf 5 = .ok (.goto 7, 3) := dk_167 0 7 (dk_at dksJ5_colorOf_0 5 rfl rfl)
theorem dJ5_colorOf_8 : decode cJ5_colorOf 8 = .ok (.aload_n 0, 1) := dk_42 (dk_at dksJ5_colorOf_0 8 rfl rfl)
theorem dJ5_colorOf_9 : decode cJ5_colorOf 9 = .ok (.getfield 290, 3) := dk_180 1 34 (dk_at dksJ5_colorOf_0 9 rfl rfl)
theorem dJ5_colorOf_12 : decode cJ5_colorOf 12 = .ok (.ireturn, 1) := dk_172 (dk_at dksJ5_colorOf_0 12 rfl rfl)
abbrev cJ5_setColor : ByteArray := prog_65_method_78_code
def yJ5_setColor : MethodName := ⟨RJ5, "setColor", "(Ljava/util/TreeMap$Entry;Z)V"⟩
def dkwJ5_setColor_0 : List UInt8 := [42, 198, 0, 8, 42, 27, 181, 1, 34, 177]
abbrev dktJ5_setColor_0 : List UInt8 := dkwJ5_setColor_0 ++ []
theorem dksJ5_setColor_0 : cJ5_setColor.data.toList.drop 0 = dktJ5_setColor_0 := by decide +kernel
theorem dJ5_setColor_0 : decode cJ5_setColor 0 = .ok (.aload_n 0, 1) := dk_42 (dk_at dksJ5_setColor_0 0 rfl rfl)
theorem dJ5_setColor_1 : decode cJ5_setColor 1 = .ok (.ifnull 8, 3) := dk_198 0 8 (dk_at dksJ5_setColor_0 1 rfl rfl)
theorem dJ5_setColor_4 : decode cJ5_setColor 4 = .ok (.aload_n 0, 1) := dk_42 (dk_at dksJ5_setColor_0 4 rfl rfl)
theorem dJ5_setColor_5 : decode cJ5_setColor 5 = .ok (.iload_n 1, 1) := dk_27 (dk_at dksJ5_setColor_0 5 rfl rfl)
theorem dJ5_setColor_6 : decode cJ5_setColor 6 = .ok (.putfield 290, 3) := dk_181 1 34 (dk_at dksJ5_setColor_0 6 rfl rfl)
theorem dJ5_setColor_9 : decode cJ5_setColor 9 = .ok (.return_, 1) := dk_177 (dk_at dksJ5_setColor_0 9 rfl rfl)
abbrev cJ5_rotateLeft : ByteArray := prog_65_method_81_code
def yJ5_rotateLeft : MethodName := ⟨RJ5, "rotateLeft", "(Ljava/util/TreeMap$Entry;)V"⟩
def dkwJ5_rotateLeft_4 : List UInt8 := [177]
abbrev dktJ5_rotateLeft_4 : List UInt8 := dkwJ5_rotateLeft_4 ++ []
def dkwJ5_rotateLeft_3 : List UInt8 := [181, 0, 111, 167, 0, 11, 43, 180, 0, 124, 44, 181, 0, 114, 44, 43, 181, 0, 111, 43, 44, 181, 0, 124]
abbrev dktJ5_rotateLeft_3 : List UInt8 := dkwJ5_rotateLeft_3 ++ dktJ5_rotateLeft_4
def dkwJ5_rotateLeft_2 : List UInt8 := [44, 181, 0, 101, 167, 0, 33, 43, 180, 0, 124, 180, 0, 111, 43, 166, 0, 14, 43, 180, 0, 124, 44]
abbrev dktJ5_rotateLeft_2 : List UInt8 := dkwJ5_rotateLeft_2 ++ dktJ5_rotateLeft_3
def dkwJ5_rotateLeft_1 : List UInt8 := [44, 180, 0, 111, 43, 181, 0, 124, 44, 43, 180, 0, 124, 181, 0, 124, 43, 180, 0, 124, 199, 0, 11, 42]
abbrev dktJ5_rotateLeft_1 : List UInt8 := dkwJ5_rotateLeft_1 ++ dktJ5_rotateLeft_2
def dkwJ5_rotateLeft_0 : List UInt8 := [43, 198, 0, 94, 43, 180, 0, 114, 77, 43, 44, 180, 0, 111, 181, 0, 114, 44, 180, 0, 111, 198, 0, 11]
abbrev dktJ5_rotateLeft_0 : List UInt8 := dkwJ5_rotateLeft_0 ++ dktJ5_rotateLeft_1
theorem dksJ5_rotateLeft_0 : cJ5_rotateLeft.data.toList.drop 0 = dktJ5_rotateLeft_0 := by decide +kernel
theorem dksJ5_rotateLeft_1 : cJ5_rotateLeft.data.toList.drop 24 = dktJ5_rotateLeft_1 := dk_seg dksJ5_rotateLeft_0 24 rfl rfl
theorem dksJ5_rotateLeft_2 : cJ5_rotateLeft.data.toList.drop 48 = dktJ5_rotateLeft_2 := dk_seg dksJ5_rotateLeft_1 24 rfl rfl
theorem dksJ5_rotateLeft_3 : cJ5_rotateLeft.data.toList.drop 71 = dktJ5_rotateLeft_3 := dk_seg dksJ5_rotateLeft_2 23 rfl rfl
theorem dksJ5_rotateLeft_4 : cJ5_rotateLeft.data.toList.drop 95 = dktJ5_rotateLeft_4 := dk_seg dksJ5_rotateLeft_3 24 rfl rfl
theorem dJ5_rotateLeft_0 : decode cJ5_rotateLeft 0 = .ok (.aload_n 1, 1) := dk_43 (dk_at dksJ5_rotateLeft_0 0 rfl rfl)
theorem dJ5_rotateLeft_1 : decode cJ5_rotateLeft 1 = .ok (.ifnull 94, 3) := dk_198 0 94 (dk_at dksJ5_rotateLeft_0 1 rfl rfl)
theorem dJ5_rotateLeft_4 : decode cJ5_rotateLeft 4 = .ok (.aload_n 1, 1) := dk_43 (dk_at dksJ5_rotateLeft_0 4 rfl rfl)
theorem dJ5_rotateLeft_5 : decode cJ5_rotateLeft 5 = .ok (.getfield 114, 3) := dk_180 0 114 (dk_at dksJ5_rotateLeft_0 5 rfl rfl)
theorem dJ5_rotateLeft_8 : decode cJ5_rotateLeft 8 = .ok (.astore_n 2, 1) := dk_77 (dk_at dksJ5_rotateLeft_0 8 rfl rfl)
theorem dJ5_rotateLeft_9 : decode cJ5_rotateLeft 9 = .ok (.aload_n 1, 1) := dk_43 (dk_at dksJ5_rotateLeft_0 9 rfl rfl)
theorem dJ5_rotateLeft_10 : decode cJ5_rotateLeft 10 = .ok (.aload_n 2, 1) := dk_44 (dk_at dksJ5_rotateLeft_0 10 rfl rfl)
theorem dJ5_rotateLeft_11 : decode cJ5_rotateLeft 11 = .ok (.getfield 111, 3) := dk_180 0 111 (dk_at dksJ5_rotateLeft_0 11 rfl rfl)
theorem dJ5_rotateLeft_14 : decode cJ5_rotateLeft 14 = .ok (.putfield 114, 3) := dk_181 0 114 (dk_at dksJ5_rotateLeft_0 14 rfl rfl)
theorem dJ5_rotateLeft_17 : decode cJ5_rotateLeft 17 = .ok (.aload_n 2, 1) := dk_44 (dk_at dksJ5_rotateLeft_0 17 rfl rfl)
theorem dJ5_rotateLeft_18 : decode cJ5_rotateLeft 18 = .ok (.getfield 111, 3) := dk_180 0 111 (dk_at dksJ5_rotateLeft_0 18 rfl rfl)
theorem dJ5_rotateLeft_21 : decode cJ5_rotateLeft 21 = .ok (.ifnull 11, 3) := dk_198 0 11 (dk_at dksJ5_rotateLeft_0 21 rfl rfl)
theorem dJ5_rotateLeft_24 : decode cJ5_rotateLeft 24 = .ok (.aload_n 2, 1) := dk_44 (dk_at dksJ5_rotateLeft_1 0 rfl rfl)
theorem dJ5_rotateLeft_25 : decode cJ5_rotateLeft 25 = .ok (.getfield 111, 3) := dk_180 0 111 (dk_at dksJ5_rotateLeft_1 1 rfl rfl)
theorem dJ5_rotateLeft_28 : decode cJ5_rotateLeft 28 = .ok (.aload_n 1, 1) := dk_43 (dk_at dksJ5_rotateLeft_1 4 rfl rfl)
theorem dJ5_rotateLeft_29 : decode cJ5_rotateLeft 29 = .ok (.putfield 124, 3) := dk_181 0 124 (dk_at dksJ5_rotateLeft_1 5 rfl rfl)
theorem dJ5_rotateLeft_32 : decode cJ5_rotateLeft 32 = .ok (.aload_n 2, 1) := dk_44 (dk_at dksJ5_rotateLeft_1 8 rfl rfl)
theorem dJ5_rotateLeft_33 : decode cJ5_rotateLeft 33 = .ok (.aload_n 1, 1) := dk_43 (dk_at dksJ5_rotateLeft_1 9 rfl rfl)
theorem dJ5_rotateLeft_34 : decode cJ5_rotateLeft 34 = .ok (.getfield 124, 3) := dk_180 0 124 (dk_at dksJ5_rotateLeft_1 10 rfl rfl)
theorem dJ5_rotateLeft_37 : decode cJ5_rotateLeft 37 = .ok (.putfield 124, 3) := dk_181 0 124 (dk_at dksJ5_rotateLeft_1 13 rfl rfl)
theorem dJ5_rotateLeft_40 : decode cJ5_rotateLeft 40 = .ok (.aload_n 1, 1) := dk_43 (dk_at dksJ5_rotateLeft_1 16 rfl rfl)
theorem dJ5_rotateLeft_41 : decode cJ5_rotateLeft 41 = .ok (.getfield 124, 3) := dk_180 0 124 (dk_at dksJ5_rotateLeft_1 17 rfl rfl)
theorem dJ5_rotateLeft_44 : decode cJ5_rotateLeft 44 = .ok (.ifnonnull 11, 3) := dk_199 0 11 (dk_at dksJ5_rotateLeft_1 20 rfl rfl)
theorem dJ5_rotateLeft_47 : decode cJ5_rotateLeft 47 = .ok (.aload_n 0, 1) := dk_42 (dk_at dksJ5_rotateLeft_1 23 rfl rfl)
theorem dJ5_rotateLeft_48 : decode cJ5_rotateLeft 48 = .ok (.aload_n 2, 1) := dk_44 (dk_at dksJ5_rotateLeft_2 0 rfl rfl)
theorem dJ5_rotateLeft_49 : decode cJ5_rotateLeft 49 = .ok (.putfield 101, 3) := dk_181 0 101 (dk_at dksJ5_rotateLeft_2 1 rfl rfl)
theorem dJ5_rotateLeft_52 : decode cJ5_rotateLeft 52 = .ok (.goto 33, 3) := dk_167 0 33 (dk_at dksJ5_rotateLeft_2 4 rfl rfl)
theorem dJ5_rotateLeft_55 : decode cJ5_rotateLeft 55 = .ok (.aload_n 1, 1) := dk_43 (dk_at dksJ5_rotateLeft_2 7 rfl rfl)
theorem dJ5_rotateLeft_56 : decode cJ5_rotateLeft 56 = .ok (.getfield 124, 3) := dk_180 0 124 (dk_at dksJ5_rotateLeft_2 8 rfl rfl)
theorem dJ5_rotateLeft_59 : decode cJ5_rotateLeft 59 = .ok (.getfield 111, 3) := dk_180 0 111 (dk_at dksJ5_rotateLeft_2 11 rfl rfl)
theorem dJ5_rotateLeft_62 : decode cJ5_rotateLeft 62 = .ok (.aload_n 1, 1) := dk_43 (dk_at dksJ5_rotateLeft_2 14 rfl rfl)
theorem dJ5_rotateLeft_63 : decode cJ5_rotateLeft 63 = .ok (.if_acmp .ne 14, 3) := dk_166 0 14 (dk_at dksJ5_rotateLeft_2 15 rfl rfl)
theorem dJ5_rotateLeft_66 : decode cJ5_rotateLeft 66 = .ok (.aload_n 1, 1) := dk_43 (dk_at dksJ5_rotateLeft_2 18 rfl rfl)
theorem dJ5_rotateLeft_67 : decode cJ5_rotateLeft 67 = .ok (.getfield 124, 3) := dk_180 0 124 (dk_at dksJ5_rotateLeft_2 19 rfl rfl)
theorem dJ5_rotateLeft_70 : decode cJ5_rotateLeft 70 = .ok (.aload_n 2, 1) := dk_44 (dk_at dksJ5_rotateLeft_2 22 rfl rfl)
theorem dJ5_rotateLeft_71 : decode cJ5_rotateLeft 71 = .ok (.putfield 111, 3) := dk_181 0 111 (dk_at dksJ5_rotateLeft_3 0 rfl rfl)
theorem dJ5_rotateLeft_74 : decode cJ5_rotateLeft 74 = .ok (.goto 11, 3) := dk_167 0 11 (dk_at dksJ5_rotateLeft_3 3 rfl rfl)
theorem dJ5_rotateLeft_77 : decode cJ5_rotateLeft 77 = .ok (.aload_n 1, 1) := dk_43 (dk_at dksJ5_rotateLeft_3 6 rfl rfl)
theorem dJ5_rotateLeft_78 : decode cJ5_rotateLeft 78 = .ok (.getfield 124, 3) := dk_180 0 124 (dk_at dksJ5_rotateLeft_3 7 rfl rfl)
theorem dJ5_rotateLeft_81 : decode cJ5_rotateLeft 81 = .ok (.aload_n 2, 1) := dk_44 (dk_at dksJ5_rotateLeft_3 10 rfl rfl)
theorem dJ5_rotateLeft_82 : decode cJ5_rotateLeft 82 = .ok (.putfield 114, 3) := dk_181 0 114 (dk_at dksJ5_rotateLeft_3 11 rfl rfl)
theorem dJ5_rotateLeft_85 : decode cJ5_rotateLeft 85 = .ok (.aload_n 2, 1) := dk_44 (dk_at dksJ5_rotateLeft_3 14 rfl rfl)
theorem dJ5_rotateLeft_86 : decode cJ5_rotateLeft 86 = .ok (.aload_n 1, 1) := dk_43 (dk_at dksJ5_rotateLeft_3 15 rfl rfl)
theorem dJ5_rotateLeft_87 : decode cJ5_rotateLeft 87 = .ok (.putfield 111, 3) := dk_181 0 111 (dk_at dksJ5_rotateLeft_3 16 rfl rfl)
theorem dJ5_rotateLeft_90 : decode cJ5_rotateLeft 90 = .ok (.aload_n 1, 1) := dk_43 (dk_at dksJ5_rotateLeft_3 19 rfl rfl)
theorem dJ5_rotateLeft_91 : decode cJ5_rotateLeft 91 = .ok (.aload_n 2, 1) := dk_44 (dk_at dksJ5_rotateLeft_3 20 rfl rfl)
theorem dJ5_rotateLeft_92 : decode cJ5_rotateLeft 92 = .ok (.putfield 124, 3) := dk_181 0 124 (dk_at dksJ5_rotateLeft_3 21 rfl rfl)
theorem dJ5_rotateLeft_95 : decode cJ5_rotateLeft 95 = .ok (.return_, 1) := dk_177 (dk_at dksJ5_rotateLeft_4 0 rfl rfl)
abbrev cJ5_rotateRight : ByteArray := prog_65_method_82_code
def yJ5_rotateRight : MethodName := ⟨RJ5, "rotateRight", "(Ljava/util/TreeMap$Entry;)V"⟩
def dkwJ5_rotateRight_4 : List UInt8 := [177]
abbrev dktJ5_rotateRight_4 : List UInt8 := dkwJ5_rotateRight_4 ++ []
def dkwJ5_rotateRight_3 : List UInt8 := [181, 0, 114, 167, 0, 11, 43, 180, 0, 124, 44, 181, 0, 111, 44, 43, 181, 0, 114, 43, 44, 181, 0, 124]
abbrev dktJ5_rotateRight_3 : List UInt8 := dkwJ5_rotateRight_3 ++ dktJ5_rotateRight_4
def dkwJ5_rotateRight_2 : List UInt8 := [44, 181, 0, 101, 167, 0, 33, 43, 180, 0, 124, 180, 0, 114, 43, 166, 0, 14, 43, 180, 0, 124, 44]
abbrev dktJ5_rotateRight_2 : List UInt8 := dkwJ5_rotateRight_2 ++ dktJ5_rotateRight_3
def dkwJ5_rotateRight_1 : List UInt8 := [44, 180, 0, 114, 43, 181, 0, 124, 44, 43, 180, 0, 124, 181, 0, 124, 43, 180, 0, 124, 199, 0, 11, 42]
abbrev dktJ5_rotateRight_1 : List UInt8 := dkwJ5_rotateRight_1 ++ dktJ5_rotateRight_2
def dkwJ5_rotateRight_0 : List UInt8 := [43, 198, 0, 94, 43, 180, 0, 111, 77, 43, 44, 180, 0, 114, 181, 0, 111, 44, 180, 0, 114, 198, 0, 11]
abbrev dktJ5_rotateRight_0 : List UInt8 := dkwJ5_rotateRight_0 ++ dktJ5_rotateRight_1
theorem dksJ5_rotateRight_0 : cJ5_rotateRight.data.toList.drop 0 = dktJ5_rotateRight_0 := by decide +kernel
theorem dksJ5_rotateRight_1 : cJ5_rotateRight.data.toList.drop 24 = dktJ5_rotateRight_1 := dk_seg dksJ5_rotateRight_0 24 rfl rfl
theorem dksJ5_rotateRight_2 : cJ5_rotateRight.data.toList.drop 48 = dktJ5_rotateRight_2 := dk_seg dksJ5_rotateRight_1 24 rfl rfl
theorem dksJ5_rotateRight_3 : cJ5_rotateRight.data.toList.drop 71 = dktJ5_rotateRight_3 := dk_seg dksJ5_rotateRight_2 23 rfl rfl
theorem dksJ5_rotateRight_4 : cJ5_rotateRight.data.toList.drop 95 = dktJ5_rotateRight_4 := dk_seg dksJ5_rotateRight_3 24 rfl rfl
theorem dJ5_rotateRight_0 : decode cJ5_rotateRight 0 = .ok (.aload_n 1, 1) := dk_43 (dk_at dksJ5_rotateRight_0 0 rfl rfl)
theorem dJ5_rotateRight_1 : decode cJ5_rotateRight 1 = .ok (.ifnull 94, 3) := dk_198 0 94 (dk_at dksJ5_rotateRight_0 1 rfl rfl)
theorem dJ5_rotateRight_4 : decode cJ5_rotateRight 4 = .ok (.aload_n 1, 1) := dk_43 (dk_at dksJ5_rotateRight_0 4 rfl rfl)
theorem dJ5_rotateRight_5 : decode cJ5_rotateRight 5 = .ok (.getfield 111, 3) := dk_180 0 111 (dk_at dksJ5_rotateRight_0 5 rfl rfl)
theorem dJ5_rotateRight_8 : decode cJ5_rotateRight 8 = .ok (.astore_n 2, 1) := dk_77 (dk_at dksJ5_rotateRight_0 8 rfl rfl)
theorem dJ5_rotateRight_9 : decode cJ5_rotateRight 9 = .ok (.aload_n 1, 1) := dk_43 (dk_at dksJ5_rotateRight_0 9 rfl rfl)
theorem dJ5_rotateRight_10 : decode cJ5_rotateRight 10 = .ok (.aload_n 2, 1) := dk_44 (dk_at dksJ5_rotateRight_0 10 rfl rfl)
theorem dJ5_rotateRight_11 : decode cJ5_rotateRight 11 = .ok (.getfield 114, 3) := dk_180 0 114 (dk_at dksJ5_rotateRight_0 11 rfl rfl)
theorem dJ5_rotateRight_14 : decode cJ5_rotateRight 14 = .ok (.putfield 111, 3) := dk_181 0 111 (dk_at dksJ5_rotateRight_0 14 rfl rfl)
theorem dJ5_rotateRight_17 : decode cJ5_rotateRight 17 = .ok (.aload_n 2, 1) := dk_44 (dk_at dksJ5_rotateRight_0 17 rfl rfl)
theorem dJ5_rotateRight_18 : decode cJ5_rotateRight 18 = .ok (.getfield 114, 3) := dk_180 0 114 (dk_at dksJ5_rotateRight_0 18 rfl rfl)
theorem dJ5_rotateRight_21 : decode cJ5_rotateRight 21 = .ok (.ifnull 11, 3) := dk_198 0 11 (dk_at dksJ5_rotateRight_0 21 rfl rfl)
theorem dJ5_rotateRight_24 : decode cJ5_rotateRight 24 = .ok (.aload_n 2, 1) := dk_44 (dk_at dksJ5_rotateRight_1 0 rfl rfl)
theorem dJ5_rotateRight_25 : decode cJ5_rotateRight 25 = .ok (.getfield 114, 3) := dk_180 0 114 (dk_at dksJ5_rotateRight_1 1 rfl rfl)
theorem dJ5_rotateRight_28 : decode cJ5_rotateRight 28 = .ok (.aload_n 1, 1) := dk_43 (dk_at dksJ5_rotateRight_1 4 rfl rfl)
theorem dJ5_rotateRight_29 : decode cJ5_rotateRight 29 = .ok (.putfield 124, 3) := dk_181 0 124 (dk_at dksJ5_rotateRight_1 5 rfl rfl)
theorem dJ5_rotateRight_32 : decode cJ5_rotateRight 32 = .ok (.aload_n 2, 1) := dk_44 (dk_at dksJ5_rotateRight_1 8 rfl rfl)
theorem dJ5_rotateRight_33 : decode cJ5_rotateRight 33 = .ok (.aload_n 1, 1) := dk_43 (dk_at dksJ5_rotateRight_1 9 rfl rfl)
theorem dJ5_rotateRight_34 : decode cJ5_rotateRight 34 = .ok (.getfield 124, 3) := dk_180 0 124 (dk_at dksJ5_rotateRight_1 10 rfl rfl)
theorem dJ5_rotateRight_37 : decode cJ5_rotateRight 37 = .ok (.putfield 124, 3) := dk_181 0 124 (dk_at dksJ5_rotateRight_1 13 rfl rfl)
theorem dJ5_rotateRight_40 : decode cJ5_rotateRight 40 = .ok (.aload_n 1, 1) := dk_43 (dk_at dksJ5_rotateRight_1 16 rfl rfl)
theorem dJ5_rotateRight_41 : decode cJ5_rotateRight 41 = .ok (.getfield 124, 3) := dk_180 0 124 (dk_at dksJ5_rotateRight_1 17 rfl rfl)
theorem dJ5_rotateRight_44 : decode cJ5_rotateRight 44 = .ok (.ifnonnull 11, 3) := dk_199 0 11 (dk_at dksJ5_rotateRight_1 20 rfl rfl)
theorem dJ5_rotateRight_47 : decode cJ5_rotateRight 47 = .ok (.aload_n 0, 1) := dk_42 (dk_at dksJ5_rotateRight_1 23 rfl rfl)
theorem dJ5_rotateRight_48 : decode cJ5_rotateRight 48 = .ok (.aload_n 2, 1) := dk_44 (dk_at dksJ5_rotateRight_2 0 rfl rfl)
theorem dJ5_rotateRight_49 : decode cJ5_rotateRight 49 = .ok (.putfield 101, 3) := dk_181 0 101 (dk_at dksJ5_rotateRight_2 1 rfl rfl)
theorem dJ5_rotateRight_52 : decode cJ5_rotateRight 52 = .ok (.goto 33, 3) := dk_167 0 33 (dk_at dksJ5_rotateRight_2 4 rfl rfl)
theorem dJ5_rotateRight_55 : decode cJ5_rotateRight 55 = .ok (.aload_n 1, 1) := dk_43 (dk_at dksJ5_rotateRight_2 7 rfl rfl)
theorem dJ5_rotateRight_56 : decode cJ5_rotateRight 56 = .ok (.getfield 124, 3) := dk_180 0 124 (dk_at dksJ5_rotateRight_2 8 rfl rfl)
theorem dJ5_rotateRight_59 : decode cJ5_rotateRight 59 = .ok (.getfield 114, 3) := dk_180 0 114 (dk_at dksJ5_rotateRight_2 11 rfl rfl)
theorem dJ5_rotateRight_62 : decode cJ5_rotateRight 62 = .ok (.aload_n 1, 1) := dk_43 (dk_at dksJ5_rotateRight_2 14 rfl rfl)
theorem dJ5_rotateRight_63 : decode cJ5_rotateRight 63 = .ok (.if_acmp .ne 14, 3) := dk_166 0 14 (dk_at dksJ5_rotateRight_2 15 rfl rfl)
theorem dJ5_rotateRight_66 : decode cJ5_rotateRight 66 = .ok (.aload_n 1, 1) := dk_43 (dk_at dksJ5_rotateRight_2 18 rfl rfl)
theorem dJ5_rotateRight_67 : decode cJ5_rotateRight 67 = .ok (.getfield 124, 3) := dk_180 0 124 (dk_at dksJ5_rotateRight_2 19 rfl rfl)
theorem dJ5_rotateRight_70 : decode cJ5_rotateRight 70 = .ok (.aload_n 2, 1) := dk_44 (dk_at dksJ5_rotateRight_2 22 rfl rfl)
theorem dJ5_rotateRight_71 : decode cJ5_rotateRight 71 = .ok (.putfield 114, 3) := dk_181 0 114 (dk_at dksJ5_rotateRight_3 0 rfl rfl)
theorem dJ5_rotateRight_74 : decode cJ5_rotateRight 74 = .ok (.goto 11, 3) := dk_167 0 11 (dk_at dksJ5_rotateRight_3 3 rfl rfl)
theorem dJ5_rotateRight_77 : decode cJ5_rotateRight 77 = .ok (.aload_n 1, 1) := dk_43 (dk_at dksJ5_rotateRight_3 6 rfl rfl)
theorem dJ5_rotateRight_78 : decode cJ5_rotateRight 78 = .ok (.getfield 124, 3) := dk_180 0 124 (dk_at dksJ5_rotateRight_3 7 rfl rfl)
theorem dJ5_rotateRight_81 : decode cJ5_rotateRight 81 = .ok (.aload_n 2, 1) := dk_44 (dk_at dksJ5_rotateRight_3 10 rfl rfl)
theorem dJ5_rotateRight_82 : decode cJ5_rotateRight 82 = .ok (.putfield 111, 3) := dk_181 0 111 (dk_at dksJ5_rotateRight_3 11 rfl rfl)
theorem dJ5_rotateRight_85 : decode cJ5_rotateRight 85 = .ok (.aload_n 2, 1) := dk_44 (dk_at dksJ5_rotateRight_3 14 rfl rfl)
theorem dJ5_rotateRight_86 : decode cJ5_rotateRight 86 = .ok (.aload_n 1, 1) := dk_43 (dk_at dksJ5_rotateRight_3 15 rfl rfl)
theorem dJ5_rotateRight_87 : decode cJ5_rotateRight 87 = .ok (.putfield 114, 3) := dk_181 0 114 (dk_at dksJ5_rotateRight_3 16 rfl rfl)
theorem dJ5_rotateRight_90 : decode cJ5_rotateRight 90 = .ok (.aload_n 1, 1) := dk_43 (dk_at dksJ5_rotateRight_3 19 rfl rfl)
theorem dJ5_rotateRight_91 : decode cJ5_rotateRight 91 = .ok (.aload_n 2, 1) := dk_44 (dk_at dksJ5_rotateRight_3 20 rfl rfl)
theorem dJ5_rotateRight_92 : decode cJ5_rotateRight 92 = .ok (.putfield 124, 3) := dk_181 0 124 (dk_at dksJ5_rotateRight_3 21 rfl rfl)
theorem dJ5_rotateRight_95 : decode cJ5_rotateRight 95 = .ok (.return_, 1) := dk_177 (dk_at dksJ5_rotateRight_4 0 rfl rfl)
abbrev cJ5_remove : ByteArray := prog_65_method_34_code
def yJ5_remove : MethodName := ⟨RJ5, "remove", "(Ljava/lang/Object;)Ljava/lang/Object;"⟩
def dkwJ5_remove_0 : List UInt8 := [42, 43, 182, 0, 50, 77, 44, 199, 0, 5, 1, 176, 44, 180, 0, 58, 78, 42, 44, 182, 0, 174, 45, 176]
abbrev dktJ5_remove_0 : List UInt8 := dkwJ5_remove_0 ++ []
theorem dksJ5_remove_0 : cJ5_remove.data.toList.drop 0 = dktJ5_remove_0 := by decide +kernel
theorem dJ5_remove_0 : decode cJ5_remove 0 = .ok (.aload_n 0, 1) := dk_42 (dk_at dksJ5_remove_0 0 rfl rfl)
theorem dJ5_remove_1 : decode cJ5_remove 1 = .ok (.aload_n 1, 1) := dk_43 (dk_at dksJ5_remove_0 1 rfl rfl)
theorem dJ5_remove_2 : decode cJ5_remove 2 = .ok (.invokevirtual 50, 3) := dk_182 0 50 (dk_at dksJ5_remove_0 2 rfl rfl)
theorem dJ5_remove_5 : decode cJ5_remove 5 = .ok (.astore_n 2, 1) := dk_77 (dk_at dksJ5_remove_0 5 rfl rfl)
theorem dJ5_remove_6 : decode cJ5_remove 6 = .ok (.aload_n 2, 1) := dk_44 (dk_at dksJ5_remove_0 6 rfl rfl)
theorem dJ5_remove_7 : decode cJ5_remove 7 = .ok (.ifnonnull 5, 3) := dk_199 0 5 (dk_at dksJ5_remove_0 7 rfl rfl)
theorem dJ5_remove_10 : decode cJ5_remove 10 = .ok (.aconst_null, 1) := dk_1 (dk_at dksJ5_remove_0 10 rfl rfl)
theorem dJ5_remove_11 : decode cJ5_remove 11 = .ok (.areturn, 1) := dk_176 (dk_at dksJ5_remove_0 11 rfl rfl)
theorem dJ5_remove_12 : decode cJ5_remove 12 = .ok (.aload_n 2, 1) := dk_44 (dk_at dksJ5_remove_0 12 rfl rfl)
theorem dJ5_remove_13 : decode cJ5_remove 13 = .ok (.getfield 58, 3) := dk_180 0 58 (dk_at dksJ5_remove_0 13 rfl rfl)
theorem dJ5_remove_16 : decode cJ5_remove 16 = .ok (.astore_n 3, 1) := dk_78 (dk_at dksJ5_remove_0 16 rfl rfl)
theorem dJ5_remove_17 : decode cJ5_remove 17 = .ok (.aload_n 0, 1) := dk_42 (dk_at dksJ5_remove_0 17 rfl rfl)
theorem dJ5_remove_18 : decode cJ5_remove 18 = .ok (.aload_n 2, 1) := dk_44 (dk_at dksJ5_remove_0 18 rfl rfl)
theorem dJ5_remove_19 : decode cJ5_remove 19 = .ok (.invokevirtual 174, 3) := dk_182 0 174 (dk_at dksJ5_remove_0 19 rfl rfl)
theorem dJ5_remove_22 : decode cJ5_remove 22 = .ok (.aload_n 3, 1) := dk_45 (dk_at dksJ5_remove_0 22 rfl rfl)
theorem dJ5_remove_23 : decode cJ5_remove 23 = .ok (.areturn, 1) := dk_176 (dk_at dksJ5_remove_0 23 rfl rfl)
abbrev cJ5_deleteEntry : ByteArray := prog_65_method_84_code
def yJ5_deleteEntry : MethodName := ⟨RJ5, "deleteEntry", "(Ljava/util/TreeMap$Entry;)V"⟩
def dkwJ5_deleteEntry_10 : List UInt8 := [180, 0, 124, 1, 181, 0, 114, 43, 1, 181, 0, 124, 177]
abbrev dktJ5_deleteEntry_10 : List UInt8 := dkwJ5_deleteEntry_10 ++ []
def dkwJ5_deleteEntry_9 : List UInt8 := [180, 0, 124, 1, 181, 0, 111, 167, 0, 22, 43, 43, 180, 0, 124, 180, 0, 114, 166, 0, 11, 43]
abbrev dktJ5_deleteEntry_9 : List UInt8 := dkwJ5_deleteEntry_9 ++ dktJ5_deleteEntry_10
def dkwJ5_deleteEntry_8 : List UInt8 := [182, 1, 61, 43, 180, 0, 124, 198, 0, 49, 43, 43, 180, 0, 124, 180, 0, 111, 166, 0, 14, 43]
abbrev dktJ5_deleteEntry_8 : List UInt8 := dkwJ5_deleteEntry_8 ++ dktJ5_deleteEntry_9
def dkwJ5_deleteEntry_7 : List UInt8 := [180, 0, 124, 199, 0, 11, 42, 1, 181, 0, 101, 167, 0, 69, 43, 180, 1, 34, 4, 160, 0, 8, 42, 43]
abbrev dktJ5_deleteEntry_7 : List UInt8 := dkwJ5_deleteEntry_7 ++ dktJ5_deleteEntry_8
def dkwJ5_deleteEntry_6 : List UInt8 := [181, 0, 114, 181, 0, 111, 43, 180, 1, 34, 4, 160, 0, 92, 42, 44, 182, 1, 61, 167, 0, 84, 43]
abbrev dktJ5_deleteEntry_6 : List UInt8 := dkwJ5_deleteEntry_6 ++ dktJ5_deleteEntry_7
def dkwJ5_deleteEntry_5 : List UInt8 := [181, 0, 111, 167, 0, 11, 43, 180, 0, 124, 44, 181, 0, 114, 43, 43, 43, 1, 90, 181, 0, 124, 90]
abbrev dktJ5_deleteEntry_5 : List UInt8 := dkwJ5_deleteEntry_5 ++ dktJ5_deleteEntry_6
def dkwJ5_deleteEntry_4 : List UInt8 := [44, 181, 0, 101, 167, 0, 33, 43, 43, 180, 0, 124, 180, 0, 111, 166, 0, 14, 43, 180, 0, 124, 44]
abbrev dktJ5_deleteEntry_4 : List UInt8 := dkwJ5_deleteEntry_4 ++ dktJ5_deleteEntry_5
def dkwJ5_deleteEntry_3 : List UInt8 := [180, 0, 114, 77, 44, 198, 0, 87, 44, 43, 180, 0, 124, 181, 0, 124, 43, 180, 0, 124, 199, 0, 11, 42]
abbrev dktJ5_deleteEntry_3 : List UInt8 := dkwJ5_deleteEntry_3 ++ dktJ5_deleteEntry_4
def dkwJ5_deleteEntry_2 : List UInt8 := [44, 180, 0, 58, 181, 0, 58, 44, 76, 43, 180, 0, 111, 198, 0, 10, 43, 180, 0, 111, 167, 0, 7, 43]
abbrev dktJ5_deleteEntry_2 : List UInt8 := dkwJ5_deleteEntry_2 ++ dktJ5_deleteEntry_3
def dkwJ5_deleteEntry_1 : List UInt8 := [198, 0, 33, 43, 180, 0, 114, 198, 0, 26, 43, 184, 0, 68, 77, 43, 44, 180, 0, 105, 181, 0, 105, 43]
abbrev dktJ5_deleteEntry_1 : List UInt8 := dkwJ5_deleteEntry_1 ++ dktJ5_deleteEntry_2
def dkwJ5_deleteEntry_0 : List UInt8 := [42, 89, 180, 0, 13, 4, 96, 181, 0, 13, 42, 89, 180, 0, 7, 4, 100, 181, 0, 7, 43, 180, 0, 111]
abbrev dktJ5_deleteEntry_0 : List UInt8 := dkwJ5_deleteEntry_0 ++ dktJ5_deleteEntry_1
theorem dksJ5_deleteEntry_0 : cJ5_deleteEntry.data.toList.drop 0 = dktJ5_deleteEntry_0 := by decide +kernel
theorem dksJ5_deleteEntry_1 : cJ5_deleteEntry.data.toList.drop 24 = dktJ5_deleteEntry_1 := dk_seg dksJ5_deleteEntry_0 24 rfl rfl
theorem dksJ5_deleteEntry_2 : cJ5_deleteEntry.data.toList.drop 48 = dktJ5_deleteEntry_2 := dk_seg dksJ5_deleteEntry_1 24 rfl rfl
theorem dksJ5_deleteEntry_3 : cJ5_deleteEntry.data.toList.drop 72 = dktJ5_deleteEntry_3 := dk_seg dksJ5_deleteEntry_2 24 rfl rfl
theorem dksJ5_deleteEntry_4 : cJ5_deleteEntry.data.toList.drop 96 = dktJ5_deleteEntry_4 := dk_seg dksJ5_deleteEntry_3 24 rfl rfl
theorem dksJ5_deleteEntry_5 : cJ5_deleteEntry.data.toList.drop 119 = dktJ5_deleteEntry_5 := dk_seg dksJ5_deleteEntry_4 23 rfl rfl
theorem dksJ5_deleteEntry_6 : cJ5_deleteEntry.data.toList.drop 142 = dktJ5_deleteEntry_6 := dk_seg dksJ5_deleteEntry_5 23 rfl rfl
theorem dksJ5_deleteEntry_7 : cJ5_deleteEntry.data.toList.drop 165 = dktJ5_deleteEntry_7 := dk_seg dksJ5_deleteEntry_6 23 rfl rfl
theorem dksJ5_deleteEntry_8 : cJ5_deleteEntry.data.toList.drop 189 = dktJ5_deleteEntry_8 := dk_seg dksJ5_deleteEntry_7 24 rfl rfl
theorem dksJ5_deleteEntry_9 : cJ5_deleteEntry.data.toList.drop 211 = dktJ5_deleteEntry_9 := dk_seg dksJ5_deleteEntry_8 22 rfl rfl
theorem dksJ5_deleteEntry_10 : cJ5_deleteEntry.data.toList.drop 233 = dktJ5_deleteEntry_10 := dk_seg dksJ5_deleteEntry_9 22 rfl rfl
theorem dJ5_deleteEntry_0 : decode cJ5_deleteEntry 0 = .ok (.aload_n 0, 1) := dk_42 (dk_at dksJ5_deleteEntry_0 0 rfl rfl)
theorem dJ5_deleteEntry_1 : decode cJ5_deleteEntry 1 = .ok (.dup, 1) := dk_89 (dk_at dksJ5_deleteEntry_0 1 rfl rfl)
theorem dJ5_deleteEntry_2 : decode cJ5_deleteEntry 2 = .ok (.getfield 13, 3) := dk_180 0 13 (dk_at dksJ5_deleteEntry_0 2 rfl rfl)
theorem dJ5_deleteEntry_5 : decode cJ5_deleteEntry 5 = .ok (.iconst 1, 1) := dk_4 (dk_at dksJ5_deleteEntry_0 5 rfl rfl)
theorem dJ5_deleteEntry_6 : decode cJ5_deleteEntry 6 = .ok (.iadd, 1) := dk_96 (dk_at dksJ5_deleteEntry_0 6 rfl rfl)
theorem dJ5_deleteEntry_7 : decode cJ5_deleteEntry 7 = .ok (.putfield 13, 3) := dk_181 0 13 (dk_at dksJ5_deleteEntry_0 7 rfl rfl)
theorem dJ5_deleteEntry_10 : decode cJ5_deleteEntry 10 = .ok (.aload_n 0, 1) := dk_42 (dk_at dksJ5_deleteEntry_0 10 rfl rfl)
theorem dJ5_deleteEntry_11 : decode cJ5_deleteEntry 11 = .ok (.dup, 1) := dk_89 (dk_at dksJ5_deleteEntry_0 11 rfl rfl)
theorem dJ5_deleteEntry_12 : decode cJ5_deleteEntry 12 = .ok (.getfield 7, 3) := dk_180 0 7 (dk_at dksJ5_deleteEntry_0 12 rfl rfl)
theorem dJ5_deleteEntry_15 : decode cJ5_deleteEntry 15 = .ok (.iconst 1, 1) := dk_4 (dk_at dksJ5_deleteEntry_0 15 rfl rfl)
theorem dJ5_deleteEntry_16 : decode cJ5_deleteEntry 16 = .ok (.isub, 1) := dk_100 (dk_at dksJ5_deleteEntry_0 16 rfl rfl)
theorem dJ5_deleteEntry_17 : decode cJ5_deleteEntry 17 = .ok (.putfield 7, 3) := dk_181 0 7 (dk_at dksJ5_deleteEntry_0 17 rfl rfl)
theorem dJ5_deleteEntry_20 : decode cJ5_deleteEntry 20 = .ok (.aload_n 1, 1) := dk_43 (dk_at dksJ5_deleteEntry_0 20 rfl rfl)
theorem dJ5_deleteEntry_21 : decode cJ5_deleteEntry 21 = .ok (.getfield 111, 3) := dk_180 0 111 (dk_at dksJ5_deleteEntry_0 21 rfl rfl)
theorem dJ5_deleteEntry_24 : decode cJ5_deleteEntry 24 = .ok (.ifnull 33, 3) := dk_198 0 33 (dk_at dksJ5_deleteEntry_1 0 rfl rfl)
theorem dJ5_deleteEntry_27 : decode cJ5_deleteEntry 27 = .ok (.aload_n 1, 1) := dk_43 (dk_at dksJ5_deleteEntry_1 3 rfl rfl)
theorem dJ5_deleteEntry_28 : decode cJ5_deleteEntry 28 = .ok (.getfield 114, 3) := dk_180 0 114 (dk_at dksJ5_deleteEntry_1 4 rfl rfl)
theorem dJ5_deleteEntry_31 : decode cJ5_deleteEntry 31 = .ok (.ifnull 26, 3) := dk_198 0 26 (dk_at dksJ5_deleteEntry_1 7 rfl rfl)
theorem dJ5_deleteEntry_34 : decode cJ5_deleteEntry 34 = .ok (.aload_n 1, 1) := dk_43 (dk_at dksJ5_deleteEntry_1 10 rfl rfl)
theorem dJ5_deleteEntry_35 : decode cJ5_deleteEntry 35 = .ok (.invokestatic 68, 3) := dk_184 0 68 (dk_at dksJ5_deleteEntry_1 11 rfl rfl)
theorem dJ5_deleteEntry_38 : decode cJ5_deleteEntry 38 = .ok (.astore_n 2, 1) := dk_77 (dk_at dksJ5_deleteEntry_1 14 rfl rfl)
theorem dJ5_deleteEntry_39 : decode cJ5_deleteEntry 39 = .ok (.aload_n 1, 1) := dk_43 (dk_at dksJ5_deleteEntry_1 15 rfl rfl)
theorem dJ5_deleteEntry_40 : decode cJ5_deleteEntry 40 = .ok (.aload_n 2, 1) := dk_44 (dk_at dksJ5_deleteEntry_1 16 rfl rfl)
theorem dJ5_deleteEntry_41 : decode cJ5_deleteEntry 41 = .ok (.getfield 105, 3) := dk_180 0 105 (dk_at dksJ5_deleteEntry_1 17 rfl rfl)
theorem dJ5_deleteEntry_44 : decode cJ5_deleteEntry 44 = .ok (.putfield 105, 3) := dk_181 0 105 (dk_at dksJ5_deleteEntry_1 20 rfl rfl)
theorem dJ5_deleteEntry_47 : decode cJ5_deleteEntry 47 = .ok (.aload_n 1, 1) := dk_43 (dk_at dksJ5_deleteEntry_1 23 rfl rfl)
theorem dJ5_deleteEntry_48 : decode cJ5_deleteEntry 48 = .ok (.aload_n 2, 1) := dk_44 (dk_at dksJ5_deleteEntry_2 0 rfl rfl)
theorem dJ5_deleteEntry_49 : decode cJ5_deleteEntry 49 = .ok (.getfield 58, 3) := dk_180 0 58 (dk_at dksJ5_deleteEntry_2 1 rfl rfl)
theorem dJ5_deleteEntry_52 : decode cJ5_deleteEntry 52 = .ok (.putfield 58, 3) := dk_181 0 58 (dk_at dksJ5_deleteEntry_2 4 rfl rfl)
theorem dJ5_deleteEntry_55 : decode cJ5_deleteEntry 55 = .ok (.aload_n 2, 1) := dk_44 (dk_at dksJ5_deleteEntry_2 7 rfl rfl)
theorem dJ5_deleteEntry_56 : decode cJ5_deleteEntry 56 = .ok (.astore_n 1, 1) := dk_76 (dk_at dksJ5_deleteEntry_2 8 rfl rfl)
theorem dJ5_deleteEntry_57 : decode cJ5_deleteEntry 57 = .ok (.aload_n 1, 1) := dk_43 (dk_at dksJ5_deleteEntry_2 9 rfl rfl)
theorem dJ5_deleteEntry_58 : decode cJ5_deleteEntry 58 = .ok (.getfield 111, 3) := dk_180 0 111 (dk_at dksJ5_deleteEntry_2 10 rfl rfl)
theorem dJ5_deleteEntry_61 : decode cJ5_deleteEntry 61 = .ok (.ifnull 10, 3) := dk_198 0 10 (dk_at dksJ5_deleteEntry_2 13 rfl rfl)
theorem dJ5_deleteEntry_64 : decode cJ5_deleteEntry 64 = .ok (.aload_n 1, 1) := dk_43 (dk_at dksJ5_deleteEntry_2 16 rfl rfl)
theorem dJ5_deleteEntry_65 : decode cJ5_deleteEntry 65 = .ok (.getfield 111, 3) := dk_180 0 111 (dk_at dksJ5_deleteEntry_2 17 rfl rfl)
theorem dJ5_deleteEntry_68 : decode cJ5_deleteEntry 68 = .ok (.goto 7, 3) := dk_167 0 7 (dk_at dksJ5_deleteEntry_2 20 rfl rfl)
theorem dJ5_deleteEntry_71 : decode cJ5_deleteEntry 71 = .ok (.aload_n 1, 1) := dk_43 (dk_at dksJ5_deleteEntry_2 23 rfl rfl)
theorem dJ5_deleteEntry_72 : decode cJ5_deleteEntry 72 = .ok (.getfield 114, 3) := dk_180 0 114 (dk_at dksJ5_deleteEntry_3 0 rfl rfl)
theorem dJ5_deleteEntry_75 : decode cJ5_deleteEntry 75 = .ok (.astore_n 2, 1) := dk_77 (dk_at dksJ5_deleteEntry_3 3 rfl rfl)
theorem dJ5_deleteEntry_76 : decode cJ5_deleteEntry 76 = .ok (.aload_n 2, 1) := dk_44 (dk_at dksJ5_deleteEntry_3 4 rfl rfl)
theorem dJ5_deleteEntry_77 : decode cJ5_deleteEntry 77 = .ok (.ifnull 87, 3) := dk_198 0 87 (dk_at dksJ5_deleteEntry_3 5 rfl rfl)
theorem dJ5_deleteEntry_80 : decode cJ5_deleteEntry 80 = .ok (.aload_n 2, 1) := dk_44 (dk_at dksJ5_deleteEntry_3 8 rfl rfl)
theorem dJ5_deleteEntry_81 : decode cJ5_deleteEntry 81 = .ok (.aload_n 1, 1) := dk_43 (dk_at dksJ5_deleteEntry_3 9 rfl rfl)
theorem dJ5_deleteEntry_82 : decode cJ5_deleteEntry 82 = .ok (.getfield 124, 3) := dk_180 0 124 (dk_at dksJ5_deleteEntry_3 10 rfl rfl)
theorem dJ5_deleteEntry_85 : decode cJ5_deleteEntry 85 = .ok (.putfield 124, 3) := dk_181 0 124 (dk_at dksJ5_deleteEntry_3 13 rfl rfl)
theorem dJ5_deleteEntry_88 : decode cJ5_deleteEntry 88 = .ok (.aload_n 1, 1) := dk_43 (dk_at dksJ5_deleteEntry_3 16 rfl rfl)
theorem dJ5_deleteEntry_89 : decode cJ5_deleteEntry 89 = .ok (.getfield 124, 3) := dk_180 0 124 (dk_at dksJ5_deleteEntry_3 17 rfl rfl)
theorem dJ5_deleteEntry_92 : decode cJ5_deleteEntry 92 = .ok (.ifnonnull 11, 3) := dk_199 0 11 (dk_at dksJ5_deleteEntry_3 20 rfl rfl)
theorem dJ5_deleteEntry_95 : decode cJ5_deleteEntry 95 = .ok (.aload_n 0, 1) := dk_42 (dk_at dksJ5_deleteEntry_3 23 rfl rfl)
theorem dJ5_deleteEntry_96 : decode cJ5_deleteEntry 96 = .ok (.aload_n 2, 1) := dk_44 (dk_at dksJ5_deleteEntry_4 0 rfl rfl)
theorem dJ5_deleteEntry_97 : decode cJ5_deleteEntry 97 = .ok (.putfield 101, 3) := dk_181 0 101 (dk_at dksJ5_deleteEntry_4 1 rfl rfl)
theorem dJ5_deleteEntry_100 : decode cJ5_deleteEntry 100 = .ok (.goto 33, 3) := dk_167 0 33 (dk_at dksJ5_deleteEntry_4 4 rfl rfl)
theorem dJ5_deleteEntry_103 : decode cJ5_deleteEntry 103 = .ok (.aload_n 1, 1) := dk_43 (dk_at dksJ5_deleteEntry_4 7 rfl rfl)
theorem dJ5_deleteEntry_104 : decode cJ5_deleteEntry 104 = .ok (.aload_n 1, 1) := dk_43 (dk_at dksJ5_deleteEntry_4 8 rfl rfl)
theorem dJ5_deleteEntry_105 : decode cJ5_deleteEntry 105 = .ok (.getfield 124, 3) := dk_180 0 124 (dk_at dksJ5_deleteEntry_4 9 rfl rfl)
theorem dJ5_deleteEntry_108 : decode cJ5_deleteEntry 108 = .ok (.getfield 111, 3) := dk_180 0 111 (dk_at dksJ5_deleteEntry_4 12 rfl rfl)
theorem dJ5_deleteEntry_111 : decode cJ5_deleteEntry 111 = .ok (.if_acmp .ne 14, 3) := dk_166 0 14 (dk_at dksJ5_deleteEntry_4 15 rfl rfl)
theorem dJ5_deleteEntry_114 : decode cJ5_deleteEntry 114 = .ok (.aload_n 1, 1) := dk_43 (dk_at dksJ5_deleteEntry_4 18 rfl rfl)
theorem dJ5_deleteEntry_115 : decode cJ5_deleteEntry 115 = .ok (.getfield 124, 3) := dk_180 0 124 (dk_at dksJ5_deleteEntry_4 19 rfl rfl)
theorem dJ5_deleteEntry_118 : decode cJ5_deleteEntry 118 = .ok (.aload_n 2, 1) := dk_44 (dk_at dksJ5_deleteEntry_4 22 rfl rfl)
theorem dJ5_deleteEntry_119 : decode cJ5_deleteEntry 119 = .ok (.putfield 111, 3) := dk_181 0 111 (dk_at dksJ5_deleteEntry_5 0 rfl rfl)
theorem dJ5_deleteEntry_122 : decode cJ5_deleteEntry 122 = .ok (.goto 11, 3) := dk_167 0 11 (dk_at dksJ5_deleteEntry_5 3 rfl rfl)
theorem dJ5_deleteEntry_125 : decode cJ5_deleteEntry 125 = .ok (.aload_n 1, 1) := dk_43 (dk_at dksJ5_deleteEntry_5 6 rfl rfl)
theorem dJ5_deleteEntry_126 : decode cJ5_deleteEntry 126 = .ok (.getfield 124, 3) := dk_180 0 124 (dk_at dksJ5_deleteEntry_5 7 rfl rfl)
theorem dJ5_deleteEntry_129 : decode cJ5_deleteEntry 129 = .ok (.aload_n 2, 1) := dk_44 (dk_at dksJ5_deleteEntry_5 10 rfl rfl)
theorem dJ5_deleteEntry_130 : decode cJ5_deleteEntry 130 = .ok (.putfield 114, 3) := dk_181 0 114 (dk_at dksJ5_deleteEntry_5 11 rfl rfl)
theorem dJ5_deleteEntry_133 : decode cJ5_deleteEntry 133 = .ok (.aload_n 1, 1) := dk_43 (dk_at dksJ5_deleteEntry_5 14 rfl rfl)
theorem dJ5_deleteEntry_134 : decode cJ5_deleteEntry 134 = .ok (.aload_n 1, 1) := dk_43 (dk_at dksJ5_deleteEntry_5 15 rfl rfl)
theorem dJ5_deleteEntry_135 : decode cJ5_deleteEntry 135 = .ok (.aload_n 1, 1) := dk_43 (dk_at dksJ5_deleteEntry_5 16 rfl rfl)
theorem dJ5_deleteEntry_136 : decode cJ5_deleteEntry 136 = .ok (.aconst_null, 1) := dk_1 (dk_at dksJ5_deleteEntry_5 17 rfl rfl)
theorem dJ5_deleteEntry_137 : decode cJ5_deleteEntry 137 = .ok (.dup_x1, 1) := dk_90 (dk_at dksJ5_deleteEntry_5 18 rfl rfl)
theorem dJ5_deleteEntry_138 : decode cJ5_deleteEntry 138 = .ok (.putfield 124, 3) := dk_181 0 124 (dk_at dksJ5_deleteEntry_5 19 rfl rfl)
theorem dJ5_deleteEntry_141 : decode cJ5_deleteEntry 141 = .ok (.dup_x1, 1) := dk_90 (dk_at dksJ5_deleteEntry_5 22 rfl rfl)
theorem dJ5_deleteEntry_142 : decode cJ5_deleteEntry 142 = .ok (.putfield 114, 3) := dk_181 0 114 (dk_at dksJ5_deleteEntry_6 0 rfl rfl)
theorem dJ5_deleteEntry_145 : decode cJ5_deleteEntry 145 = .ok (.putfield 111, 3) := dk_181 0 111 (dk_at dksJ5_deleteEntry_6 3 rfl rfl)
theorem dJ5_deleteEntry_148 : decode cJ5_deleteEntry 148 = .ok (.aload_n 1, 1) := dk_43 (dk_at dksJ5_deleteEntry_6 6 rfl rfl)
theorem dJ5_deleteEntry_149 : decode cJ5_deleteEntry 149 = .ok (.getfield 290, 3) := dk_180 1 34 (dk_at dksJ5_deleteEntry_6 7 rfl rfl)
theorem dJ5_deleteEntry_152 : decode cJ5_deleteEntry 152 = .ok (.iconst 1, 1) := dk_4 (dk_at dksJ5_deleteEntry_6 10 rfl rfl)
theorem dJ5_deleteEntry_153 : decode cJ5_deleteEntry 153 = .ok (.if_icmp .ne 92, 3) := dk_160 0 92 (dk_at dksJ5_deleteEntry_6 11 rfl rfl)
theorem dJ5_deleteEntry_156 : decode cJ5_deleteEntry 156 = .ok (.aload_n 0, 1) := dk_42 (dk_at dksJ5_deleteEntry_6 14 rfl rfl)
theorem dJ5_deleteEntry_157 : decode cJ5_deleteEntry 157 = .ok (.aload_n 2, 1) := dk_44 (dk_at dksJ5_deleteEntry_6 15 rfl rfl)
theorem dJ5_deleteEntry_158 : decode cJ5_deleteEntry 158 = .ok (.invokevirtual 317, 3) := dk_182 1 61 (dk_at dksJ5_deleteEntry_6 16 rfl rfl)
theorem dJ5_deleteEntry_161 : decode cJ5_deleteEntry 161 = .ok (.goto 84, 3) := dk_167 0 84 (dk_at dksJ5_deleteEntry_6 19 rfl rfl)
theorem dJ5_deleteEntry_164 : decode cJ5_deleteEntry 164 = .ok (.aload_n 1, 1) := dk_43 (dk_at dksJ5_deleteEntry_6 22 rfl rfl)
theorem dJ5_deleteEntry_165 : decode cJ5_deleteEntry 165 = .ok (.getfield 124, 3) := dk_180 0 124 (dk_at dksJ5_deleteEntry_7 0 rfl rfl)
theorem dJ5_deleteEntry_168 : decode cJ5_deleteEntry 168 = .ok (.ifnonnull 11, 3) := dk_199 0 11 (dk_at dksJ5_deleteEntry_7 3 rfl rfl)
theorem dJ5_deleteEntry_171 : decode cJ5_deleteEntry 171 = .ok (.aload_n 0, 1) := dk_42 (dk_at dksJ5_deleteEntry_7 6 rfl rfl)
theorem dJ5_deleteEntry_172 : decode cJ5_deleteEntry 172 = .ok (.aconst_null, 1) := dk_1 (dk_at dksJ5_deleteEntry_7 7 rfl rfl)
theorem dJ5_deleteEntry_173 : decode cJ5_deleteEntry 173 = .ok (.putfield 101, 3) := dk_181 0 101 (dk_at dksJ5_deleteEntry_7 8 rfl rfl)
theorem dJ5_deleteEntry_176 : decode cJ5_deleteEntry 176 = .ok (.goto 69, 3) := dk_167 0 69 (dk_at dksJ5_deleteEntry_7 11 rfl rfl)
theorem dJ5_deleteEntry_179 : decode cJ5_deleteEntry 179 = .ok (.aload_n 1, 1) := dk_43 (dk_at dksJ5_deleteEntry_7 14 rfl rfl)
theorem dJ5_deleteEntry_180 : decode cJ5_deleteEntry 180 = .ok (.getfield 290, 3) := dk_180 1 34 (dk_at dksJ5_deleteEntry_7 15 rfl rfl)
theorem dJ5_deleteEntry_183 : decode cJ5_deleteEntry 183 = .ok (.iconst 1, 1) := dk_4 (dk_at dksJ5_deleteEntry_7 18 rfl rfl)
theorem dJ5_deleteEntry_184 : decode cJ5_deleteEntry 184 = .ok (.if_icmp .ne 8, 3) := dk_160 0 8 (dk_at dksJ5_deleteEntry_7 19 rfl rfl)
theorem dJ5_deleteEntry_187 : decode cJ5_deleteEntry 187 = .ok (.aload_n 0, 1) := dk_42 (dk_at dksJ5_deleteEntry_7 22 rfl rfl)
theorem dJ5_deleteEntry_188 : decode cJ5_deleteEntry 188 = .ok (.aload_n 1, 1) := dk_43 (dk_at dksJ5_deleteEntry_7 23 rfl rfl)
theorem dJ5_deleteEntry_189 : decode cJ5_deleteEntry 189 = .ok (.invokevirtual 317, 3) := dk_182 1 61 (dk_at dksJ5_deleteEntry_8 0 rfl rfl)
theorem dJ5_deleteEntry_192 : decode cJ5_deleteEntry 192 = .ok (.aload_n 1, 1) := dk_43 (dk_at dksJ5_deleteEntry_8 3 rfl rfl)
theorem dJ5_deleteEntry_193 : decode cJ5_deleteEntry 193 = .ok (.getfield 124, 3) := dk_180 0 124 (dk_at dksJ5_deleteEntry_8 4 rfl rfl)
theorem dJ5_deleteEntry_196 : decode cJ5_deleteEntry 196 = .ok (.ifnull 49, 3) := dk_198 0 49 (dk_at dksJ5_deleteEntry_8 7 rfl rfl)
theorem dJ5_deleteEntry_199 : decode cJ5_deleteEntry 199 = .ok (.aload_n 1, 1) := dk_43 (dk_at dksJ5_deleteEntry_8 10 rfl rfl)
theorem dJ5_deleteEntry_200 : decode cJ5_deleteEntry 200 = .ok (.aload_n 1, 1) := dk_43 (dk_at dksJ5_deleteEntry_8 11 rfl rfl)
theorem dJ5_deleteEntry_201 : decode cJ5_deleteEntry 201 = .ok (.getfield 124, 3) := dk_180 0 124 (dk_at dksJ5_deleteEntry_8 12 rfl rfl)
theorem dJ5_deleteEntry_204 : decode cJ5_deleteEntry 204 = .ok (.getfield 111, 3) := dk_180 0 111 (dk_at dksJ5_deleteEntry_8 15 rfl rfl)
theorem dJ5_deleteEntry_207 : decode cJ5_deleteEntry 207 = .ok (.if_acmp .ne 14, 3) := dk_166 0 14 (dk_at dksJ5_deleteEntry_8 18 rfl rfl)
theorem dJ5_deleteEntry_210 : decode cJ5_deleteEntry 210 = .ok (.aload_n 1, 1) := dk_43 (dk_at dksJ5_deleteEntry_8 21 rfl rfl)
theorem dJ5_deleteEntry_211 : decode cJ5_deleteEntry 211 = .ok (.getfield 124, 3) := dk_180 0 124 (dk_at dksJ5_deleteEntry_9 0 rfl rfl)
theorem dJ5_deleteEntry_214 : decode cJ5_deleteEntry 214 = .ok (.aconst_null, 1) := dk_1 (dk_at dksJ5_deleteEntry_9 3 rfl rfl)
theorem dJ5_deleteEntry_215 : decode cJ5_deleteEntry 215 = .ok (.putfield 111, 3) := dk_181 0 111 (dk_at dksJ5_deleteEntry_9 4 rfl rfl)
theorem dJ5_deleteEntry_218 : decode cJ5_deleteEntry 218 = .ok (.goto 22, 3) := dk_167 0 22 (dk_at dksJ5_deleteEntry_9 7 rfl rfl)
theorem dJ5_deleteEntry_221 : decode cJ5_deleteEntry 221 = .ok (.aload_n 1, 1) := dk_43 (dk_at dksJ5_deleteEntry_9 10 rfl rfl)
theorem dJ5_deleteEntry_222 : decode cJ5_deleteEntry 222 = .ok (.aload_n 1, 1) := dk_43 (dk_at dksJ5_deleteEntry_9 11 rfl rfl)
theorem dJ5_deleteEntry_223 : decode cJ5_deleteEntry 223 = .ok (.getfield 124, 3) := dk_180 0 124 (dk_at dksJ5_deleteEntry_9 12 rfl rfl)
theorem dJ5_deleteEntry_226 : decode cJ5_deleteEntry 226 = .ok (.getfield 114, 3) := dk_180 0 114 (dk_at dksJ5_deleteEntry_9 15 rfl rfl)
theorem dJ5_deleteEntry_229 : decode cJ5_deleteEntry 229 = .ok (.if_acmp .ne 11, 3) := dk_166 0 11 (dk_at dksJ5_deleteEntry_9 18 rfl rfl)
theorem dJ5_deleteEntry_232 : decode cJ5_deleteEntry 232 = .ok (.aload_n 1, 1) := dk_43 (dk_at dksJ5_deleteEntry_9 21 rfl rfl)
theorem dJ5_deleteEntry_233 : decode cJ5_deleteEntry 233 = .ok (.getfield 124, 3) := dk_180 0 124 (dk_at dksJ5_deleteEntry_10 0 rfl rfl)
theorem dJ5_deleteEntry_236 : decode cJ5_deleteEntry 236 = .ok (.aconst_null, 1) := dk_1 (dk_at dksJ5_deleteEntry_10 3 rfl rfl)
theorem dJ5_deleteEntry_237 : decode cJ5_deleteEntry 237 = .ok (.putfield 114, 3) := dk_181 0 114 (dk_at dksJ5_deleteEntry_10 4 rfl rfl)
theorem dJ5_deleteEntry_240 : decode cJ5_deleteEntry 240 = .ok (.aload_n 1, 1) := dk_43 (dk_at dksJ5_deleteEntry_10 7 rfl rfl)
theorem dJ5_deleteEntry_241 : decode cJ5_deleteEntry 241 = .ok (.aconst_null, 1) := dk_1 (dk_at dksJ5_deleteEntry_10 8 rfl rfl)
theorem dJ5_deleteEntry_242 : decode cJ5_deleteEntry 242 = .ok (.putfield 124, 3) := dk_181 0 124 (dk_at dksJ5_deleteEntry_10 9 rfl rfl)
theorem dJ5_deleteEntry_245 : decode cJ5_deleteEntry 245 = .ok (.return_, 1) := dk_177 (dk_at dksJ5_deleteEntry_10 12 rfl rfl)
abbrev cJ5_successor : ByteArray := prog_65_method_74_code
def yJ5_successor : MethodName := ⟨RJ5, "successor", "(Ljava/util/TreeMap$Entry;)Ljava/util/TreeMap$Entry;"⟩
def dkwJ5_successor_2 : List UInt8 := [44, 43, 180, 0, 114, 166, 0, 13, 43, 77, 43, 180, 0, 124, 76, 167, 255, 237, 43, 176]
abbrev dktJ5_successor_2 : List UInt8 := dkwJ5_successor_2 ++ []
def dkwJ5_successor_1 : List UInt8 := [198, 0, 11, 43, 180, 0, 111, 76, 167, 255, 244, 43, 176, 42, 180, 0, 124, 76, 42, 77, 43, 198, 0, 21]
abbrev dktJ5_successor_1 : List UInt8 := dkwJ5_successor_1 ++ dktJ5_successor_2
def dkwJ5_successor_0 : List UInt8 := [42, 199, 0, 5, 1, 176, 42, 180, 0, 114, 198, 0, 25, 42, 180, 0, 114, 76, 43, 180, 0, 111]
abbrev dktJ5_successor_0 : List UInt8 := dkwJ5_successor_0 ++ dktJ5_successor_1
theorem dksJ5_successor_0 : cJ5_successor.data.toList.drop 0 = dktJ5_successor_0 := by decide +kernel
theorem dksJ5_successor_1 : cJ5_successor.data.toList.drop 22 = dktJ5_successor_1 := dk_seg dksJ5_successor_0 22 rfl rfl
theorem dksJ5_successor_2 : cJ5_successor.data.toList.drop 46 = dktJ5_successor_2 := dk_seg dksJ5_successor_1 24 rfl rfl
theorem dJ5_successor_0 : decode cJ5_successor 0 = .ok (.aload_n 0, 1) := dk_42 (dk_at dksJ5_successor_0 0 rfl rfl)
theorem dJ5_successor_1 : decode cJ5_successor 1 = .ok (.ifnonnull 5, 3) := dk_199 0 5 (dk_at dksJ5_successor_0 1 rfl rfl)
theorem dJ5_successor_4 : decode cJ5_successor 4 = .ok (.aconst_null, 1) := dk_1 (dk_at dksJ5_successor_0 4 rfl rfl)
theorem dJ5_successor_5 : decode cJ5_successor 5 = .ok (.areturn, 1) := dk_176 (dk_at dksJ5_successor_0 5 rfl rfl)
theorem dJ5_successor_6 : decode cJ5_successor 6 = .ok (.aload_n 0, 1) := dk_42 (dk_at dksJ5_successor_0 6 rfl rfl)
theorem dJ5_successor_7 : decode cJ5_successor 7 = .ok (.getfield 114, 3) := dk_180 0 114 (dk_at dksJ5_successor_0 7 rfl rfl)
theorem dJ5_successor_10 : decode cJ5_successor 10 = .ok (.ifnull 25, 3) := dk_198 0 25 (dk_at dksJ5_successor_0 10 rfl rfl)
theorem dJ5_successor_13 : decode cJ5_successor 13 = .ok (.aload_n 0, 1) := dk_42 (dk_at dksJ5_successor_0 13 rfl rfl)
theorem dJ5_successor_14 : decode cJ5_successor 14 = .ok (.getfield 114, 3) := dk_180 0 114 (dk_at dksJ5_successor_0 14 rfl rfl)
theorem dJ5_successor_17 : decode cJ5_successor 17 = .ok (.astore_n 1, 1) := dk_76 (dk_at dksJ5_successor_0 17 rfl rfl)
theorem dJ5_successor_18 : decode cJ5_successor 18 = .ok (.aload_n 1, 1) := dk_43 (dk_at dksJ5_successor_0 18 rfl rfl)
theorem dJ5_successor_19 : decode cJ5_successor 19 = .ok (.getfield 111, 3) := dk_180 0 111 (dk_at dksJ5_successor_0 19 rfl rfl)
theorem dJ5_successor_22 : decode cJ5_successor 22 = .ok (.ifnull 11, 3) := dk_198 0 11 (dk_at dksJ5_successor_1 0 rfl rfl)
theorem dJ5_successor_25 : decode cJ5_successor 25 = .ok (.aload_n 1, 1) := dk_43 (dk_at dksJ5_successor_1 3 rfl rfl)
theorem dJ5_successor_26 : decode cJ5_successor 26 = .ok (.getfield 111, 3) := dk_180 0 111 (dk_at dksJ5_successor_1 4 rfl rfl)
theorem dJ5_successor_29 : decode cJ5_successor 29 = .ok (.astore_n 1, 1) := dk_76 (dk_at dksJ5_successor_1 7 rfl rfl)
theorem dJ5_successor_30 : decode cJ5_successor 30 = .ok (.goto (-12), 3) := dk_167 255 244 (dk_at dksJ5_successor_1 8 rfl rfl)
theorem dJ5_successor_33 : decode cJ5_successor 33 = .ok (.aload_n 1, 1) := dk_43 (dk_at dksJ5_successor_1 11 rfl rfl)
theorem dJ5_successor_34 : decode cJ5_successor 34 = .ok (.areturn, 1) := dk_176 (dk_at dksJ5_successor_1 12 rfl rfl)
theorem dJ5_successor_35 : decode cJ5_successor 35 = .ok (.aload_n 0, 1) := dk_42 (dk_at dksJ5_successor_1 13 rfl rfl)
theorem dJ5_successor_36 : decode cJ5_successor 36 = .ok (.getfield 124, 3) := dk_180 0 124 (dk_at dksJ5_successor_1 14 rfl rfl)
theorem dJ5_successor_39 : decode cJ5_successor 39 = .ok (.astore_n 1, 1) := dk_76 (dk_at dksJ5_successor_1 17 rfl rfl)
theorem dJ5_successor_40 : decode cJ5_successor 40 = .ok (.aload_n 0, 1) := dk_42 (dk_at dksJ5_successor_1 18 rfl rfl)
theorem dJ5_successor_41 : decode cJ5_successor 41 = .ok (.astore_n 2, 1) := dk_77 (dk_at dksJ5_successor_1 19 rfl rfl)
theorem dJ5_successor_42 : decode cJ5_successor 42 = .ok (.aload_n 1, 1) := dk_43 (dk_at dksJ5_successor_1 20 rfl rfl)
theorem dJ5_successor_43 : decode cJ5_successor 43 = .ok (.ifnull 21, 3) := dk_198 0 21 (dk_at dksJ5_successor_1 21 rfl rfl)
theorem dJ5_successor_46 : decode cJ5_successor 46 = .ok (.aload_n 2, 1) := dk_44 (dk_at dksJ5_successor_2 0 rfl rfl)
theorem dJ5_successor_47 : decode cJ5_successor 47 = .ok (.aload_n 1, 1) := dk_43 (dk_at dksJ5_successor_2 1 rfl rfl)
theorem dJ5_successor_48 : decode cJ5_successor 48 = .ok (.getfield 114, 3) := dk_180 0 114 (dk_at dksJ5_successor_2 2 rfl rfl)
theorem dJ5_successor_51 : decode cJ5_successor 51 = .ok (.if_acmp .ne 13, 3) := dk_166 0 13 (dk_at dksJ5_successor_2 5 rfl rfl)
theorem dJ5_successor_54 : decode cJ5_successor 54 = .ok (.aload_n 1, 1) := dk_43 (dk_at dksJ5_successor_2 8 rfl rfl)
theorem dJ5_successor_55 : decode cJ5_successor 55 = .ok (.astore_n 2, 1) := dk_77 (dk_at dksJ5_successor_2 9 rfl rfl)
theorem dJ5_successor_56 : decode cJ5_successor 56 = .ok (.aload_n 1, 1) := dk_43 (dk_at dksJ5_successor_2 10 rfl rfl)
theorem dJ5_successor_57 : decode cJ5_successor 57 = .ok (.getfield 124, 3) := dk_180 0 124 (dk_at dksJ5_successor_2 11 rfl rfl)
theorem dJ5_successor_60 : decode cJ5_successor 60 = .ok (.astore_n 1, 1) := dk_76 (dk_at dksJ5_successor_2 14 rfl rfl)
theorem dJ5_successor_61 : decode cJ5_successor 61 = .ok (.goto (-19), 3) := dk_167 255 237 (dk_at dksJ5_successor_2 15 rfl rfl)
theorem dJ5_successor_64 : decode cJ5_successor 64 = .ok (.aload_n 1, 1) := dk_43 (dk_at dksJ5_successor_2 18 rfl rfl)
theorem dJ5_successor_65 : decode cJ5_successor 65 = .ok (.areturn, 1) := dk_176 (dk_at dksJ5_successor_2 19 rfl rfl)
abbrev cJ5_fixAfterDeletion : ByteArray := prog_65_method_85_code
def yJ5_fixAfterDeletion : MethodName := ⟨RJ5, "fixAfterDeletion", "(Ljava/util/TreeMap$Entry;)V"⟩
def dkwJ5_fixAfterDeletion_14 : List UInt8 := [182, 1, 58, 42, 180, 0, 101, 76, 167, 254, 170, 43, 4, 184, 1, 51, 177]
abbrev dktJ5_fixAfterDeletion_14 : List UInt8 := dkwJ5_fixAfterDeletion_14 ++ []
def dkwJ5_fixAfterDeletion_13 : List UInt8 := [184, 1, 51, 43, 184, 1, 38, 4, 184, 1, 51, 44, 184, 1, 41, 4, 184, 1, 51, 42, 43, 184, 1, 38]
abbrev dktJ5_fixAfterDeletion_13 : List UInt8 := dkwJ5_fixAfterDeletion_13 ++ dktJ5_fixAfterDeletion_14
def dkwJ5_fixAfterDeletion_12 : List UInt8 := [184, 1, 51, 42, 44, 182, 1, 55, 43, 184, 1, 38, 184, 1, 41, 77, 44, 43, 184, 1, 38, 184, 1, 47]
abbrev dktJ5_fixAfterDeletion_12 : List UInt8 := dkwJ5_fixAfterDeletion_12 ++ dktJ5_fixAfterDeletion_13
def dkwJ5_fixAfterDeletion_11 : List UInt8 := [167, 0, 80, 44, 184, 1, 41, 184, 1, 47, 4, 160, 0, 29, 44, 184, 1, 44, 4, 184, 1, 51, 44, 3]
abbrev dktJ5_fixAfterDeletion_11 : List UInt8 := dkwJ5_fixAfterDeletion_11 ++ dktJ5_fixAfterDeletion_12
def dkwJ5_fixAfterDeletion_10 : List UInt8 := [160, 0, 27, 44, 184, 1, 41, 184, 1, 47, 4, 160, 0, 16, 44, 3, 184, 1, 51, 43, 184, 1, 38, 76]
abbrev dktJ5_fixAfterDeletion_10 : List UInt8 := dkwJ5_fixAfterDeletion_10 ++ dktJ5_fixAfterDeletion_11
def dkwJ5_fixAfterDeletion_9 : List UInt8 := [42, 43, 184, 1, 38, 182, 1, 58, 43, 184, 1, 38, 184, 1, 41, 77, 44, 184, 1, 44, 184, 1, 47, 4]
abbrev dktJ5_fixAfterDeletion_9 : List UInt8 := dkwJ5_fixAfterDeletion_9 ++ dktJ5_fixAfterDeletion_10
def dkwJ5_fixAfterDeletion_8 : List UInt8 := [184, 1, 41, 77, 44, 184, 1, 47, 154, 0, 32, 44, 4, 184, 1, 51, 43, 184, 1, 38, 3, 184, 1, 51]
abbrev dktJ5_fixAfterDeletion_8 : List UInt8 := dkwJ5_fixAfterDeletion_8 ++ dktJ5_fixAfterDeletion_9
def dkwJ5_fixAfterDeletion_7 : List UInt8 := [4, 184, 1, 51, 42, 43, 184, 1, 38, 182, 1, 55, 42, 180, 0, 101, 76, 167, 255, 73, 43, 184, 1, 38]
abbrev dktJ5_fixAfterDeletion_7 : List UInt8 := dkwJ5_fixAfterDeletion_7 ++ dktJ5_fixAfterDeletion_8
def dkwJ5_fixAfterDeletion_6 : List UInt8 := [77, 44, 43, 184, 1, 38, 184, 1, 47, 184, 1, 51, 43, 184, 1, 38, 4, 184, 1, 51, 44, 184, 1, 44]
abbrev dktJ5_fixAfterDeletion_6 : List UInt8 := dkwJ5_fixAfterDeletion_6 ++ dktJ5_fixAfterDeletion_7
def dkwJ5_fixAfterDeletion_5 : List UInt8 := [184, 1, 41, 4, 184, 1, 51, 44, 3, 184, 1, 51, 42, 44, 182, 1, 58, 43, 184, 1, 38, 184, 1, 44]
abbrev dktJ5_fixAfterDeletion_5 : List UInt8 := dkwJ5_fixAfterDeletion_5 ++ dktJ5_fixAfterDeletion_6
def dkwJ5_fixAfterDeletion_4 : List UInt8 := [184, 1, 51, 43, 184, 1, 38, 76, 167, 0, 80, 44, 184, 1, 44, 184, 1, 47, 4, 160, 0, 29, 44]
abbrev dktJ5_fixAfterDeletion_4 : List UInt8 := dkwJ5_fixAfterDeletion_4 ++ dktJ5_fixAfterDeletion_5
def dkwJ5_fixAfterDeletion_3 : List UInt8 := [184, 1, 41, 184, 1, 47, 4, 160, 0, 27, 44, 184, 1, 44, 184, 1, 47, 4, 160, 0, 16, 44, 3]
abbrev dktJ5_fixAfterDeletion_3 : List UInt8 := dkwJ5_fixAfterDeletion_3 ++ dktJ5_fixAfterDeletion_4
def dkwJ5_fixAfterDeletion_2 : List UInt8 := [184, 1, 38, 3, 184, 1, 51, 42, 43, 184, 1, 38, 182, 1, 55, 43, 184, 1, 38, 184, 1, 44, 77, 44]
abbrev dktJ5_fixAfterDeletion_2 : List UInt8 := dkwJ5_fixAfterDeletion_2 ++ dktJ5_fixAfterDeletion_3
def dkwJ5_fixAfterDeletion_1 : List UInt8 := [166, 0, 162, 43, 184, 1, 38, 184, 1, 44, 77, 44, 184, 1, 47, 154, 0, 32, 44, 4, 184, 1, 51, 43]
abbrev dktJ5_fixAfterDeletion_1 : List UInt8 := dkwJ5_fixAfterDeletion_1 ++ dktJ5_fixAfterDeletion_2
def dkwJ5_fixAfterDeletion_0 : List UInt8 := [43, 42, 180, 0, 101, 165, 1, 84, 43, 184, 1, 47, 4, 160, 1, 76, 43, 43, 184, 1, 38, 184, 1, 41]
abbrev dktJ5_fixAfterDeletion_0 : List UInt8 := dkwJ5_fixAfterDeletion_0 ++ dktJ5_fixAfterDeletion_1
theorem dksJ5_fixAfterDeletion_0 : cJ5_fixAfterDeletion.data.toList.drop 0 = dktJ5_fixAfterDeletion_0 := by decide +kernel
theorem dksJ5_fixAfterDeletion_1 : cJ5_fixAfterDeletion.data.toList.drop 24 = dktJ5_fixAfterDeletion_1 := dk_seg dksJ5_fixAfterDeletion_0 24 rfl rfl
theorem dksJ5_fixAfterDeletion_2 : cJ5_fixAfterDeletion.data.toList.drop 48 = dktJ5_fixAfterDeletion_2 := dk_seg dksJ5_fixAfterDeletion_1 24 rfl rfl
theorem dksJ5_fixAfterDeletion_3 : cJ5_fixAfterDeletion.data.toList.drop 72 = dktJ5_fixAfterDeletion_3 := dk_seg dksJ5_fixAfterDeletion_2 24 rfl rfl
theorem dksJ5_fixAfterDeletion_4 : cJ5_fixAfterDeletion.data.toList.drop 95 = dktJ5_fixAfterDeletion_4 := dk_seg dksJ5_fixAfterDeletion_3 23 rfl rfl
theorem dksJ5_fixAfterDeletion_5 : cJ5_fixAfterDeletion.data.toList.drop 118 = dktJ5_fixAfterDeletion_5 := dk_seg dksJ5_fixAfterDeletion_4 23 rfl rfl
theorem dksJ5_fixAfterDeletion_6 : cJ5_fixAfterDeletion.data.toList.drop 142 = dktJ5_fixAfterDeletion_6 := dk_seg dksJ5_fixAfterDeletion_5 24 rfl rfl
theorem dksJ5_fixAfterDeletion_7 : cJ5_fixAfterDeletion.data.toList.drop 166 = dktJ5_fixAfterDeletion_7 := dk_seg dksJ5_fixAfterDeletion_6 24 rfl rfl
theorem dksJ5_fixAfterDeletion_8 : cJ5_fixAfterDeletion.data.toList.drop 190 = dktJ5_fixAfterDeletion_8 := dk_seg dksJ5_fixAfterDeletion_7 24 rfl rfl
theorem dksJ5_fixAfterDeletion_9 : cJ5_fixAfterDeletion.data.toList.drop 214 = dktJ5_fixAfterDeletion_9 := dk_seg dksJ5_fixAfterDeletion_8 24 rfl rfl
theorem dksJ5_fixAfterDeletion_10 : cJ5_fixAfterDeletion.data.toList.drop 238 = dktJ5_fixAfterDeletion_10 := dk_seg dksJ5_fixAfterDeletion_9 24 rfl rfl
theorem dksJ5_fixAfterDeletion_11 : cJ5_fixAfterDeletion.data.toList.drop 262 = dktJ5_fixAfterDeletion_11 := dk_seg dksJ5_fixAfterDeletion_10 24 rfl rfl
theorem dksJ5_fixAfterDeletion_12 : cJ5_fixAfterDeletion.data.toList.drop 286 = dktJ5_fixAfterDeletion_12 := dk_seg dksJ5_fixAfterDeletion_11 24 rfl rfl
theorem dksJ5_fixAfterDeletion_13 : cJ5_fixAfterDeletion.data.toList.drop 310 = dktJ5_fixAfterDeletion_13 := dk_seg dksJ5_fixAfterDeletion_12 24 rfl rfl
theorem dksJ5_fixAfterDeletion_14 : cJ5_fixAfterDeletion.data.toList.drop 334 = dktJ5_fixAfterDeletion_14 := dk_seg dksJ5_fixAfterDeletion_13 24 rfl rfl
theorem dJ5_fixAfterDeletion_0 : decode cJ5_fixAfterDeletion 0 = .ok (.aload_n 1, 1) := dk_43 (dk_at dksJ5_fixAfterDeletion_0 0 rfl rfl)
theorem dJ5_fixAfterDeletion_1 : decode cJ5_fixAfterDeletion 1 = .ok (.aload_n 0, 1) := dk_42 (dk_at dksJ5_fixAfterDeletion_0 1 rfl rfl)
theorem dJ5_fixAfterDeletion_2 : decode cJ5_fixAfterDeletion 2 = .ok (.getfield 101, 3) := dk_180 0 101 (dk_at dksJ5_fixAfterDeletion_0 2 rfl rfl)
theorem dJ5_fixAfterDeletion_5 : decode cJ5_fixAfterDeletion 5 = .ok (.if_acmp .eq 340, 3) := dk_165 1 84 (dk_at dksJ5_fixAfterDeletion_0 5 rfl rfl)
theorem dJ5_fixAfterDeletion_8 : decode cJ5_fixAfterDeletion 8 = .ok (.aload_n 1, 1) := dk_43 (dk_at dksJ5_fixAfterDeletion_0 8 rfl rfl)
theorem dJ5_fixAfterDeletion_9 : decode cJ5_fixAfterDeletion 9 = .ok (.invokestatic 303, 3) := dk_184 1 47 (dk_at dksJ5_fixAfterDeletion_0 9 rfl rfl)
theorem dJ5_fixAfterDeletion_12 : decode cJ5_fixAfterDeletion 12 = .ok (.iconst 1, 1) := dk_4 (dk_at dksJ5_fixAfterDeletion_0 12 rfl rfl)
theorem dJ5_fixAfterDeletion_13 : decode cJ5_fixAfterDeletion 13 = .ok (.if_icmp .ne 332, 3) := dk_160 1 76 (dk_at dksJ5_fixAfterDeletion_0 13 rfl rfl)
theorem dJ5_fixAfterDeletion_16 : decode cJ5_fixAfterDeletion 16 = .ok (.aload_n 1, 1) := dk_43 (dk_at dksJ5_fixAfterDeletion_0 16 rfl rfl)
theorem dJ5_fixAfterDeletion_17 : decode cJ5_fixAfterDeletion 17 = .ok (.aload_n 1, 1) := dk_43 (dk_at dksJ5_fixAfterDeletion_0 17 rfl rfl)
theorem dJ5_fixAfterDeletion_18 : decode cJ5_fixAfterDeletion 18 = .ok (.invokestatic 294, 3) := dk_184 1 38 (dk_at dksJ5_fixAfterDeletion_0 18 rfl rfl)
theorem dJ5_fixAfterDeletion_21 : decode cJ5_fixAfterDeletion 21 = .ok (.invokestatic 297, 3) := dk_184 1 41 (dk_at dksJ5_fixAfterDeletion_0 21 rfl rfl)
theorem dJ5_fixAfterDeletion_24 : decode cJ5_fixAfterDeletion 24 = .ok (.if_acmp .ne 162, 3) := dk_166 0 162 (dk_at dksJ5_fixAfterDeletion_1 0 rfl rfl)
theorem dJ5_fixAfterDeletion_27 : decode cJ5_fixAfterDeletion 27 = .ok (.aload_n 1, 1) := dk_43 (dk_at dksJ5_fixAfterDeletion_1 3 rfl rfl)
theorem dJ5_fixAfterDeletion_28 : decode cJ5_fixAfterDeletion 28 = .ok (.invokestatic 294, 3) := dk_184 1 38 (dk_at dksJ5_fixAfterDeletion_1 4 rfl rfl)
theorem dJ5_fixAfterDeletion_31 : decode cJ5_fixAfterDeletion 31 = .ok (.invokestatic 300, 3) := dk_184 1 44 (dk_at dksJ5_fixAfterDeletion_1 7 rfl rfl)
theorem dJ5_fixAfterDeletion_34 : decode cJ5_fixAfterDeletion 34 = .ok (.astore_n 2, 1) := dk_77 (dk_at dksJ5_fixAfterDeletion_1 10 rfl rfl)
theorem dJ5_fixAfterDeletion_35 : decode cJ5_fixAfterDeletion 35 = .ok (.aload_n 2, 1) := dk_44 (dk_at dksJ5_fixAfterDeletion_1 11 rfl rfl)
theorem dJ5_fixAfterDeletion_36 : decode cJ5_fixAfterDeletion 36 = .ok (.invokestatic 303, 3) := dk_184 1 47 (dk_at dksJ5_fixAfterDeletion_1 12 rfl rfl)
theorem dJ5_fixAfterDeletion_39 : decode cJ5_fixAfterDeletion 39 = .ok (.ifCond .ne 32, 3) := dk_154 0 32 (dk_at dksJ5_fixAfterDeletion_1 15 rfl rfl)
theorem dJ5_fixAfterDeletion_42 : decode cJ5_fixAfterDeletion 42 = .ok (.aload_n 2, 1) := dk_44 (dk_at dksJ5_fixAfterDeletion_1 18 rfl rfl)
theorem dJ5_fixAfterDeletion_43 : decode cJ5_fixAfterDeletion 43 = .ok (.iconst 1, 1) := dk_4 (dk_at dksJ5_fixAfterDeletion_1 19 rfl rfl)
theorem dJ5_fixAfterDeletion_44 : decode cJ5_fixAfterDeletion 44 = .ok (.invokestatic 307, 3) := dk_184 1 51 (dk_at dksJ5_fixAfterDeletion_1 20 rfl rfl)
theorem dJ5_fixAfterDeletion_47 : decode cJ5_fixAfterDeletion 47 = .ok (.aload_n 1, 1) := dk_43 (dk_at dksJ5_fixAfterDeletion_1 23 rfl rfl)
theorem dJ5_fixAfterDeletion_48 : decode cJ5_fixAfterDeletion 48 = .ok (.invokestatic 294, 3) := dk_184 1 38 (dk_at dksJ5_fixAfterDeletion_2 0 rfl rfl)
theorem dJ5_fixAfterDeletion_51 : decode cJ5_fixAfterDeletion 51 = .ok (.iconst 0, 1) := dk_3 (dk_at dksJ5_fixAfterDeletion_2 3 rfl rfl)
theorem dJ5_fixAfterDeletion_52 : decode cJ5_fixAfterDeletion 52 = .ok (.invokestatic 307, 3) := dk_184 1 51 (dk_at dksJ5_fixAfterDeletion_2 4 rfl rfl)
theorem dJ5_fixAfterDeletion_55 : decode cJ5_fixAfterDeletion 55 = .ok (.aload_n 0, 1) := dk_42 (dk_at dksJ5_fixAfterDeletion_2 7 rfl rfl)
theorem dJ5_fixAfterDeletion_56 : decode cJ5_fixAfterDeletion 56 = .ok (.aload_n 1, 1) := dk_43 (dk_at dksJ5_fixAfterDeletion_2 8 rfl rfl)
theorem dJ5_fixAfterDeletion_57 : decode cJ5_fixAfterDeletion 57 = .ok (.invokestatic 294, 3) := dk_184 1 38 (dk_at dksJ5_fixAfterDeletion_2 9 rfl rfl)
theorem dJ5_fixAfterDeletion_60 : decode cJ5_fixAfterDeletion 60 = .ok (.invokevirtual 311, 3) := dk_182 1 55 (dk_at dksJ5_fixAfterDeletion_2 12 rfl rfl)
theorem dJ5_fixAfterDeletion_63 : decode cJ5_fixAfterDeletion 63 = .ok (.aload_n 1, 1) := dk_43 (dk_at dksJ5_fixAfterDeletion_2 15 rfl rfl)
theorem dJ5_fixAfterDeletion_64 : decode cJ5_fixAfterDeletion 64 = .ok (.invokestatic 294, 3) := dk_184 1 38 (dk_at dksJ5_fixAfterDeletion_2 16 rfl rfl)
theorem dJ5_fixAfterDeletion_67 : decode cJ5_fixAfterDeletion 67 = .ok (.invokestatic 300, 3) := dk_184 1 44 (dk_at dksJ5_fixAfterDeletion_2 19 rfl rfl)
theorem dJ5_fixAfterDeletion_70 : decode cJ5_fixAfterDeletion 70 = .ok (.astore_n 2, 1) := dk_77 (dk_at dksJ5_fixAfterDeletion_2 22 rfl rfl)
theorem dJ5_fixAfterDeletion_71 : decode cJ5_fixAfterDeletion 71 = .ok (.aload_n 2, 1) := dk_44 (dk_at dksJ5_fixAfterDeletion_2 23 rfl rfl)
theorem dJ5_fixAfterDeletion_72 : decode cJ5_fixAfterDeletion 72 = .ok (.invokestatic 297, 3) := dk_184 1 41 (dk_at dksJ5_fixAfterDeletion_3 0 rfl rfl)
theorem dJ5_fixAfterDeletion_75 : decode cJ5_fixAfterDeletion 75 = .ok (.invokestatic 303, 3) := dk_184 1 47 (dk_at dksJ5_fixAfterDeletion_3 3 rfl rfl)
theorem dJ5_fixAfterDeletion_78 : decode cJ5_fixAfterDeletion 78 = .ok (.iconst 1, 1) := dk_4 (dk_at dksJ5_fixAfterDeletion_3 6 rfl rfl)
theorem dJ5_fixAfterDeletion_79 : decode cJ5_fixAfterDeletion 79 = .ok (.if_icmp .ne 27, 3) := dk_160 0 27 (dk_at dksJ5_fixAfterDeletion_3 7 rfl rfl)
theorem dJ5_fixAfterDeletion_82 : decode cJ5_fixAfterDeletion 82 = .ok (.aload_n 2, 1) := dk_44 (dk_at dksJ5_fixAfterDeletion_3 10 rfl rfl)
theorem dJ5_fixAfterDeletion_83 : decode cJ5_fixAfterDeletion 83 = .ok (.invokestatic 300, 3) := dk_184 1 44 (dk_at dksJ5_fixAfterDeletion_3 11 rfl rfl)
theorem dJ5_fixAfterDeletion_86 : decode cJ5_fixAfterDeletion 86 = .ok (.invokestatic 303, 3) := dk_184 1 47 (dk_at dksJ5_fixAfterDeletion_3 14 rfl rfl)
theorem dJ5_fixAfterDeletion_89 : decode cJ5_fixAfterDeletion 89 = .ok (.iconst 1, 1) := dk_4 (dk_at dksJ5_fixAfterDeletion_3 17 rfl rfl)
theorem dJ5_fixAfterDeletion_90 : decode cJ5_fixAfterDeletion 90 = .ok (.if_icmp .ne 16, 3) := dk_160 0 16 (dk_at dksJ5_fixAfterDeletion_3 18 rfl rfl)
theorem dJ5_fixAfterDeletion_93 : decode cJ5_fixAfterDeletion 93 = .ok (.aload_n 2, 1) := dk_44 (dk_at dksJ5_fixAfterDeletion_3 21 rfl rfl)
theorem dJ5_fixAfterDeletion_94 : decode cJ5_fixAfterDeletion 94 = .ok (.iconst 0, 1) := dk_3 (dk_at dksJ5_fixAfterDeletion_3 22 rfl rfl)
theorem dJ5_fixAfterDeletion_95 : decode cJ5_fixAfterDeletion 95 = .ok (.invokestatic 307, 3) := dk_184 1 51 (dk_at dksJ5_fixAfterDeletion_4 0 rfl rfl)
theorem dJ5_fixAfterDeletion_98 : decode cJ5_fixAfterDeletion 98 = .ok (.aload_n 1, 1) := dk_43 (dk_at dksJ5_fixAfterDeletion_4 3 rfl rfl)
theorem dJ5_fixAfterDeletion_99 : decode cJ5_fixAfterDeletion 99 = .ok (.invokestatic 294, 3) := dk_184 1 38 (dk_at dksJ5_fixAfterDeletion_4 4 rfl rfl)
theorem dJ5_fixAfterDeletion_102 : decode cJ5_fixAfterDeletion 102 = .ok (.astore_n 1, 1) := dk_76 (dk_at dksJ5_fixAfterDeletion_4 7 rfl rfl)
theorem dJ5_fixAfterDeletion_103 : decode cJ5_fixAfterDeletion 103 = .ok (.goto 80, 3) := dk_167 0 80 (dk_at dksJ5_fixAfterDeletion_4 8 rfl rfl)
theorem dJ5_fixAfterDeletion_106 : decode cJ5_fixAfterDeletion 106 = .ok (.aload_n 2, 1) := dk_44 (dk_at dksJ5_fixAfterDeletion_4 11 rfl rfl)
theorem dJ5_fixAfterDeletion_107 : decode cJ5_fixAfterDeletion 107 = .ok (.invokestatic 300, 3) := dk_184 1 44 (dk_at dksJ5_fixAfterDeletion_4 12 rfl rfl)
theorem dJ5_fixAfterDeletion_110 : decode cJ5_fixAfterDeletion 110 = .ok (.invokestatic 303, 3) := dk_184 1 47 (dk_at dksJ5_fixAfterDeletion_4 15 rfl rfl)
theorem dJ5_fixAfterDeletion_113 : decode cJ5_fixAfterDeletion 113 = .ok (.iconst 1, 1) := dk_4 (dk_at dksJ5_fixAfterDeletion_4 18 rfl rfl)
theorem dJ5_fixAfterDeletion_114 : decode cJ5_fixAfterDeletion 114 = .ok (.if_icmp .ne 29, 3) := dk_160 0 29 (dk_at dksJ5_fixAfterDeletion_4 19 rfl rfl)
theorem dJ5_fixAfterDeletion_117 : decode cJ5_fixAfterDeletion 117 = .ok (.aload_n 2, 1) := dk_44 (dk_at dksJ5_fixAfterDeletion_4 22 rfl rfl)
theorem dJ5_fixAfterDeletion_118 : decode cJ5_fixAfterDeletion 118 = .ok (.invokestatic 297, 3) := dk_184 1 41 (dk_at dksJ5_fixAfterDeletion_5 0 rfl rfl)
theorem dJ5_fixAfterDeletion_121 : decode cJ5_fixAfterDeletion 121 = .ok (.iconst 1, 1) := dk_4 (dk_at dksJ5_fixAfterDeletion_5 3 rfl rfl)
theorem dJ5_fixAfterDeletion_122 : decode cJ5_fixAfterDeletion 122 = .ok (.invokestatic 307, 3) := dk_184 1 51 (dk_at dksJ5_fixAfterDeletion_5 4 rfl rfl)
theorem dJ5_fixAfterDeletion_125 : decode cJ5_fixAfterDeletion 125 = .ok (.aload_n 2, 1) := dk_44 (dk_at dksJ5_fixAfterDeletion_5 7 rfl rfl)
theorem dJ5_fixAfterDeletion_126 : decode cJ5_fixAfterDeletion 126 = .ok (.iconst 0, 1) := dk_3 (dk_at dksJ5_fixAfterDeletion_5 8 rfl rfl)
theorem dJ5_fixAfterDeletion_127 : decode cJ5_fixAfterDeletion 127 = .ok (.invokestatic 307, 3) := dk_184 1 51 (dk_at dksJ5_fixAfterDeletion_5 9 rfl rfl)
theorem dJ5_fixAfterDeletion_130 : decode cJ5_fixAfterDeletion 130 = .ok (.aload_n 0, 1) := dk_42 (dk_at dksJ5_fixAfterDeletion_5 12 rfl rfl)
theorem dJ5_fixAfterDeletion_131 : decode cJ5_fixAfterDeletion 131 = .ok (.aload_n 2, 1) := dk_44 (dk_at dksJ5_fixAfterDeletion_5 13 rfl rfl)
theorem dJ5_fixAfterDeletion_132 : decode cJ5_fixAfterDeletion 132 = .ok (.invokevirtual 314, 3) := dk_182 1 58 (dk_at dksJ5_fixAfterDeletion_5 14 rfl rfl)
theorem dJ5_fixAfterDeletion_135 : decode cJ5_fixAfterDeletion 135 = .ok (.aload_n 1, 1) := dk_43 (dk_at dksJ5_fixAfterDeletion_5 17 rfl rfl)
theorem dJ5_fixAfterDeletion_136 : decode cJ5_fixAfterDeletion 136 = .ok (.invokestatic 294, 3) := dk_184 1 38 (dk_at dksJ5_fixAfterDeletion_5 18 rfl rfl)
theorem dJ5_fixAfterDeletion_139 : decode cJ5_fixAfterDeletion 139 = .ok (.invokestatic 300, 3) := dk_184 1 44 (dk_at dksJ5_fixAfterDeletion_5 21 rfl rfl)
theorem dJ5_fixAfterDeletion_142 : decode cJ5_fixAfterDeletion 142 = .ok (.astore_n 2, 1) := dk_77 (dk_at dksJ5_fixAfterDeletion_6 0 rfl rfl)
theorem dJ5_fixAfterDeletion_143 : decode cJ5_fixAfterDeletion 143 = .ok (.aload_n 2, 1) := dk_44 (dk_at dksJ5_fixAfterDeletion_6 1 rfl rfl)
theorem dJ5_fixAfterDeletion_144 : decode cJ5_fixAfterDeletion 144 = .ok (.aload_n 1, 1) := dk_43 (dk_at dksJ5_fixAfterDeletion_6 2 rfl rfl)
theorem dJ5_fixAfterDeletion_145 : decode cJ5_fixAfterDeletion 145 = .ok (.invokestatic 294, 3) := dk_184 1 38 (dk_at dksJ5_fixAfterDeletion_6 3 rfl rfl)
theorem dJ5_fixAfterDeletion_148 : decode cJ5_fixAfterDeletion 148 = .ok (.invokestatic 303, 3) := dk_184 1 47 (dk_at dksJ5_fixAfterDeletion_6 6 rfl rfl)
theorem dJ5_fixAfterDeletion_151 : decode cJ5_fixAfterDeletion 151 = .ok (.invokestatic 307, 3) := dk_184 1 51 (dk_at dksJ5_fixAfterDeletion_6 9 rfl rfl)
theorem dJ5_fixAfterDeletion_154 : decode cJ5_fixAfterDeletion 154 = .ok (.aload_n 1, 1) := dk_43 (dk_at dksJ5_fixAfterDeletion_6 12 rfl rfl)
theorem dJ5_fixAfterDeletion_155 : decode cJ5_fixAfterDeletion 155 = .ok (.invokestatic 294, 3) := dk_184 1 38 (dk_at dksJ5_fixAfterDeletion_6 13 rfl rfl)
theorem dJ5_fixAfterDeletion_158 : decode cJ5_fixAfterDeletion 158 = .ok (.iconst 1, 1) := dk_4 (dk_at dksJ5_fixAfterDeletion_6 16 rfl rfl)
theorem dJ5_fixAfterDeletion_159 : decode cJ5_fixAfterDeletion 159 = .ok (.invokestatic 307, 3) := dk_184 1 51 (dk_at dksJ5_fixAfterDeletion_6 17 rfl rfl)
theorem dJ5_fixAfterDeletion_162 : decode cJ5_fixAfterDeletion 162 = .ok (.aload_n 2, 1) := dk_44 (dk_at dksJ5_fixAfterDeletion_6 20 rfl rfl)
theorem dJ5_fixAfterDeletion_163 : decode cJ5_fixAfterDeletion 163 = .ok (.invokestatic 300, 3) := dk_184 1 44 (dk_at dksJ5_fixAfterDeletion_6 21 rfl rfl)
theorem dJ5_fixAfterDeletion_166 : decode cJ5_fixAfterDeletion 166 = .ok (.iconst 1, 1) := dk_4 (dk_at dksJ5_fixAfterDeletion_7 0 rfl rfl)
theorem dJ5_fixAfterDeletion_167 : decode cJ5_fixAfterDeletion 167 = .ok (.invokestatic 307, 3) := dk_184 1 51 (dk_at dksJ5_fixAfterDeletion_7 1 rfl rfl)
theorem dJ5_fixAfterDeletion_170 : decode cJ5_fixAfterDeletion 170 = .ok (.aload_n 0, 1) := dk_42 (dk_at dksJ5_fixAfterDeletion_7 4 rfl rfl)
theorem dJ5_fixAfterDeletion_171 : decode cJ5_fixAfterDeletion 171 = .ok (.aload_n 1, 1) := dk_43 (dk_at dksJ5_fixAfterDeletion_7 5 rfl rfl)
theorem dJ5_fixAfterDeletion_172 : decode cJ5_fixAfterDeletion 172 = .ok (.invokestatic 294, 3) := dk_184 1 38 (dk_at dksJ5_fixAfterDeletion_7 6 rfl rfl)
theorem dJ5_fixAfterDeletion_175 : decode cJ5_fixAfterDeletion 175 = .ok (.invokevirtual 311, 3) := dk_182 1 55 (dk_at dksJ5_fixAfterDeletion_7 9 rfl rfl)
theorem dJ5_fixAfterDeletion_178 : decode cJ5_fixAfterDeletion 178 = .ok (.aload_n 0, 1) := dk_42 (dk_at dksJ5_fixAfterDeletion_7 12 rfl rfl)
theorem dJ5_fixAfterDeletion_179 : decode cJ5_fixAfterDeletion 179 = .ok (.getfield 101, 3) := dk_180 0 101 (dk_at dksJ5_fixAfterDeletion_7 13 rfl rfl)
theorem dJ5_fixAfterDeletion_182 : decode cJ5_fixAfterDeletion 182 = .ok (.astore_n 1, 1) := dk_76 (dk_at dksJ5_fixAfterDeletion_7 16 rfl rfl)
theorem dJ5_fixAfterDeletion_183 : decode cJ5_fixAfterDeletion 183 = .ok (.goto (-183), 3) := dk_167 255 73 (dk_at dksJ5_fixAfterDeletion_7 17 rfl rfl)
theorem dJ5_fixAfterDeletion_186 : decode cJ5_fixAfterDeletion 186 = .ok (.aload_n 1, 1) := dk_43 (dk_at dksJ5_fixAfterDeletion_7 20 rfl rfl)
theorem dJ5_fixAfterDeletion_187 : decode cJ5_fixAfterDeletion 187 = .ok (.invokestatic 294, 3) := dk_184 1 38 (dk_at dksJ5_fixAfterDeletion_7 21 rfl rfl)
theorem dJ5_fixAfterDeletion_190 : decode cJ5_fixAfterDeletion 190 = .ok (.invokestatic 297, 3) := dk_184 1 41 (dk_at dksJ5_fixAfterDeletion_8 0 rfl rfl)
theorem dJ5_fixAfterDeletion_193 : decode cJ5_fixAfterDeletion 193 = .ok (.astore_n 2, 1) := dk_77 (dk_at dksJ5_fixAfterDeletion_8 3 rfl rfl)
theorem dJ5_fixAfterDeletion_194 : decode cJ5_fixAfterDeletion 194 = .ok (.aload_n 2, 1) := dk_44 (dk_at dksJ5_fixAfterDeletion_8 4 rfl rfl)
theorem dJ5_fixAfterDeletion_195 : decode cJ5_fixAfterDeletion 195 = .ok (.invokestatic 303, 3) := dk_184 1 47 (dk_at dksJ5_fixAfterDeletion_8 5 rfl rfl)
theorem dJ5_fixAfterDeletion_198 : decode cJ5_fixAfterDeletion 198 = .ok (.ifCond .ne 32, 3) := dk_154 0 32 (dk_at dksJ5_fixAfterDeletion_8 8 rfl rfl)
theorem dJ5_fixAfterDeletion_201 : decode cJ5_fixAfterDeletion 201 = .ok (.aload_n 2, 1) := dk_44 (dk_at dksJ5_fixAfterDeletion_8 11 rfl rfl)
theorem dJ5_fixAfterDeletion_202 : decode cJ5_fixAfterDeletion 202 = .ok (.iconst 1, 1) := dk_4 (dk_at dksJ5_fixAfterDeletion_8 12 rfl rfl)
theorem dJ5_fixAfterDeletion_203 : decode cJ5_fixAfterDeletion 203 = .ok (.invokestatic 307, 3) := dk_184 1 51 (dk_at dksJ5_fixAfterDeletion_8 13 rfl rfl)
theorem dJ5_fixAfterDeletion_206 : decode cJ5_fixAfterDeletion 206 = .ok (.aload_n 1, 1) := dk_43 (dk_at dksJ5_fixAfterDeletion_8 16 rfl rfl)
theorem dJ5_fixAfterDeletion_207 : decode cJ5_fixAfterDeletion 207 = .ok (.invokestatic 294, 3) := dk_184 1 38 (dk_at dksJ5_fixAfterDeletion_8 17 rfl rfl)
theorem dJ5_fixAfterDeletion_210 : decode cJ5_fixAfterDeletion 210 = .ok (.iconst 0, 1) := dk_3 (dk_at dksJ5_fixAfterDeletion_8 20 rfl rfl)
theorem dJ5_fixAfterDeletion_211 : decode cJ5_fixAfterDeletion 211 = .ok (.invokestatic 307, 3) := dk_184 1 51 (dk_at dksJ5_fixAfterDeletion_8 21 rfl rfl)
theorem dJ5_fixAfterDeletion_214 : decode cJ5_fixAfterDeletion 214 = .ok (.aload_n 0, 1) := dk_42 (dk_at dksJ5_fixAfterDeletion_9 0 rfl rfl)
theorem dJ5_fixAfterDeletion_215 : decode cJ5_fixAfterDeletion 215 = .ok (.aload_n 1, 1) := dk_43 (dk_at dksJ5_fixAfterDeletion_9 1 rfl rfl)
theorem dJ5_fixAfterDeletion_216 : decode cJ5_fixAfterDeletion 216 = .ok (.invokestatic 294, 3) := dk_184 1 38 (dk_at dksJ5_fixAfterDeletion_9 2 rfl rfl)
theorem dJ5_fixAfterDeletion_219 : decode cJ5_fixAfterDeletion 219 = .ok (.invokevirtual 314, 3) := dk_182 1 58 (dk_at dksJ5_fixAfterDeletion_9 5 rfl rfl)
theorem dJ5_fixAfterDeletion_222 : decode cJ5_fixAfterDeletion 222 = .ok (.aload_n 1, 1) := dk_43 (dk_at dksJ5_fixAfterDeletion_9 8 rfl rfl)
theorem dJ5_fixAfterDeletion_223 : decode cJ5_fixAfterDeletion 223 = .ok (.invokestatic 294, 3) := dk_184 1 38 (dk_at dksJ5_fixAfterDeletion_9 9 rfl rfl)
theorem dJ5_fixAfterDeletion_226 : decode cJ5_fixAfterDeletion 226 = .ok (.invokestatic 297, 3) := dk_184 1 41 (dk_at dksJ5_fixAfterDeletion_9 12 rfl rfl)
theorem dJ5_fixAfterDeletion_229 : decode cJ5_fixAfterDeletion 229 = .ok (.astore_n 2, 1) := dk_77 (dk_at dksJ5_fixAfterDeletion_9 15 rfl rfl)
theorem dJ5_fixAfterDeletion_230 : decode cJ5_fixAfterDeletion 230 = .ok (.aload_n 2, 1) := dk_44 (dk_at dksJ5_fixAfterDeletion_9 16 rfl rfl)
theorem dJ5_fixAfterDeletion_231 : decode cJ5_fixAfterDeletion 231 = .ok (.invokestatic 300, 3) := dk_184 1 44 (dk_at dksJ5_fixAfterDeletion_9 17 rfl rfl)
theorem dJ5_fixAfterDeletion_234 : decode cJ5_fixAfterDeletion 234 = .ok (.invokestatic 303, 3) := dk_184 1 47 (dk_at dksJ5_fixAfterDeletion_9 20 rfl rfl)
theorem dJ5_fixAfterDeletion_237 : decode cJ5_fixAfterDeletion 237 = .ok (.iconst 1, 1) := dk_4 (dk_at dksJ5_fixAfterDeletion_9 23 rfl rfl)
theorem dJ5_fixAfterDeletion_238 : decode cJ5_fixAfterDeletion 238 = .ok (.if_icmp .ne 27, 3) := dk_160 0 27 (dk_at dksJ5_fixAfterDeletion_10 0 rfl rfl)
theorem dJ5_fixAfterDeletion_241 : decode cJ5_fixAfterDeletion 241 = .ok (.aload_n 2, 1) := dk_44 (dk_at dksJ5_fixAfterDeletion_10 3 rfl rfl)
theorem dJ5_fixAfterDeletion_242 : decode cJ5_fixAfterDeletion 242 = .ok (.invokestatic 297, 3) := dk_184 1 41 (dk_at dksJ5_fixAfterDeletion_10 4 rfl rfl)
theorem dJ5_fixAfterDeletion_245 : decode cJ5_fixAfterDeletion 245 = .ok (.invokestatic 303, 3) := dk_184 1 47 (dk_at dksJ5_fixAfterDeletion_10 7 rfl rfl)
theorem dJ5_fixAfterDeletion_248 : decode cJ5_fixAfterDeletion 248 = .ok (.iconst 1, 1) := dk_4 (dk_at dksJ5_fixAfterDeletion_10 10 rfl rfl)
theorem dJ5_fixAfterDeletion_249 : decode cJ5_fixAfterDeletion 249 = .ok (.if_icmp .ne 16, 3) := dk_160 0 16 (dk_at dksJ5_fixAfterDeletion_10 11 rfl rfl)
theorem dJ5_fixAfterDeletion_252 : decode cJ5_fixAfterDeletion 252 = .ok (.aload_n 2, 1) := dk_44 (dk_at dksJ5_fixAfterDeletion_10 14 rfl rfl)
theorem dJ5_fixAfterDeletion_253 : decode cJ5_fixAfterDeletion 253 = .ok (.iconst 0, 1) := dk_3 (dk_at dksJ5_fixAfterDeletion_10 15 rfl rfl)
theorem dJ5_fixAfterDeletion_254 : decode cJ5_fixAfterDeletion 254 = .ok (.invokestatic 307, 3) := dk_184 1 51 (dk_at dksJ5_fixAfterDeletion_10 16 rfl rfl)
theorem dJ5_fixAfterDeletion_257 : decode cJ5_fixAfterDeletion 257 = .ok (.aload_n 1, 1) := dk_43 (dk_at dksJ5_fixAfterDeletion_10 19 rfl rfl)
theorem dJ5_fixAfterDeletion_258 : decode cJ5_fixAfterDeletion 258 = .ok (.invokestatic 294, 3) := dk_184 1 38 (dk_at dksJ5_fixAfterDeletion_10 20 rfl rfl)
theorem dJ5_fixAfterDeletion_261 : decode cJ5_fixAfterDeletion 261 = .ok (.astore_n 1, 1) := dk_76 (dk_at dksJ5_fixAfterDeletion_10 23 rfl rfl)
theorem dJ5_fixAfterDeletion_262 : decode cJ5_fixAfterDeletion 262 = .ok (.goto 80, 3) := dk_167 0 80 (dk_at dksJ5_fixAfterDeletion_11 0 rfl rfl)
theorem dJ5_fixAfterDeletion_265 : decode cJ5_fixAfterDeletion 265 = .ok (.aload_n 2, 1) := dk_44 (dk_at dksJ5_fixAfterDeletion_11 3 rfl rfl)
theorem dJ5_fixAfterDeletion_266 : decode cJ5_fixAfterDeletion 266 = .ok (.invokestatic 297, 3) := dk_184 1 41 (dk_at dksJ5_fixAfterDeletion_11 4 rfl rfl)
theorem dJ5_fixAfterDeletion_269 : decode cJ5_fixAfterDeletion 269 = .ok (.invokestatic 303, 3) := dk_184 1 47 (dk_at dksJ5_fixAfterDeletion_11 7 rfl rfl)
theorem dJ5_fixAfterDeletion_272 : decode cJ5_fixAfterDeletion 272 = .ok (.iconst 1, 1) := dk_4 (dk_at dksJ5_fixAfterDeletion_11 10 rfl rfl)
theorem dJ5_fixAfterDeletion_273 : decode cJ5_fixAfterDeletion 273 = .ok (.if_icmp .ne 29, 3) := dk_160 0 29 (dk_at dksJ5_fixAfterDeletion_11 11 rfl rfl)
theorem dJ5_fixAfterDeletion_276 : decode cJ5_fixAfterDeletion 276 = .ok (.aload_n 2, 1) := dk_44 (dk_at dksJ5_fixAfterDeletion_11 14 rfl rfl)
theorem dJ5_fixAfterDeletion_277 : decode cJ5_fixAfterDeletion 277 = .ok (.invokestatic 300, 3) := dk_184 1 44 (dk_at dksJ5_fixAfterDeletion_11 15 rfl rfl)
theorem dJ5_fixAfterDeletion_280 : decode cJ5_fixAfterDeletion 280 = .ok (.iconst 1, 1) := dk_4 (dk_at dksJ5_fixAfterDeletion_11 18 rfl rfl)
theorem dJ5_fixAfterDeletion_281 : decode cJ5_fixAfterDeletion 281 = .ok (.invokestatic 307, 3) := dk_184 1 51 (dk_at dksJ5_fixAfterDeletion_11 19 rfl rfl)
theorem dJ5_fixAfterDeletion_284 : decode cJ5_fixAfterDeletion 284 = .ok (.aload_n 2, 1) := dk_44 (dk_at dksJ5_fixAfterDeletion_11 22 rfl rfl)
theorem dJ5_fixAfterDeletion_285 : decode cJ5_fixAfterDeletion 285 = .ok (.iconst 0, 1) := dk_3 (dk_at dksJ5_fixAfterDeletion_11 23 rfl rfl)
theorem dJ5_fixAfterDeletion_286 : decode cJ5_fixAfterDeletion 286 = .ok (.invokestatic 307, 3) := dk_184 1 51 (dk_at dksJ5_fixAfterDeletion_12 0 rfl rfl)
theorem dJ5_fixAfterDeletion_289 : decode cJ5_fixAfterDeletion 289 = .ok (.aload_n 0, 1) := dk_42 (dk_at dksJ5_fixAfterDeletion_12 3 rfl rfl)
theorem dJ5_fixAfterDeletion_290 : decode cJ5_fixAfterDeletion 290 = .ok (.aload_n 2, 1) := dk_44 (dk_at dksJ5_fixAfterDeletion_12 4 rfl rfl)
theorem dJ5_fixAfterDeletion_291 : decode cJ5_fixAfterDeletion 291 = .ok (.invokevirtual 311, 3) := dk_182 1 55 (dk_at dksJ5_fixAfterDeletion_12 5 rfl rfl)
theorem dJ5_fixAfterDeletion_294 : decode cJ5_fixAfterDeletion 294 = .ok (.aload_n 1, 1) := dk_43 (dk_at dksJ5_fixAfterDeletion_12 8 rfl rfl)
theorem dJ5_fixAfterDeletion_295 : decode cJ5_fixAfterDeletion 295 = .ok (.invokestatic 294, 3) := dk_184 1 38 (dk_at dksJ5_fixAfterDeletion_12 9 rfl rfl)
theorem dJ5_fixAfterDeletion_298 : decode cJ5_fixAfterDeletion 298 = .ok (.invokestatic 297, 3) := dk_184 1 41 (dk_at dksJ5_fixAfterDeletion_12 12 rfl rfl)
theorem dJ5_fixAfterDeletion_301 : decode cJ5_fixAfterDeletion 301 = .ok (.astore_n 2, 1) := dk_77 (dk_at dksJ5_fixAfterDeletion_12 15 rfl rfl)
theorem dJ5_fixAfterDeletion_302 : decode cJ5_fixAfterDeletion 302 = .ok (.aload_n 2, 1) := dk_44 (dk_at dksJ5_fixAfterDeletion_12 16 rfl rfl)
theorem dJ5_fixAfterDeletion_303 : decode cJ5_fixAfterDeletion 303 = .ok (.aload_n 1, 1) := dk_43 (dk_at dksJ5_fixAfterDeletion_12 17 rfl rfl)
theorem dJ5_fixAfterDeletion_304 : decode cJ5_fixAfterDeletion 304 = .ok (.invokestatic 294, 3) := dk_184 1 38 (dk_at dksJ5_fixAfterDeletion_12 18 rfl rfl)
theorem dJ5_fixAfterDeletion_307 : decode cJ5_fixAfterDeletion 307 = .ok (.invokestatic 303, 3) := dk_184 1 47 (dk_at dksJ5_fixAfterDeletion_12 21 rfl rfl)
theorem dJ5_fixAfterDeletion_310 : decode cJ5_fixAfterDeletion 310 = .ok (.invokestatic 307, 3) := dk_184 1 51 (dk_at dksJ5_fixAfterDeletion_13 0 rfl rfl)
theorem dJ5_fixAfterDeletion_313 : decode cJ5_fixAfterDeletion 313 = .ok (.aload_n 1, 1) := dk_43 (dk_at dksJ5_fixAfterDeletion_13 3 rfl rfl)
theorem dJ5_fixAfterDeletion_314 : decode cJ5_fixAfterDeletion 314 = .ok (.invokestatic 294, 3) := dk_184 1 38 (dk_at dksJ5_fixAfterDeletion_13 4 rfl rfl)
theorem dJ5_fixAfterDeletion_317 : decode cJ5_fixAfterDeletion 317 = .ok (.iconst 1, 1) := dk_4 (dk_at dksJ5_fixAfterDeletion_13 7 rfl rfl)
theorem dJ5_fixAfterDeletion_318 : decode cJ5_fixAfterDeletion 318 = .ok (.invokestatic 307, 3) := dk_184 1 51 (dk_at dksJ5_fixAfterDeletion_13 8 rfl rfl)
theorem dJ5_fixAfterDeletion_321 : decode cJ5_fixAfterDeletion 321 = .ok (.aload_n 2, 1) := dk_44 (dk_at dksJ5_fixAfterDeletion_13 11 rfl rfl)
theorem dJ5_fixAfterDeletion_322 : decode cJ5_fixAfterDeletion 322 = .ok (.invokestatic 297, 3) := dk_184 1 41 (dk_at dksJ5_fixAfterDeletion_13 12 rfl rfl)
theorem dJ5_fixAfterDeletion_325 : decode cJ5_fixAfterDeletion 325 = .ok (.iconst 1, 1) := dk_4 (dk_at dksJ5_fixAfterDeletion_13 15 rfl rfl)
theorem dJ5_fixAfterDeletion_326 : decode cJ5_fixAfterDeletion 326 = .ok (.invokestatic 307, 3) := dk_184 1 51 (dk_at dksJ5_fixAfterDeletion_13 16 rfl rfl)
theorem dJ5_fixAfterDeletion_329 : decode cJ5_fixAfterDeletion 329 = .ok (.aload_n 0, 1) := dk_42 (dk_at dksJ5_fixAfterDeletion_13 19 rfl rfl)
theorem dJ5_fixAfterDeletion_330 : decode cJ5_fixAfterDeletion 330 = .ok (.aload_n 1, 1) := dk_43 (dk_at dksJ5_fixAfterDeletion_13 20 rfl rfl)
theorem dJ5_fixAfterDeletion_331 : decode cJ5_fixAfterDeletion 331 = .ok (.invokestatic 294, 3) := dk_184 1 38 (dk_at dksJ5_fixAfterDeletion_13 21 rfl rfl)
theorem dJ5_fixAfterDeletion_334 : decode cJ5_fixAfterDeletion 334 = .ok (.invokevirtual 314, 3) := dk_182 1 58 (dk_at dksJ5_fixAfterDeletion_14 0 rfl rfl)
theorem dJ5_fixAfterDeletion_337 : decode cJ5_fixAfterDeletion 337 = .ok (.aload_n 0, 1) := dk_42 (dk_at dksJ5_fixAfterDeletion_14 3 rfl rfl)
theorem dJ5_fixAfterDeletion_338 : decode cJ5_fixAfterDeletion 338 = .ok (.getfield 101, 3) := dk_180 0 101 (dk_at dksJ5_fixAfterDeletion_14 4 rfl rfl)
theorem dJ5_fixAfterDeletion_341 : decode cJ5_fixAfterDeletion 341 = .ok (.astore_n 1, 1) := dk_76 (dk_at dksJ5_fixAfterDeletion_14 7 rfl rfl)
theorem dJ5_fixAfterDeletion_342 : decode cJ5_fixAfterDeletion 342 = .ok (.goto (-342), 3) := dk_167 254 170 (dk_at dksJ5_fixAfterDeletion_14 8 rfl rfl)
theorem dJ5_fixAfterDeletion_345 : decode cJ5_fixAfterDeletion 345 = .ok (.aload_n 1, 1) := dk_43 (dk_at dksJ5_fixAfterDeletion_14 11 rfl rfl)
theorem dJ5_fixAfterDeletion_346 : decode cJ5_fixAfterDeletion 346 = .ok (.iconst 1, 1) := dk_4 (dk_at dksJ5_fixAfterDeletion_14 12 rfl rfl)
theorem dJ5_fixAfterDeletion_347 : decode cJ5_fixAfterDeletion 347 = .ok (.invokestatic 307, 3) := dk_184 1 51 (dk_at dksJ5_fixAfterDeletion_14 13 rfl rfl)
theorem dJ5_fixAfterDeletion_350 : decode cJ5_fixAfterDeletion 350 = .ok (.return_, 1) := dk_177 (dk_at dksJ5_fixAfterDeletion_14 16 rfl rfl)
abbrev cJ5_size : ByteArray := prog_65_method_5_code
def yJ5_size : MethodName := ⟨RJ5, "size", "()I"⟩
theorem dJ5_size_0 : decode cJ5_size 0 = .ok (.aload_n 0, 1) := by decide +kernel
theorem dJ5_size_1 : decode cJ5_size 1 = .ok (.getfield 7, 3) := by decide +kernel
theorem dJ5_size_4 : decode cJ5_size 4 = .ok (.ireturn, 1) := by decide +kernel
abbrev cJ5_clear : ByteArray := prog_65_method_35_code
def yJ5_clear : MethodName := ⟨RJ5, "clear", "()V"⟩
def dkwJ5_clear_0 : List UInt8 := [42, 89, 180, 0, 13, 4, 96, 181, 0, 13, 42, 3, 181, 0, 7, 42, 1, 181, 0, 101, 177]
abbrev dktJ5_clear_0 : List UInt8 := dkwJ5_clear_0 ++ []
theorem dksJ5_clear_0 : cJ5_clear.data.toList.drop 0 = dktJ5_clear_0 := by decide +kernel
theorem dJ5_clear_0 : decode cJ5_clear 0 = .ok (.aload_n 0, 1) := dk_42 (dk_at dksJ5_clear_0 0 rfl rfl)
theorem dJ5_clear_1 : decode cJ5_clear 1 = .ok (.dup, 1) := dk_89 (dk_at dksJ5_clear_0 1 rfl rfl)
theorem dJ5_clear_2 : decode cJ5_clear 2 = .ok (.getfield 13, 3) := dk_180 0 13 (dk_at dksJ5_clear_0 2 rfl rfl)
theorem dJ5_clear_5 : decode cJ5_clear 5 = .ok (.iconst 1, 1) := dk_4 (dk_at dksJ5_clear_0 5 rfl rfl)
theorem dJ5_clear_6 : decode cJ5_clear 6 = .ok (.iadd, 1) := dk_96 (dk_at dksJ5_clear_0 6 rfl rfl)
theorem dJ5_clear_7 : decode cJ5_clear 7 = .ok (.putfield 13, 3) := dk_181 0 13 (dk_at dksJ5_clear_0 7 rfl rfl)
theorem dJ5_clear_10 : decode cJ5_clear 10 = .ok (.aload_n 0, 1) := dk_42 (dk_at dksJ5_clear_0 10 rfl rfl)
theorem dJ5_clear_11 : decode cJ5_clear 11 = .ok (.iconst 0, 1) := dk_3 (dk_at dksJ5_clear_0 11 rfl rfl)
theorem dJ5_clear_12 : decode cJ5_clear 12 = .ok (.putfield 7, 3) := dk_181 0 7 (dk_at dksJ5_clear_0 12 rfl rfl)
theorem dJ5_clear_15 : decode cJ5_clear 15 = .ok (.aload_n 0, 1) := dk_42 (dk_at dksJ5_clear_0 15 rfl rfl)
theorem dJ5_clear_16 : decode cJ5_clear 16 = .ok (.aconst_null, 1) := dk_1 (dk_at dksJ5_clear_0 16 rfl rfl)
theorem dJ5_clear_17 : decode cJ5_clear 17 = .ok (.putfield 101, 3) := dk_181 0 101 (dk_at dksJ5_clear_0 17 rfl rfl)
theorem dJ5_clear_20 : decode cJ5_clear 20 = .ok (.return_, 1) := dk_177 (dk_at dksJ5_clear_0 20 rfl rfl)
abbrev cJ5_get : ByteArray := prog_65_method_8_code
def yJ5_get : MethodName := ⟨RJ5, "get", "(Ljava/lang/Object;)Ljava/lang/Object;"⟩
def dkwJ5_get_0 : List UInt8 := [42, 43, 182, 0, 50, 77, 44, 199, 0, 7, 1, 167, 0, 7, 44, 180, 0, 58, 176]
abbrev dktJ5_get_0 : List UInt8 := dkwJ5_get_0 ++ []
theorem dksJ5_get_0 : cJ5_get.data.toList.drop 0 = dktJ5_get_0 := by decide +kernel
theorem dJ5_get_0 : decode cJ5_get 0 = .ok (.aload_n 0, 1) := dk_42 (dk_at dksJ5_get_0 0 rfl rfl)
theorem dJ5_get_1 : decode cJ5_get 1 = .ok (.aload_n 1, 1) := dk_43 (dk_at dksJ5_get_0 1 rfl rfl)
theorem dJ5_get_2 : decode cJ5_get 2 = .ok (.invokevirtual 50, 3) := dk_182 0 50 (dk_at dksJ5_get_0 2 rfl rfl)
theorem dJ5_get_5 : decode cJ5_get 5 = .ok (.astore_n 2, 1) := dk_77 (dk_at dksJ5_get_0 5 rfl rfl)
theorem dJ5_get_6 : decode cJ5_get 6 = .ok (.aload_n 2, 1) := dk_44 (dk_at dksJ5_get_0 6 rfl rfl)
theorem dJ5_get_7 : decode cJ5_get 7 = .ok (.ifnonnull 7, 3) := dk_199 0 7 (dk_at dksJ5_get_0 7 rfl rfl)
theorem dJ5_get_10 : decode cJ5_get 10 = .ok (.aconst_null, 1) := dk_1 (dk_at dksJ5_get_0 10 rfl rfl)
theorem dJ5_get_11 : decode cJ5_get 11 = .ok (.goto 7, 3) := dk_167 0 7 (dk_at dksJ5_get_0 11 rfl rfl)
theorem dJ5_get_14 : decode cJ5_get 14 = .ok (.aload_n 2, 1) := dk_44 (dk_at dksJ5_get_0 14 rfl rfl)
theorem dJ5_get_15 : decode cJ5_get 15 = .ok (.getfield 58, 3) := dk_180 0 58 (dk_at dksJ5_get_0 15 rfl rfl)
theorem dJ5_get_18 : decode cJ5_get 18 = .ok (.areturn, 1) := dk_176 (dk_at dksJ5_get_0 18 rfl rfl)
theorem q124 : (Jvm.Cond.initialized "java/util/TreeMap") ∈ lw_all := lw_g (lw_at lw_m1 9 rfl) rfl
theorem q276 : (Jvm.Cond.instantiable "java/util/TreeMap" (9 : Nat)) ∈ lw_all := lw_g (lw_at lw_m1 161 rfl) rfl
theorem q278 : (Jvm.Cond.instanceMethod ({ cls := "java/util/TreeMap", name := "<init>", desc := "()V" } : Jvm.MethodName)) ∈ lw_all := lw_g (lw_at lw_m1 163 rfl) rfl
theorem q279 : (Jvm.Cond.code ({ cls := "java/util/TreeMap", name := "<init>", desc := "()V" } : Jvm.MethodName) prog_65_method_1_code (1 : Nat) (Option.none : Option Jvm.ClassFile.FieldType)) ∈ lw_all := lw_g (lw_at lw_m1 164 rfl) rfl
theorem q280 : (Jvm.Cond.methodLink "java/util/TreeMap" (1 : Nat) ({ cls := "java/util/AbstractMap", name := "<init>", desc := "()V" } : Jvm.MethodName)) ∈ lw_all := lw_g (lw_at lw_m1 165 rfl) rfl
theorem q281 : (Jvm.Cond.fieldLink "java/util/TreeMap" (16 : Nat) "java/util/TreeMap" "comparator" "Ljava/util/Comparator;") ∈ lw_all := lw_g (lw_at lw_m1 166 rfl) rfl
theorem q282 : (Jvm.Cond.fieldLink "java/util/TreeMap" (101 : Nat) "java/util/TreeMap" "root" "Ljava/util/TreeMap$Entry;") ∈ lw_all := lw_g (lw_at lw_m1 167 rfl) rfl
theorem q283 : (Jvm.Cond.fieldLink "java/util/TreeMap" (7 : Nat) "java/util/TreeMap" "size" "I") ∈ lw_all := lw_g (lw_at lw_m1 168 rfl) rfl
theorem q284 : (Jvm.Cond.fieldLink "java/util/TreeMap" (13 : Nat) "java/util/TreeMap" "modCount" "I") ∈ lw_all := lw_g (lw_at lw_m1 169 rfl) rfl
theorem q285 : (Jvm.Cond.laysFinal "java/util/TreeMap" "java/util/TreeMap" "comparator" "Ljava/util/Comparator;") ∈ lw_all := lw_g (lw_at lw_m1 170 rfl) rfl
theorem q286 : (Jvm.Cond.soleField "java/util/TreeMap" "comparator") ∈ lw_all := lw_g (lw_at lw_m1 171 rfl) rfl
theorem q287 : (Jvm.Cond.lays "java/util/TreeMap" "java/util/TreeMap" "root" "Ljava/util/TreeMap$Entry;") ∈ lw_all := lw_g (lw_at lw_m1 172 rfl) rfl
theorem q288 : (Jvm.Cond.soleField "java/util/TreeMap" "root") ∈ lw_all := lw_g (lw_at lw_m1 173 rfl) rfl
theorem q289 : (Jvm.Cond.lays "java/util/TreeMap" "java/util/TreeMap" "size" "I") ∈ lw_all := lw_g (lw_at lw_m1 174 rfl) rfl
theorem q290 : (Jvm.Cond.soleField "java/util/TreeMap" "size") ∈ lw_all := lw_g (lw_at lw_m1 175 rfl) rfl
theorem q291 : (Jvm.Cond.lays "java/util/TreeMap" "java/util/TreeMap" "modCount" "I") ∈ lw_all := lw_g (lw_at lw_m1 176 rfl) rfl
theorem q292 : (Jvm.Cond.soleField "java/util/TreeMap" "modCount") ∈ lw_all := lw_g (lw_at lw_m1 177 rfl) rfl
theorem q293 : (Jvm.Cond.lays "java/util/TreeMap" "java/util/TreeMap" "entrySet" "Ljava/util/TreeMap$EntrySet;") ∈ lw_all := lw_g (lw_at lw_m1 178 rfl) rfl
theorem q294 : (Jvm.Cond.soleField "java/util/TreeMap" "entrySet") ∈ lw_all := lw_g (lw_at lw_m1 179 rfl) rfl
theorem q295 : (Jvm.Cond.lays "java/util/TreeMap" "java/util/TreeMap" "navigableKeySet" "Ljava/util/TreeMap$KeySet;") ∈ lw_all := lw_g (lw_at lw_m1 180 rfl) rfl
theorem q296 : (Jvm.Cond.soleField "java/util/TreeMap" "navigableKeySet") ∈ lw_all := lw_g (lw_at lw_m1 181 rfl) rfl
theorem q297 : (Jvm.Cond.lays "java/util/TreeMap" "java/util/TreeMap" "descendingMap" "Ljava/util/NavigableMap;") ∈ lw_all := lw_g (lw_at lw_m1 182 rfl) rfl
theorem q298 : (Jvm.Cond.soleField "java/util/TreeMap" "descendingMap") ∈ lw_all := lw_g (lw_at lw_m1 183 rfl) rfl
theorem q299 : (Jvm.Cond.lays "java/util/TreeMap" "java/util/AbstractMap" "keySet" "Ljava/util/Set;") ∈ lw_all := lw_g (lw_at lw_m1 184 rfl) rfl
theorem q300 : (Jvm.Cond.lays "java/util/TreeMap" "java/util/AbstractMap" "values" "Ljava/util/Collection;") ∈ lw_all := lw_g (lw_at lw_m1 185 rfl) rfl
theorem q301 : (Jvm.Cond.superclass "java/util/TreeMap" "java/util/AbstractMap") ∈ lw_all := lw_g (lw_at lw_m1 186 rfl) rfl
theorem q1021 : (Jvm.Cond.selects "java/util/TreeMap" ({ cls := "java/lang/Object", name := "getClass", desc := "()Ljava/lang/Class;" } : Jvm.MethodName) ({ cls := "java/lang/Object", name := "getClass", desc := "()Ljava/lang/Class;" } : Jvm.MethodName)) ∈ lw_all := lw_g (lw_at lw_m4 186 rfl) rfl
theorem q1495 : (Jvm.Cond.castable "java/util/TreeMap" "java/util/Map") ∈ lw_tbl := lw_at lw_m6 180 rfl
theorem q1496 : (Jvm.Cond.selects "java/util/TreeMap" ({ cls := "java/util/Map", name := "containsKey", desc := "(Ljava/lang/Object;)Z" } : Jvm.MethodName) ({ cls := "java/util/TreeMap", name := "containsKey", desc := "(Ljava/lang/Object;)Z" } : Jvm.MethodName)) ∈ lw_all := lw_g (lw_at lw_m6 181 rfl) rfl
theorem q1497 : (Jvm.Cond.unhidden "java/util/TreeMap" "containsKey" "(Ljava/lang/Object;)Z") ∈ lw_tbl := lw_at lw_m6 182 rfl
theorem q1498 : (Jvm.Cond.instanceMethod ({ cls := "java/util/TreeMap", name := "containsKey", desc := "(Ljava/lang/Object;)Z" } : Jvm.MethodName)) ∈ lw_all := lw_g (lw_at lw_m6 183 rfl) rfl
theorem q1499 : (Jvm.Cond.publicMethod ({ cls := "java/util/TreeMap", name := "containsKey", desc := "(Ljava/lang/Object;)Z" } : Jvm.MethodName)) ∈ lw_tbl := lw_at lw_m6 184 rfl
theorem q1500 : (Jvm.Cond.code ({ cls := "java/util/TreeMap", name := "containsKey", desc := "(Ljava/lang/Object;)Z" } : Jvm.MethodName) prog_65_method_6_code (2 : Nat) (Option.some Jvm.ClassFile.FieldType.boolean)) ∈ lw_all := lw_g (lw_at lw_m6 185 rfl) rfl
theorem q1501 : (Jvm.Cond.methodLink "java/util/TreeMap" (50 : Nat) ({ cls := "java/util/TreeMap", name := "getEntry", desc := "(Ljava/lang/Object;)Ljava/util/TreeMap$Entry;" } : Jvm.MethodName)) ∈ lw_all := lw_g (lw_at lw_m6 186 rfl) rfl
theorem q1502 : (Jvm.Cond.instanceMethod ({ cls := "java/util/TreeMap", name := "getEntry", desc := "(Ljava/lang/Object;)Ljava/util/TreeMap$Entry;" } : Jvm.MethodName)) ∈ lw_all := lw_g (lw_at lw_m6 187 rfl) rfl
theorem q1503 : (Jvm.Cond.selects "java/util/TreeMap" ({ cls := "java/util/TreeMap", name := "getEntry", desc := "(Ljava/lang/Object;)Ljava/util/TreeMap$Entry;" } : Jvm.MethodName) ({ cls := "java/util/TreeMap", name := "getEntry", desc := "(Ljava/lang/Object;)Ljava/util/TreeMap$Entry;" } : Jvm.MethodName)) ∈ lw_all := lw_g (lw_at lw_m6 188 rfl) rfl
theorem q1504 : (Jvm.Cond.code ({ cls := "java/util/TreeMap", name := "getEntry", desc := "(Ljava/lang/Object;)Ljava/util/TreeMap$Entry;" } : Jvm.MethodName) prog_65_method_15_code (5 : Nat) (Option.some (Jvm.ClassFile.FieldType.object "java/util/TreeMap$Entry"))) ∈ lw_all := lw_g (lw_at lw_m6 189 rfl) rfl
theorem q1505 : (Jvm.Cond.methodLink "java/util/TreeMap" (92 : Nat) ({ cls := "java/util/TreeMap", name := "getEntryUsingComparator", desc := "(Ljava/lang/Object;)Ljava/util/TreeMap$Entry;" } : Jvm.MethodName)) ∈ lw_all := lw_g (lw_at lw_m6 190 rfl) rfl
theorem q1506 : (Jvm.Cond.instanceMethod ({ cls := "java/util/TreeMap", name := "getEntryUsingComparator", desc := "(Ljava/lang/Object;)Ljava/util/TreeMap$Entry;" } : Jvm.MethodName)) ∈ lw_all := lw_g (lw_at lw_m6 191 rfl) rfl
theorem q1507 : (Jvm.Cond.selects "java/util/TreeMap" ({ cls := "java/util/TreeMap", name := "getEntryUsingComparator", desc := "(Ljava/lang/Object;)Ljava/util/TreeMap$Entry;" } : Jvm.MethodName) ({ cls := "java/util/TreeMap", name := "getEntryUsingComparator", desc := "(Ljava/lang/Object;)Ljava/util/TreeMap$Entry;" } : Jvm.MethodName)) ∈ lw_all := lw_g (lw_at lw_m6 192 rfl) rfl
theorem q1508 : (Jvm.Cond.code ({ cls := "java/util/TreeMap", name := "getEntryUsingComparator", desc := "(Ljava/lang/Object;)Ljava/util/TreeMap$Entry;" } : Jvm.MethodName) prog_65_method_16_code (6 : Nat) (Option.some (Jvm.ClassFile.FieldType.object "java/util/TreeMap$Entry"))) ∈ lw_all := lw_g (lw_at lw_m6 193 rfl) rfl
theorem q1509 : (Jvm.Cond.interfaceEntry "java/util/TreeMap" (117 : Nat)) ∈ lw_tbl := lw_at lw_m6 194 rfl
theorem q1510 : (Jvm.Cond.methodLink "java/util/TreeMap" (117 : Nat) ({ cls := "java/util/Comparator", name := "compare", desc := "(Ljava/lang/Object;Ljava/lang/Object;)I" } : Jvm.MethodName)) ∈ lw_all := lw_g (lw_at lw_m6 195 rfl) rfl
theorem q1513 : (Jvm.Cond.methodLink "java/util/TreeMap" (95 : Nat) ({ cls := "java/util/Objects", name := "requireNonNull", desc := "(Ljava/lang/Object;)Ljava/lang/Object;" } : Jvm.MethodName)) ∈ lw_all := lw_g (lw_at lw_m6 198 rfl) rfl
theorem q1516 : (Jvm.Cond.classLink "java/util/TreeMap" (99 : Nat) "java/lang/Comparable") ∈ lw_all := lw_g (lw_at lw_m6 201 rfl) rfl
theorem q1517 : (Jvm.Cond.interfaceEntry "java/util/TreeMap" (107 : Nat)) ∈ lw_tbl := lw_at lw_m6 202 rfl
theorem q1518 : (Jvm.Cond.methodLink "java/util/TreeMap" (107 : Nat) ({ cls := "java/lang/Comparable", name := "compareTo", desc := "(Ljava/lang/Object;)I" } : Jvm.MethodName)) ∈ lw_all := lw_g (lw_at lw_m6 203 rfl) rfl
theorem q1668 : (Jvm.Cond.selects "java/util/TreeMap" ({ cls := "java/util/Map", name := "put", desc := "(Ljava/lang/Object;Ljava/lang/Object;)Ljava/lang/Object;" } : Jvm.MethodName) ({ cls := "java/util/TreeMap", name := "put", desc := "(Ljava/lang/Object;Ljava/lang/Object;)Ljava/lang/Object;" } : Jvm.MethodName)) ∈ lw_all := lw_g (lw_at lw_m7 113 rfl) rfl
theorem q1669 : (Jvm.Cond.unhidden "java/util/TreeMap" "put" "(Ljava/lang/Object;Ljava/lang/Object;)Ljava/lang/Object;") ∈ lw_tbl := lw_at lw_m7 114 rfl
theorem q1670 : (Jvm.Cond.instanceMethod ({ cls := "java/util/TreeMap", name := "put", desc := "(Ljava/lang/Object;Ljava/lang/Object;)Ljava/lang/Object;" } : Jvm.MethodName)) ∈ lw_all := lw_g (lw_at lw_m7 115 rfl) rfl
theorem q1671 : (Jvm.Cond.publicMethod ({ cls := "java/util/TreeMap", name := "put", desc := "(Ljava/lang/Object;Ljava/lang/Object;)Ljava/lang/Object;" } : Jvm.MethodName)) ∈ lw_tbl := lw_at lw_m7 116 rfl
theorem q1672 : (Jvm.Cond.code ({ cls := "java/util/TreeMap", name := "put", desc := "(Ljava/lang/Object;Ljava/lang/Object;)Ljava/lang/Object;" } : Jvm.MethodName) prog_65_method_21_code (3 : Nat) (Option.some (Jvm.ClassFile.FieldType.object "java/lang/Object"))) ∈ lw_all := lw_g (lw_at lw_m7 117 rfl) rfl
theorem q1673 : (Jvm.Cond.methodLink "java/util/TreeMap" (127 : Nat) ({ cls := "java/util/TreeMap", name := "put", desc := "(Ljava/lang/Object;Ljava/lang/Object;Z)Ljava/lang/Object;" } : Jvm.MethodName)) ∈ lw_all := lw_g (lw_at lw_m7 118 rfl) rfl
theorem q1674 : (Jvm.Cond.privateMethod ({ cls := "java/util/TreeMap", name := "put", desc := "(Ljava/lang/Object;Ljava/lang/Object;Z)Ljava/lang/Object;" } : Jvm.MethodName)) ∈ lw_tbl := lw_at lw_m7 119 rfl
theorem q1675 : (Jvm.Cond.instanceMethod ({ cls := "java/util/TreeMap", name := "put", desc := "(Ljava/lang/Object;Ljava/lang/Object;Z)Ljava/lang/Object;" } : Jvm.MethodName)) ∈ lw_all := lw_g (lw_at lw_m7 120 rfl) rfl
theorem q1676 : (Jvm.Cond.code ({ cls := "java/util/TreeMap", name := "put", desc := "(Ljava/lang/Object;Ljava/lang/Object;Z)Ljava/lang/Object;" } : Jvm.MethodName) prog_65_method_31_code (10 : Nat) (Option.some (Jvm.ClassFile.FieldType.object "java/lang/Object"))) ∈ lw_all := lw_g (lw_at lw_m7 121 rfl) rfl
theorem q1677 : (Jvm.Cond.methodLink "java/util/TreeMap" (135 : Nat) ({ cls := "java/util/TreeMap", name := "addEntryToEmptyMap", desc := "(Ljava/lang/Object;Ljava/lang/Object;)V" } : Jvm.MethodName)) ∈ lw_all := lw_g (lw_at lw_m7 122 rfl) rfl
theorem q1678 : (Jvm.Cond.privateMethod ({ cls := "java/util/TreeMap", name := "addEntryToEmptyMap", desc := "(Ljava/lang/Object;Ljava/lang/Object;)V" } : Jvm.MethodName)) ∈ lw_tbl := lw_at lw_m7 123 rfl
theorem q1679 : (Jvm.Cond.instanceMethod ({ cls := "java/util/TreeMap", name := "addEntryToEmptyMap", desc := "(Ljava/lang/Object;Ljava/lang/Object;)V" } : Jvm.MethodName)) ∈ lw_all := lw_g (lw_at lw_m7 124 rfl) rfl
theorem q1680 : (Jvm.Cond.code ({ cls := "java/util/TreeMap", name := "addEntryToEmptyMap", desc := "(Ljava/lang/Object;Ljava/lang/Object;)V" } : Jvm.MethodName) prog_65_method_30_code (3 : Nat) (Option.none : Option Jvm.ClassFile.FieldType)) ∈ lw_all := lw_g (lw_at lw_m7 125 rfl) rfl
theorem q1681 : (Jvm.Cond.methodLink "java/util/TreeMap" (123 : Nat) ({ cls := "java/util/TreeMap", name := "compare", desc := "(Ljava/lang/Object;Ljava/lang/Object;)I" } : Jvm.MethodName)) ∈ lw_all := lw_g (lw_at lw_m7 126 rfl) rfl
theorem q1682 : (Jvm.Cond.instanceMethod ({ cls := "java/util/TreeMap", name := "compare", desc := "(Ljava/lang/Object;Ljava/lang/Object;)I" } : Jvm.MethodName)) ∈ lw_all := lw_g (lw_at lw_m7 127 rfl) rfl
theorem q1683 : (Jvm.Cond.selects "java/util/TreeMap" ({ cls := "java/util/TreeMap", name := "compare", desc := "(Ljava/lang/Object;Ljava/lang/Object;)I" } : Jvm.MethodName) ({ cls := "java/util/TreeMap", name := "compare", desc := "(Ljava/lang/Object;Ljava/lang/Object;)I" } : Jvm.MethodName)) ∈ lw_all := lw_g (lw_at lw_m7 128 rfl) rfl
theorem q1684 : (Jvm.Cond.code ({ cls := "java/util/TreeMap", name := "compare", desc := "(Ljava/lang/Object;Ljava/lang/Object;)I" } : Jvm.MethodName) prog_65_method_67_code (3 : Nat) (Option.some Jvm.ClassFile.FieldType.int)) ∈ lw_all := lw_g (lw_at lw_m7 129 rfl) rfl
theorem q1685 : (Jvm.Cond.classLink "java/util/TreeMap" (59 : Nat) "java/util/TreeMap$Entry") ∈ lw_all := lw_g (lw_at lw_m7 130 rfl) rfl
theorem q1687 : (Jvm.Cond.methodLink "java/util/TreeMap" (167 : Nat) ({ cls := "java/util/TreeMap$Entry", name := "<init>", desc := "(Ljava/lang/Object;Ljava/lang/Object;Ljava/util/TreeMap$Entry;)V" } : Jvm.MethodName)) ∈ lw_all := lw_g (lw_at lw_m7 132 rfl) rfl
theorem q1692 : (Jvm.Cond.fieldLink "java/util/TreeMap" (105 : Nat) "java/util/TreeMap$Entry" "key" "Ljava/lang/Object;") ∈ lw_all := lw_g (lw_at lw_m7 137 rfl) rfl
theorem q1694 : (Jvm.Cond.fieldLink "java/util/TreeMap" (58 : Nat) "java/util/TreeMap$Entry" "value" "Ljava/lang/Object;") ∈ lw_all := lw_g (lw_at lw_m7 139 rfl) rfl
theorem q1695 : (Jvm.Cond.fieldLink "java/util/TreeMap" (111 : Nat) "java/util/TreeMap$Entry" "left" "Ljava/util/TreeMap$Entry;") ∈ lw_all := lw_g (lw_at lw_m7 140 rfl) rfl
theorem q1696 : (Jvm.Cond.fieldLink "java/util/TreeMap" (114 : Nat) "java/util/TreeMap$Entry" "right" "Ljava/util/TreeMap$Entry;") ∈ lw_all := lw_g (lw_at lw_m7 141 rfl) rfl
theorem q1698 : (Jvm.Cond.fieldLink "java/util/TreeMap" (124 : Nat) "java/util/TreeMap$Entry" "parent" "Ljava/util/TreeMap$Entry;") ∈ lw_all := lw_g (lw_at lw_m7 143 rfl) rfl
theorem q1700 : (Jvm.Cond.fieldLink "java/util/TreeMap" (290 : Nat) "java/util/TreeMap$Entry" "color" "Z") ∈ lw_all := lw_g (lw_at lw_m7 145 rfl) rfl
theorem q1714 : (Jvm.Cond.methodLink "java/util/TreeMap" (139 : Nat) ({ cls := "java/util/TreeMap", name := "addEntry", desc := "(Ljava/lang/Object;Ljava/lang/Object;Ljava/util/TreeMap$Entry;Z)V" } : Jvm.MethodName)) ∈ lw_all := lw_g (lw_at lw_m7 159 rfl) rfl
theorem q1715 : (Jvm.Cond.privateMethod ({ cls := "java/util/TreeMap", name := "addEntry", desc := "(Ljava/lang/Object;Ljava/lang/Object;Ljava/util/TreeMap$Entry;Z)V" } : Jvm.MethodName)) ∈ lw_tbl := lw_at lw_m7 160 rfl
theorem q1716 : (Jvm.Cond.instanceMethod ({ cls := "java/util/TreeMap", name := "addEntry", desc := "(Ljava/lang/Object;Ljava/lang/Object;Ljava/util/TreeMap$Entry;Z)V" } : Jvm.MethodName)) ∈ lw_all := lw_g (lw_at lw_m7 161 rfl) rfl
theorem q1717 : (Jvm.Cond.code ({ cls := "java/util/TreeMap", name := "addEntry", desc := "(Ljava/lang/Object;Ljava/lang/Object;Ljava/util/TreeMap$Entry;Z)V" } : Jvm.MethodName) prog_65_method_29_code (6 : Nat) (Option.none : Option Jvm.ClassFile.FieldType)) ∈ lw_all := lw_g (lw_at lw_m7 162 rfl) rfl
theorem q1718 : (Jvm.Cond.methodLink "java/util/TreeMap" (170 : Nat) ({ cls := "java/util/TreeMap", name := "fixAfterInsertion", desc := "(Ljava/util/TreeMap$Entry;)V" } : Jvm.MethodName)) ∈ lw_all := lw_g (lw_at lw_m7 163 rfl) rfl
theorem q1719 : (Jvm.Cond.privateMethod ({ cls := "java/util/TreeMap", name := "fixAfterInsertion", desc := "(Ljava/util/TreeMap$Entry;)V" } : Jvm.MethodName)) ∈ lw_tbl := lw_at lw_m7 164 rfl
theorem q1720 : (Jvm.Cond.instanceMethod ({ cls := "java/util/TreeMap", name := "fixAfterInsertion", desc := "(Ljava/util/TreeMap$Entry;)V" } : Jvm.MethodName)) ∈ lw_all := lw_g (lw_at lw_m7 165 rfl) rfl
theorem q1721 : (Jvm.Cond.code ({ cls := "java/util/TreeMap", name := "fixAfterInsertion", desc := "(Ljava/util/TreeMap$Entry;)V" } : Jvm.MethodName) prog_65_method_83_code (3 : Nat) (Option.none : Option Jvm.ClassFile.FieldType)) ∈ lw_all := lw_g (lw_at lw_m7 166 rfl) rfl
theorem q1722 : (Jvm.Cond.methodLink "java/util/TreeMap" (294 : Nat) ({ cls := "java/util/TreeMap", name := "parentOf", desc := "(Ljava/util/TreeMap$Entry;)Ljava/util/TreeMap$Entry;" } : Jvm.MethodName)) ∈ lw_all := lw_g (lw_at lw_m7 167 rfl) rfl
theorem q1723 : (Jvm.Cond.static ({ cls := "java/util/TreeMap", name := "parentOf", desc := "(Ljava/util/TreeMap$Entry;)Ljava/util/TreeMap$Entry;" } : Jvm.MethodName)) ∈ lw_all := lw_g (lw_at lw_m7 168 rfl) rfl
theorem q1724 : (Jvm.Cond.code ({ cls := "java/util/TreeMap", name := "parentOf", desc := "(Ljava/util/TreeMap$Entry;)Ljava/util/TreeMap$Entry;" } : Jvm.MethodName) prog_65_method_77_code (1 : Nat) (Option.some (Jvm.ClassFile.FieldType.object "java/util/TreeMap$Entry"))) ∈ lw_all := lw_g (lw_at lw_m7 169 rfl) rfl
theorem q1725 : (Jvm.Cond.methodLink "java/util/TreeMap" (297 : Nat) ({ cls := "java/util/TreeMap", name := "leftOf", desc := "(Ljava/util/TreeMap$Entry;)Ljava/util/TreeMap$Entry;" } : Jvm.MethodName)) ∈ lw_all := lw_g (lw_at lw_m7 170 rfl) rfl
theorem q1726 : (Jvm.Cond.static ({ cls := "java/util/TreeMap", name := "leftOf", desc := "(Ljava/util/TreeMap$Entry;)Ljava/util/TreeMap$Entry;" } : Jvm.MethodName)) ∈ lw_all := lw_g (lw_at lw_m7 171 rfl) rfl
theorem q1727 : (Jvm.Cond.code ({ cls := "java/util/TreeMap", name := "leftOf", desc := "(Ljava/util/TreeMap$Entry;)Ljava/util/TreeMap$Entry;" } : Jvm.MethodName) prog_65_method_79_code (1 : Nat) (Option.some (Jvm.ClassFile.FieldType.object "java/util/TreeMap$Entry"))) ∈ lw_all := lw_g (lw_at lw_m7 172 rfl) rfl
theorem q1728 : (Jvm.Cond.methodLink "java/util/TreeMap" (300 : Nat) ({ cls := "java/util/TreeMap", name := "rightOf", desc := "(Ljava/util/TreeMap$Entry;)Ljava/util/TreeMap$Entry;" } : Jvm.MethodName)) ∈ lw_all := lw_g (lw_at lw_m7 173 rfl) rfl
theorem q1729 : (Jvm.Cond.static ({ cls := "java/util/TreeMap", name := "rightOf", desc := "(Ljava/util/TreeMap$Entry;)Ljava/util/TreeMap$Entry;" } : Jvm.MethodName)) ∈ lw_all := lw_g (lw_at lw_m7 174 rfl) rfl
theorem q1730 : (Jvm.Cond.code ({ cls := "java/util/TreeMap", name := "rightOf", desc := "(Ljava/util/TreeMap$Entry;)Ljava/util/TreeMap$Entry;" } : Jvm.MethodName) prog_65_method_80_code (1 : Nat) (Option.some (Jvm.ClassFile.FieldType.object "java/util/TreeMap$Entry"))) ∈ lw_all := lw_g (lw_at lw_m7 175 rfl) rfl
theorem q1731 : (Jvm.Cond.methodLink "java/util/TreeMap" (303 : Nat) ({ cls := "java/util/TreeMap", name := "colorOf", desc := "(Ljava/util/TreeMap$Entry;)Z" } : Jvm.MethodName)) ∈ lw_all := lw_g (lw_at lw_m7 176 rfl) rfl
theorem q1732 : (Jvm.Cond.static ({ cls := "java/util/TreeMap", name := "colorOf", desc := "(Ljava/util/TreeMap$Entry;)Z" } : Jvm.MethodName)) ∈ lw_all := lw_g (lw_at lw_m7 177 rfl) rfl
theorem q1733 : (Jvm.Cond.code ({ cls := "java/util/TreeMap", name := "colorOf", desc := "(Ljava/util/TreeMap$Entry;)Z" } : Jvm.MethodName) prog_65_method_76_code (1 : Nat) (Option.some Jvm.ClassFile.FieldType.boolean)) ∈ lw_all := lw_g (lw_at lw_m7 178 rfl) rfl
theorem q1734 : (Jvm.Cond.methodLink "java/util/TreeMap" (307 : Nat) ({ cls := "java/util/TreeMap", name := "setColor", desc := "(Ljava/util/TreeMap$Entry;Z)V" } : Jvm.MethodName)) ∈ lw_all := lw_g (lw_at lw_m7 179 rfl) rfl
theorem q1735 : (Jvm.Cond.static ({ cls := "java/util/TreeMap", name := "setColor", desc := "(Ljava/util/TreeMap$Entry;Z)V" } : Jvm.MethodName)) ∈ lw_all := lw_g (lw_at lw_m7 180 rfl) rfl
theorem q1736 : (Jvm.Cond.code ({ cls := "java/util/TreeMap", name := "setColor", desc := "(Ljava/util/TreeMap$Entry;Z)V" } : Jvm.MethodName) prog_65_method_78_code (2 : Nat) (Option.none : Option Jvm.ClassFile.FieldType)) ∈ lw_all := lw_g (lw_at lw_m7 181 rfl) rfl
theorem q1737 : (Jvm.Cond.methodLink "java/util/TreeMap" (311 : Nat) ({ cls := "java/util/TreeMap", name := "rotateLeft", desc := "(Ljava/util/TreeMap$Entry;)V" } : Jvm.MethodName)) ∈ lw_all := lw_g (lw_at lw_m7 182 rfl) rfl
theorem q1738 : (Jvm.Cond.privateMethod ({ cls := "java/util/TreeMap", name := "rotateLeft", desc := "(Ljava/util/TreeMap$Entry;)V" } : Jvm.MethodName)) ∈ lw_tbl := lw_at lw_m7 183 rfl
theorem q1739 : (Jvm.Cond.instanceMethod ({ cls := "java/util/TreeMap", name := "rotateLeft", desc := "(Ljava/util/TreeMap$Entry;)V" } : Jvm.MethodName)) ∈ lw_all := lw_g (lw_at lw_m7 184 rfl) rfl
theorem q1740 : (Jvm.Cond.code ({ cls := "java/util/TreeMap", name := "rotateLeft", desc := "(Ljava/util/TreeMap$Entry;)V" } : Jvm.MethodName) prog_65_method_81_code (3 : Nat) (Option.none : Option Jvm.ClassFile.FieldType)) ∈ lw_all := lw_g (lw_at lw_m7 185 rfl) rfl
theorem q1741 : (Jvm.Cond.methodLink "java/util/TreeMap" (314 : Nat) ({ cls := "java/util/TreeMap", name := "rotateRight", desc := "(Ljava/util/TreeMap$Entry;)V" } : Jvm.MethodName)) ∈ lw_all := lw_g (lw_at lw_m7 186 rfl) rfl
theorem q1742 : (Jvm.Cond.privateMethod ({ cls := "java/util/TreeMap", name := "rotateRight", desc := "(Ljava/util/TreeMap$Entry;)V" } : Jvm.MethodName)) ∈ lw_tbl := lw_at lw_m7 187 rfl
theorem q1743 : (Jvm.Cond.instanceMethod ({ cls := "java/util/TreeMap", name := "rotateRight", desc := "(Ljava/util/TreeMap$Entry;)V" } : Jvm.MethodName)) ∈ lw_all := lw_g (lw_at lw_m7 188 rfl) rfl
theorem q1744 : (Jvm.Cond.code ({ cls := "java/util/TreeMap", name := "rotateRight", desc := "(Ljava/util/TreeMap$Entry;)V" } : Jvm.MethodName) prog_65_method_82_code (3 : Nat) (Option.none : Option Jvm.ClassFile.FieldType)) ∈ lw_all := lw_g (lw_at lw_m7 189 rfl) rfl
theorem q1809 : (Jvm.Cond.instanceMethod ({ cls := "java/util/TreeMap", name := "remove", desc := "(Ljava/lang/Object;)Ljava/lang/Object;" } : Jvm.MethodName)) ∈ lw_all := lw_g (lw_at lw_m8 14 rfl) rfl
theorem q1810 : (Jvm.Cond.selects "java/util/TreeMap" ({ cls := "java/util/TreeMap", name := "remove", desc := "(Ljava/lang/Object;)Ljava/lang/Object;" } : Jvm.MethodName) ({ cls := "java/util/TreeMap", name := "remove", desc := "(Ljava/lang/Object;)Ljava/lang/Object;" } : Jvm.MethodName)) ∈ lw_all := lw_g (lw_at lw_m8 15 rfl) rfl
theorem q1811 : (Jvm.Cond.code ({ cls := "java/util/TreeMap", name := "remove", desc := "(Ljava/lang/Object;)Ljava/lang/Object;" } : Jvm.MethodName) prog_65_method_34_code (4 : Nat) (Option.some (Jvm.ClassFile.FieldType.object "java/lang/Object"))) ∈ lw_all := lw_g (lw_at lw_m8 16 rfl) rfl
theorem q1812 : (Jvm.Cond.methodLink "java/util/TreeMap" (174 : Nat) ({ cls := "java/util/TreeMap", name := "deleteEntry", desc := "(Ljava/util/TreeMap$Entry;)V" } : Jvm.MethodName)) ∈ lw_all := lw_g (lw_at lw_m8 17 rfl) rfl
theorem q1813 : (Jvm.Cond.privateMethod ({ cls := "java/util/TreeMap", name := "deleteEntry", desc := "(Ljava/util/TreeMap$Entry;)V" } : Jvm.MethodName)) ∈ lw_tbl := lw_at lw_m8 18 rfl
theorem q1814 : (Jvm.Cond.instanceMethod ({ cls := "java/util/TreeMap", name := "deleteEntry", desc := "(Ljava/util/TreeMap$Entry;)V" } : Jvm.MethodName)) ∈ lw_all := lw_g (lw_at lw_m8 19 rfl) rfl
theorem q1815 : (Jvm.Cond.code ({ cls := "java/util/TreeMap", name := "deleteEntry", desc := "(Ljava/util/TreeMap$Entry;)V" } : Jvm.MethodName) prog_65_method_84_code (3 : Nat) (Option.none : Option Jvm.ClassFile.FieldType)) ∈ lw_all := lw_g (lw_at lw_m8 20 rfl) rfl
theorem q1816 : (Jvm.Cond.methodLink "java/util/TreeMap" (68 : Nat) ({ cls := "java/util/TreeMap", name := "successor", desc := "(Ljava/util/TreeMap$Entry;)Ljava/util/TreeMap$Entry;" } : Jvm.MethodName)) ∈ lw_all := lw_g (lw_at lw_m8 21 rfl) rfl
theorem q1817 : (Jvm.Cond.static ({ cls := "java/util/TreeMap", name := "successor", desc := "(Ljava/util/TreeMap$Entry;)Ljava/util/TreeMap$Entry;" } : Jvm.MethodName)) ∈ lw_all := lw_g (lw_at lw_m8 22 rfl) rfl
theorem q1818 : (Jvm.Cond.code ({ cls := "java/util/TreeMap", name := "successor", desc := "(Ljava/util/TreeMap$Entry;)Ljava/util/TreeMap$Entry;" } : Jvm.MethodName) prog_65_method_74_code (3 : Nat) (Option.some (Jvm.ClassFile.FieldType.object "java/util/TreeMap$Entry"))) ∈ lw_all := lw_g (lw_at lw_m8 23 rfl) rfl
theorem q1819 : (Jvm.Cond.methodLink "java/util/TreeMap" (317 : Nat) ({ cls := "java/util/TreeMap", name := "fixAfterDeletion", desc := "(Ljava/util/TreeMap$Entry;)V" } : Jvm.MethodName)) ∈ lw_all := lw_g (lw_at lw_m8 24 rfl) rfl
theorem q1820 : (Jvm.Cond.privateMethod ({ cls := "java/util/TreeMap", name := "fixAfterDeletion", desc := "(Ljava/util/TreeMap$Entry;)V" } : Jvm.MethodName)) ∈ lw_tbl := lw_at lw_m8 25 rfl
theorem q1821 : (Jvm.Cond.instanceMethod ({ cls := "java/util/TreeMap", name := "fixAfterDeletion", desc := "(Ljava/util/TreeMap$Entry;)V" } : Jvm.MethodName)) ∈ lw_all := lw_g (lw_at lw_m8 26 rfl) rfl
theorem q1822 : (Jvm.Cond.code ({ cls := "java/util/TreeMap", name := "fixAfterDeletion", desc := "(Ljava/util/TreeMap$Entry;)V" } : Jvm.MethodName) prog_65_method_85_code (3 : Nat) (Option.none : Option Jvm.ClassFile.FieldType)) ∈ lw_all := lw_g (lw_at lw_m8 27 rfl) rfl
theorem q1828 : (Jvm.Cond.instanceMethod ({ cls := "java/util/TreeMap", name := "size", desc := "()I" } : Jvm.MethodName)) ∈ lw_all := lw_g (lw_at lw_m8 33 rfl) rfl
theorem q1829 : (Jvm.Cond.selects "java/util/TreeMap" ({ cls := "java/util/TreeMap", name := "size", desc := "()I" } : Jvm.MethodName) ({ cls := "java/util/TreeMap", name := "size", desc := "()I" } : Jvm.MethodName)) ∈ lw_all := lw_g (lw_at lw_m8 34 rfl) rfl
theorem q1830 : (Jvm.Cond.code ({ cls := "java/util/TreeMap", name := "size", desc := "()I" } : Jvm.MethodName) prog_65_method_5_code (1 : Nat) (Option.some Jvm.ClassFile.FieldType.int)) ∈ lw_all := lw_g (lw_at lw_m8 35 rfl) rfl
theorem q1832 : (Jvm.Cond.instanceMethod ({ cls := "java/util/TreeMap", name := "clear", desc := "()V" } : Jvm.MethodName)) ∈ lw_all := lw_g (lw_at lw_m8 37 rfl) rfl
theorem q1833 : (Jvm.Cond.selects "java/util/TreeMap" ({ cls := "java/util/TreeMap", name := "clear", desc := "()V" } : Jvm.MethodName) ({ cls := "java/util/TreeMap", name := "clear", desc := "()V" } : Jvm.MethodName)) ∈ lw_all := lw_g (lw_at lw_m8 38 rfl) rfl
theorem q1834 : (Jvm.Cond.code ({ cls := "java/util/TreeMap", name := "clear", desc := "()V" } : Jvm.MethodName) prog_65_method_35_code (1 : Nat) (Option.none : Option Jvm.ClassFile.FieldType)) ∈ lw_all := lw_g (lw_at lw_m8 39 rfl) rfl
theorem q2038 : (Jvm.Cond.instanceMethod ({ cls := "java/util/TreeMap", name := "get", desc := "(Ljava/lang/Object;)Ljava/lang/Object;" } : Jvm.MethodName)) ∈ lw_all := lw_g (lw_at lw_m9 3 rfl) rfl
theorem q2039 : (Jvm.Cond.selects "java/util/TreeMap" ({ cls := "java/util/TreeMap", name := "get", desc := "(Ljava/lang/Object;)Ljava/lang/Object;" } : Jvm.MethodName) ({ cls := "java/util/TreeMap", name := "get", desc := "(Ljava/lang/Object;)Ljava/lang/Object;" } : Jvm.MethodName)) ∈ lw_all := lw_g (lw_at lw_m9 4 rfl) rfl
theorem q2040 : (Jvm.Cond.code ({ cls := "java/util/TreeMap", name := "get", desc := "(Ljava/lang/Object;)Ljava/lang/Object;" } : Jvm.MethodName) prog_65_method_8_code (3 : Nat) (Option.some (Jvm.ClassFile.FieldType.object "java/lang/Object"))) ∈ lw_all := lw_g (lw_at lw_m9 5 rfl) rfl
theorem q2783 : (Jvm.Cond.selects "java/util/TreeMap" ({ cls := "java/util/TreeMap", name := "containsKey", desc := "(Ljava/lang/Object;)Z" } : Jvm.MethodName) ({ cls := "java/util/TreeMap", name := "containsKey", desc := "(Ljava/lang/Object;)Z" } : Jvm.MethodName)) ∈ lw_all := lw_g (lw_at lw_m12 28 rfl) rfl
theorem q2784 : (Jvm.Cond.selects "java/util/TreeMap" ({ cls := "java/util/TreeMap", name := "put", desc := "(Ljava/lang/Object;Ljava/lang/Object;)Ljava/lang/Object;" } : Jvm.MethodName) ({ cls := "java/util/TreeMap", name := "put", desc := "(Ljava/lang/Object;Ljava/lang/Object;)Ljava/lang/Object;" } : Jvm.MethodName)) ∈ lw_all := lw_g (lw_at lw_m12 29 rfl) rfl
theorem q2797 : (Jvm.Cond.castable "java/util/TreeMap" "java/lang/Object") ∈ lw_tbl := lw_at lw_m12 42 rfl
theorem in_J5 : ∀ w ∈ wsJ50, w ∈ lw_all := lw_in wsJ50 [299, 300, 285, 287, 289, 291, 293, 295, 297] (by decide +kernel) (by decide +kernel)
/-! java/lang/Throwable -/
set_option maxRecDepth 100000
def RJ6 : String := "java/lang/Throwable"
def TJ6 : u_T := fun k => match k with
  | 0 => ("java/lang/Throwable", "cause", "Ljava/lang/Throwable;", false)
  | 1 => ("java/lang/Throwable", "stackTrace", "[Ljava/lang/StackTraceElement;", false)
  | 2 => ("java/lang/Throwable", "suppressedExceptions", "Ljava/util/List;", false)
  | 3 => ("java/lang/Throwable", "detailMessage", "Ljava/lang/String;", false)
  | _ => ("java/lang/Throwable", "backtrace", "Ljava/lang/Object;", false)
def tyJ6 : Nat → FieldType := fun k => match k with
  | 0 => .object "java/lang/Throwable"
  | 1 => .array (.object "java/lang/StackTraceElement")
  | 2 => .object "java/util/List"
  | 3 => .object "java/lang/String"
  | _ => .object "java/lang/Object"
abbrev wsJ60 : List Cond := u_ws RJ6 TJ6 5
theorem nmJ6 : ∀ a, a < 5 → ∀ b, b < 5 → a ≠ b → (TJ6 a).2.1 ≠ (TJ6 b).2.1 := by decide +kernel
theorem tyJ6_ok : ∀ k, k < 5 → parseFieldDescriptor (TJ6 k).2.2.1 = some (tyJ6 k) := by decide +kernel
abbrev cJ6_init : ByteArray := prog_41_method_1_code
def yJ6_init : MethodName := ⟨RJ6, "<init>", "()V"⟩
def dkwJ6_init_1 : List UInt8 := [182, 0, 27, 87, 177]
abbrev dktJ6_init_1 : List UInt8 := dkwJ6_init_1 ++ []
def dkwJ6_init_0 : List UInt8 := [42, 183, 0, 1, 42, 42, 181, 0, 7, 42, 178, 0, 13, 181, 0, 17, 42, 178, 0, 20, 181, 0, 24, 42]
abbrev dktJ6_init_0 : List UInt8 := dkwJ6_init_0 ++ dktJ6_init_1
theorem dksJ6_init_0 : cJ6_init.data.toList.drop 0 = dktJ6_init_0 := by decide +kernel
theorem dksJ6_init_1 : cJ6_init.data.toList.drop 24 = dktJ6_init_1 := dk_seg dksJ6_init_0 24 rfl rfl
theorem dJ6_init_0 : decode cJ6_init 0 = .ok (.aload_n 0, 1) := dk_42 (dk_at dksJ6_init_0 0 rfl rfl)
theorem dJ6_init_1 : decode cJ6_init 1 = .ok (.invokespecial 1, 3) := dk_183 0 1 (dk_at dksJ6_init_0 1 rfl rfl)
theorem dJ6_init_4 : decode cJ6_init 4 = .ok (.aload_n 0, 1) := dk_42 (dk_at dksJ6_init_0 4 rfl rfl)
theorem dJ6_init_5 : decode cJ6_init 5 = .ok (.aload_n 0, 1) := dk_42 (dk_at dksJ6_init_0 5 rfl rfl)
theorem dJ6_init_6 : decode cJ6_init 6 = .ok (.putfield 7, 3) := dk_181 0 7 (dk_at dksJ6_init_0 6 rfl rfl)
theorem dJ6_init_9 : decode cJ6_init 9 = .ok (.aload_n 0, 1) := dk_42 (dk_at dksJ6_init_0 9 rfl rfl)
theorem dJ6_init_10 : decode cJ6_init 10 = .ok (.getstatic 13, 3) := dk_178 0 13 (dk_at dksJ6_init_0 10 rfl rfl)
theorem dJ6_init_13 : decode cJ6_init 13 = .ok (.putfield 17, 3) := dk_181 0 17 (dk_at dksJ6_init_0 13 rfl rfl)
theorem dJ6_init_16 : decode cJ6_init 16 = .ok (.aload_n 0, 1) := dk_42 (dk_at dksJ6_init_0 16 rfl rfl)
theorem dJ6_init_17 : decode cJ6_init 17 = .ok (.getstatic 20, 3) := dk_178 0 20 (dk_at dksJ6_init_0 17 rfl rfl)
theorem dJ6_init_20 : decode cJ6_init 20 = .ok (.putfield 24, 3) := dk_181 0 24 (dk_at dksJ6_init_0 20 rfl rfl)
theorem dJ6_init_23 : decode cJ6_init 23 = .ok (.aload_n 0, 1) := dk_42 (dk_at dksJ6_init_0 23 rfl rfl)
theorem dJ6_init_24 : decode cJ6_init 24 = .ok (.invokevirtual 27, 3) := dk_182 0 27 (dk_at dksJ6_init_1 0 rfl rfl)
theorem dJ6_init_27 : decode cJ6_init 27 = .ok (.pop, 1) := dk_87 (dk_at dksJ6_init_1 3 rfl rfl)
theorem dJ6_init_28 : decode cJ6_init 28 = .ok (.return_, 1) := dk_177 (dk_at dksJ6_init_1 4 rfl rfl)
abbrev cJ6_init_2 : ByteArray := prog_41_method_2_code
def yJ6_init_2 : MethodName := ⟨RJ6, "<init>", "(Ljava/lang/String;)V"⟩
def dkwJ6_init_2_1 : List UInt8 := [182, 0, 27, 87, 42, 43, 181, 0, 31, 177]
abbrev dktJ6_init_2_1 : List UInt8 := dkwJ6_init_2_1 ++ []
def dkwJ6_init_2_0 : List UInt8 := [42, 183, 0, 1, 42, 42, 181, 0, 7, 42, 178, 0, 13, 181, 0, 17, 42, 178, 0, 20, 181, 0, 24, 42]
abbrev dktJ6_init_2_0 : List UInt8 := dkwJ6_init_2_0 ++ dktJ6_init_2_1
theorem dksJ6_init_2_0 : cJ6_init_2.data.toList.drop 0 = dktJ6_init_2_0 := by decide +kernel
theorem dksJ6_init_2_1 : cJ6_init_2.data.toList.drop 24 = dktJ6_init_2_1 := dk_seg dksJ6_init_2_0 24 rfl rfl
theorem dJ6_init_2_0 : decode cJ6_init_2 0 = .ok (.aload_n 0, 1) := dk_42 (dk_at dksJ6_init_2_0 0 rfl rfl)
theorem dJ6_init_2_1 : decode cJ6_init_2 1 = .ok (.invokespecial 1, 3) := dk_183 0 1 (dk_at dksJ6_init_2_0 1 rfl rfl)
theorem dJ6_init_2_4 : decode cJ6_init_2 4 = .ok (.aload_n 0, 1) := dk_42 (dk_at dksJ6_init_2_0 4 rfl rfl)
theorem dJ6_init_2_5 : decode cJ6_init_2 5 = .ok (.aload_n 0, 1) := dk_42 (dk_at dksJ6_init_2_0 5 rfl rfl)
theorem dJ6_init_2_6 : decode cJ6_init_2 6 = .ok (.putfield 7, 3) := dk_181 0 7 (dk_at dksJ6_init_2_0 6 rfl rfl)
theorem dJ6_init_2_9 : decode cJ6_init_2 9 = .ok (.aload_n 0, 1) := dk_42 (dk_at dksJ6_init_2_0 9 rfl rfl)
theorem dJ6_init_2_10 : decode cJ6_init_2 10 = .ok (.getstatic 13, 3) := dk_178 0 13 (dk_at dksJ6_init_2_0 10 rfl rfl)
theorem dJ6_init_2_13 : decode cJ6_init_2 13 = .ok (.putfield 17, 3) := dk_181 0 17 (dk_at dksJ6_init_2_0 13 rfl rfl)
theorem dJ6_init_2_16 : decode cJ6_init_2 16 = .ok (.aload_n 0, 1) := dk_42 (dk_at dksJ6_init_2_0 16 rfl rfl)
theorem dJ6_init_2_17 : decode cJ6_init_2 17 = .ok (.getstatic 20, 3) := dk_178 0 20 (dk_at dksJ6_init_2_0 17 rfl rfl)
theorem dJ6_init_2_20 : decode cJ6_init_2 20 = .ok (.putfield 24, 3) := dk_181 0 24 (dk_at dksJ6_init_2_0 20 rfl rfl)
theorem dJ6_init_2_23 : decode cJ6_init_2 23 = .ok (.aload_n 0, 1) := dk_42 (dk_at dksJ6_init_2_0 23 rfl rfl)
theorem dJ6_init_2_24 : decode cJ6_init_2 24 = .ok (.invokevirtual 27, 3) := dk_182 0 27 (dk_at dksJ6_init_2_1 0 rfl rfl)
theorem dJ6_init_2_27 : decode cJ6_init_2 27 = .ok (.pop, 1) := dk_87 (dk_at dksJ6_init_2_1 3 rfl rfl)
theorem dJ6_init_2_28 : decode cJ6_init_2 28 = .ok (.aload_n 0, 1) := dk_42 (dk_at dksJ6_init_2_1 4 rfl rfl)
theorem dJ6_init_2_29 : decode cJ6_init_2 29 = .ok (.aload_n 1, 1) := dk_43 (dk_at dksJ6_init_2_1 5 rfl rfl)
theorem dJ6_init_2_30 : decode cJ6_init_2 30 = .ok (.putfield 31, 3) := dk_181 0 31 (dk_at dksJ6_init_2_1 6 rfl rfl)
theorem dJ6_init_2_33 : decode cJ6_init_2 33 = .ok (.return_, 1) := dk_177 (dk_at dksJ6_init_2_1 9 rfl rfl)
theorem q127 : (Jvm.Cond.initialized "java/lang/Throwable") ∈ lw_all := lw_g (lw_at lw_m1 12 rfl) rfl
theorem q417 : (Jvm.Cond.declares ({ cls := "java/lang/Throwable", name := "<init>", desc := "()V" } : Jvm.MethodName)) ∈ lw_tbl := lw_at lw_m2 62 rfl
theorem q418 : (Jvm.Cond.declares ({ cls := "java/lang/Throwable", name := "<init>", desc := "(Ljava/lang/String;)V" } : Jvm.MethodName)) ∈ lw_tbl := lw_at lw_m2 63 rfl
theorem q422 : (Jvm.Cond.lays "java/lang/Throwable" "java/lang/Throwable" "cause" "Ljava/lang/Throwable;") ∈ lw_all := lw_g (lw_at lw_m2 67 rfl) rfl
theorem q424 : (Jvm.Cond.lays "java/lang/Throwable" "java/lang/Throwable" "stackTrace" "[Ljava/lang/StackTraceElement;") ∈ lw_all := lw_g (lw_at lw_m2 69 rfl) rfl
theorem q426 : (Jvm.Cond.lays "java/lang/Throwable" "java/lang/Throwable" "suppressedExceptions" "Ljava/util/List;") ∈ lw_all := lw_g (lw_at lw_m2 71 rfl) rfl
theorem q428 : (Jvm.Cond.lays "java/lang/Throwable" "java/lang/Throwable" "detailMessage" "Ljava/lang/String;") ∈ lw_all := lw_g (lw_at lw_m2 73 rfl) rfl
theorem q430 : (Jvm.Cond.lays "java/lang/Throwable" "java/lang/Throwable" "backtrace" "Ljava/lang/Object;") ∈ lw_all := lw_g (lw_at lw_m2 75 rfl) rfl
theorem q431 : (Jvm.Cond.fieldLink "java/lang/Throwable" (198 : Nat) "java/lang/Throwable" "backtrace" "Ljava/lang/Object;") ∈ lw_all := lw_g (lw_at lw_m2 76 rfl) rfl
theorem q432 : (Jvm.Cond.superclass "java/lang/Throwable" "java/lang/Object") ∈ lw_all := lw_g (lw_at lw_m2 77 rfl) rfl
theorem q433 : (Jvm.Cond.instanceMethod ({ cls := "java/lang/Throwable", name := "<init>", desc := "()V" } : Jvm.MethodName)) ∈ lw_all := lw_g (lw_at lw_m2 78 rfl) rfl
theorem q434 : (Jvm.Cond.code ({ cls := "java/lang/Throwable", name := "<init>", desc := "()V" } : Jvm.MethodName) prog_41_method_1_code (1 : Nat) (Option.none : Option Jvm.ClassFile.FieldType)) ∈ lw_all := lw_g (lw_at lw_m2 79 rfl) rfl
theorem q435 : (Jvm.Cond.methodLink "java/lang/Throwable" (1 : Nat) ({ cls := "java/lang/Object", name := "<init>", desc := "()V" } : Jvm.MethodName)) ∈ lw_all := lw_g (lw_at lw_m2 80 rfl) rfl
theorem q436 : (Jvm.Cond.fieldLink "java/lang/Throwable" (13 : Nat) "java/lang/Throwable" "UNASSIGNED_STACK" "[Ljava/lang/StackTraceElement;") ∈ lw_all := lw_g (lw_at lw_m2 81 rfl) rfl
theorem q437 : (Jvm.Cond.laysStatic "java/lang/Throwable" "UNASSIGNED_STACK" "[Ljava/lang/StackTraceElement;") ∈ lw_tbl := lw_at lw_m2 82 rfl
theorem q438 : (Jvm.Cond.fieldLink "java/lang/Throwable" (20 : Nat) "java/lang/Throwable" "SUPPRESSED_SENTINEL" "Ljava/util/List;") ∈ lw_all := lw_g (lw_at lw_m2 83 rfl) rfl
theorem q439 : (Jvm.Cond.laysStatic "java/lang/Throwable" "SUPPRESSED_SENTINEL" "Ljava/util/List;") ∈ lw_tbl := lw_at lw_m2 84 rfl
theorem q440 : (Jvm.Cond.methodLink "java/lang/Throwable" (27 : Nat) ({ cls := "java/lang/Throwable", name := "fillInStackTrace", desc := "()Ljava/lang/Throwable;" } : Jvm.MethodName)) ∈ lw_all := lw_g (lw_at lw_m2 85 rfl) rfl
theorem q441 : (Jvm.Cond.instanceMethod ({ cls := "java/lang/Throwable", name := "fillInStackTrace", desc := "()Ljava/lang/Throwable;" } : Jvm.MethodName)) ∈ lw_all := lw_g (lw_at lw_m2 86 rfl) rfl
theorem q442 : (Jvm.Cond.sameMethod "java/lang/Throwable" "java/lang/Throwable" "fillInStackTrace" "()Ljava/lang/Throwable;") ∈ lw_all := lw_g (lw_at lw_m2 87 rfl) rfl
theorem q446 : (Jvm.Cond.codeSync ({ cls := "java/lang/Throwable", name := "fillInStackTrace", desc := "()Ljava/lang/Throwable;" } : Jvm.MethodName) prog_41_method_18_code (1 : Nat) (Option.some (Jvm.ClassFile.FieldType.object "java/lang/Throwable"))) ∈ lw_all := lw_g (lw_at lw_m2 91 rfl) rfl
theorem q447 : (Jvm.Cond.methodLink "java/lang/Throwable" (202 : Nat) ({ cls := "java/lang/Throwable", name := "fillInStackTrace", desc := "(I)Ljava/lang/Throwable;" } : Jvm.MethodName)) ∈ lw_all := lw_g (lw_at lw_m2 92 rfl) rfl
theorem q448 : (Jvm.Cond.privateMethod ({ cls := "java/lang/Throwable", name := "fillInStackTrace", desc := "(I)Ljava/lang/Throwable;" } : Jvm.MethodName)) ∈ lw_tbl := lw_at lw_m2 93 rfl
theorem q449 : (Jvm.Cond.instanceMethod ({ cls := "java/lang/Throwable", name := "fillInStackTrace", desc := "(I)Ljava/lang/Throwable;" } : Jvm.MethodName)) ∈ lw_all := lw_g (lw_at lw_m2 94 rfl) rfl
theorem q450 : (Jvm.Cond.instantiable "java/lang/Throwable" (6 : Nat)) ∈ lw_all := lw_g (lw_at lw_m2 95 rfl) rfl
theorem q451 : (Jvm.Cond.native ({ cls := "java/lang/Throwable", name := "fillInStackTrace", desc := "(I)Ljava/lang/Throwable;" } : Jvm.MethodName)) ∈ lw_all := lw_g (lw_at lw_m2 96 rfl) rfl
theorem q463 : (Jvm.Cond.instanceMethod ({ cls := "java/lang/Throwable", name := "<init>", desc := "(Ljava/lang/String;)V" } : Jvm.MethodName)) ∈ lw_all := lw_g (lw_at lw_m2 108 rfl) rfl
theorem q464 : (Jvm.Cond.code ({ cls := "java/lang/Throwable", name := "<init>", desc := "(Ljava/lang/String;)V" } : Jvm.MethodName) prog_41_method_2_code (2 : Nat) (Option.none : Option Jvm.ClassFile.FieldType)) ∈ lw_all := lw_g (lw_at lw_m2 109 rfl) rfl
theorem q465 : (Jvm.Cond.fieldLink "java/lang/Throwable" (198 : Nat) "java/lang/Throwable" "backtrace" "Ljava/lang/Object;") ∈ lw_all := lw_g (lw_at lw_m2 110 rfl) rfl
theorem q466 : (Jvm.Cond.fieldLink "java/lang/Throwable" (31 : Nat) "java/lang/Throwable" "detailMessage" "Ljava/lang/String;") ∈ lw_all := lw_g (lw_at lw_m2 111 rfl) rfl
theorem q467 : (Jvm.Cond.fieldLink "java/lang/Throwable" (7 : Nat) "java/lang/Throwable" "cause" "Ljava/lang/Throwable;") ∈ lw_all := lw_g (lw_at lw_m2 112 rfl) rfl
theorem q468 : (Jvm.Cond.fieldLink "java/lang/Throwable" (17 : Nat) "java/lang/Throwable" "stackTrace" "[Ljava/lang/StackTraceElement;") ∈ lw_all := lw_g (lw_at lw_m2 113 rfl) rfl
theorem q469 : (Jvm.Cond.fieldLink "java/lang/Throwable" (24 : Nat) "java/lang/Throwable" "suppressedExceptions" "Ljava/util/List;") ∈ lw_all := lw_g (lw_at lw_m2 114 rfl) rfl
theorem q470 : (Jvm.Cond.soleField "java/lang/Throwable" "backtrace") ∈ lw_all := lw_g (lw_at lw_m2 115 rfl) rfl
theorem q471 : (Jvm.Cond.soleField "java/lang/Throwable" "detailMessage") ∈ lw_all := lw_g (lw_at lw_m2 116 rfl) rfl
theorem q472 : (Jvm.Cond.soleField "java/lang/Throwable" "cause") ∈ lw_all := lw_g (lw_at lw_m2 117 rfl) rfl
theorem q473 : (Jvm.Cond.soleField "java/lang/Throwable" "stackTrace") ∈ lw_all := lw_g (lw_at lw_m2 118 rfl) rfl
theorem q475 : (Jvm.Cond.soleField "java/lang/Throwable" "depth") ∈ lw_all := lw_g (lw_at lw_m2 120 rfl) rfl
theorem q476 : (Jvm.Cond.soleField "java/lang/Throwable" "suppressedExceptions") ∈ lw_all := lw_g (lw_at lw_m2 121 rfl) rfl
theorem q2769 : (Jvm.Cond.sameMethod "java/lang/Throwable" "java/lang/Throwable" "fillInStackTrace" "(I)Ljava/lang/Throwable;") ∈ lw_all := lw_g (lw_at lw_m12 14 rfl) rfl
theorem q2814 : (Jvm.Cond.castable "java/lang/Throwable" "java/lang/Object") ∈ lw_tbl := lw_at lw_m12 59 rfl
theorem in_J6 : ∀ w ∈ wsJ60, w ∈ lw_all := lw_in wsJ60 [422, 424, 426, 428, 430] (by decide +kernel) (by decide +kernel)
/-! java/lang/Exception -/
set_option maxRecDepth 100000
def RJ7 : String := "java/lang/Exception"
abbrev cJ7_init : ByteArray := prog_23_method_2_code
def yJ7_init : MethodName := ⟨RJ7, "<init>", "(Ljava/lang/String;)V"⟩
def dkwJ7_init_0 : List UInt8 := [42, 43, 183, 0, 7, 177]
abbrev dktJ7_init_0 : List UInt8 := dkwJ7_init_0 ++ []
theorem dksJ7_init_0 : cJ7_init.data.toList.drop 0 = dktJ7_init_0 := by decide +kernel
theorem dJ7_init_0 : decode cJ7_init 0 = .ok (.aload_n 0, 1) := dk_42 (dk_at dksJ7_init_0 0 rfl rfl)
theorem dJ7_init_1 : decode cJ7_init 1 = .ok (.aload_n 1, 1) := dk_43 (dk_at dksJ7_init_0 1 rfl rfl)
theorem dJ7_init_2 : decode cJ7_init 2 = .ok (.invokespecial 7, 3) := dk_183 0 7 (dk_at dksJ7_init_0 2 rfl rfl)
theorem dJ7_init_5 : decode cJ7_init 5 = .ok (.return_, 1) := dk_177 (dk_at dksJ7_init_0 5 rfl rfl)
theorem q128 : (Jvm.Cond.initialized "java/lang/Exception") ∈ lw_all := lw_g (lw_at lw_m1 13 rfl) rfl
theorem q415 : (Jvm.Cond.declares ({ cls := "java/lang/Exception", name := "<init>", desc := "()V" } : Jvm.MethodName)) ∈ lw_tbl := lw_at lw_m2 60 rfl
theorem q416 : (Jvm.Cond.declares ({ cls := "java/lang/Exception", name := "<init>", desc := "(Ljava/lang/String;)V" } : Jvm.MethodName)) ∈ lw_tbl := lw_at lw_m2 61 rfl
theorem q460 : (Jvm.Cond.instanceMethod ({ cls := "java/lang/Exception", name := "<init>", desc := "(Ljava/lang/String;)V" } : Jvm.MethodName)) ∈ lw_all := lw_g (lw_at lw_m2 105 rfl) rfl
theorem q461 : (Jvm.Cond.code ({ cls := "java/lang/Exception", name := "<init>", desc := "(Ljava/lang/String;)V" } : Jvm.MethodName) prog_23_method_2_code (2 : Nat) (Option.none : Option Jvm.ClassFile.FieldType)) ∈ lw_all := lw_g (lw_at lw_m2 106 rfl) rfl
theorem q462 : (Jvm.Cond.methodLink "java/lang/Exception" (7 : Nat) ({ cls := "java/lang/Throwable", name := "<init>", desc := "(Ljava/lang/String;)V" } : Jvm.MethodName)) ∈ lw_all := lw_g (lw_at lw_m2 107 rfl) rfl
/-! java/lang/RuntimeException -/
set_option maxRecDepth 100000
def RJ8 : String := "java/lang/RuntimeException"
abbrev cJ8_init : ByteArray := prog_34_method_2_code
def yJ8_init : MethodName := ⟨RJ8, "<init>", "(Ljava/lang/String;)V"⟩
def dkwJ8_init_0 : List UInt8 := [42, 43, 183, 0, 7, 177]
abbrev dktJ8_init_0 : List UInt8 := dkwJ8_init_0 ++ []
theorem dksJ8_init_0 : cJ8_init.data.toList.drop 0 = dktJ8_init_0 := by decide +kernel
theorem dJ8_init_0 : decode cJ8_init 0 = .ok (.aload_n 0, 1) := dk_42 (dk_at dksJ8_init_0 0 rfl rfl)
theorem dJ8_init_1 : decode cJ8_init 1 = .ok (.aload_n 1, 1) := dk_43 (dk_at dksJ8_init_0 1 rfl rfl)
theorem dJ8_init_2 : decode cJ8_init 2 = .ok (.invokespecial 7, 3) := dk_183 0 7 (dk_at dksJ8_init_0 2 rfl rfl)
theorem dJ8_init_5 : decode cJ8_init 5 = .ok (.return_, 1) := dk_177 (dk_at dksJ8_init_0 5 rfl rfl)
theorem q129 : (Jvm.Cond.initialized "java/lang/RuntimeException") ∈ lw_all := lw_g (lw_at lw_m1 14 rfl) rfl
theorem q413 : (Jvm.Cond.declares ({ cls := "java/lang/RuntimeException", name := "<init>", desc := "()V" } : Jvm.MethodName)) ∈ lw_tbl := lw_at lw_m2 58 rfl
theorem q414 : (Jvm.Cond.declares ({ cls := "java/lang/RuntimeException", name := "<init>", desc := "(Ljava/lang/String;)V" } : Jvm.MethodName)) ∈ lw_tbl := lw_at lw_m2 59 rfl
theorem q457 : (Jvm.Cond.instanceMethod ({ cls := "java/lang/RuntimeException", name := "<init>", desc := "(Ljava/lang/String;)V" } : Jvm.MethodName)) ∈ lw_all := lw_g (lw_at lw_m2 102 rfl) rfl
theorem q458 : (Jvm.Cond.code ({ cls := "java/lang/RuntimeException", name := "<init>", desc := "(Ljava/lang/String;)V" } : Jvm.MethodName) prog_34_method_2_code (2 : Nat) (Option.none : Option Jvm.ClassFile.FieldType)) ∈ lw_all := lw_g (lw_at lw_m2 103 rfl) rfl
theorem q459 : (Jvm.Cond.methodLink "java/lang/RuntimeException" (7 : Nat) ({ cls := "java/lang/Exception", name := "<init>", desc := "(Ljava/lang/String;)V" } : Jvm.MethodName)) ∈ lw_all := lw_g (lw_at lw_m2 104 rfl) rfl
/-! java/lang/IllegalArgumentException -/
set_option maxRecDepth 100000
def RJ9 : String := "java/lang/IllegalArgumentException"
def TJ9 : u_T := fun k => match k with
  | 0 => ("java/lang/Throwable", "cause", "Ljava/lang/Throwable;", false)
  | 1 => ("java/lang/Throwable", "stackTrace", "[Ljava/lang/StackTraceElement;", false)
  | 2 => ("java/lang/Throwable", "suppressedExceptions", "Ljava/util/List;", false)
  | 3 => ("java/lang/Throwable", "detailMessage", "Ljava/lang/String;", false)
  | 4 => ("java/lang/Throwable", "backtrace", "Ljava/lang/Object;", false)
  | _ => ("java/lang/Throwable", "depth", "I", false)
def tyJ9 : Nat → FieldType := fun k => match k with
  | 0 => .object "java/lang/Throwable"
  | 1 => .array (.object "java/lang/StackTraceElement")
  | 2 => .object "java/util/List"
  | 3 => .object "java/lang/String"
  | 4 => .object "java/lang/Object"
  | _ => .int
abbrev wsJ90 : List Cond := u_ws RJ9 TJ9 6
theorem nmJ9 : ∀ a, a < 6 → ∀ b, b < 6 → a ≠ b → (TJ9 a).2.1 ≠ (TJ9 b).2.1 := by decide +kernel
theorem tyJ9_ok : ∀ k, k < 6 → parseFieldDescriptor (TJ9 k).2.2.1 = some (tyJ9 k) := by decide +kernel
abbrev cJ9_init : ByteArray := prog_24_method_2_code
def yJ9_init : MethodName := ⟨RJ9, "<init>", "(Ljava/lang/String;)V"⟩
def dkwJ9_init_0 : List UInt8 := [42, 43, 183, 0, 7, 177]
abbrev dktJ9_init_0 : List UInt8 := dkwJ9_init_0 ++ []
theorem dksJ9_init_0 : cJ9_init.data.toList.drop 0 = dktJ9_init_0 := by decide +kernel
theorem dJ9_init_0 : decode cJ9_init 0 = .ok (.aload_n 0, 1) := dk_42 (dk_at dksJ9_init_0 0 rfl rfl)
theorem dJ9_init_1 : decode cJ9_init 1 = .ok (.aload_n 1, 1) := dk_43 (dk_at dksJ9_init_0 1 rfl rfl)
theorem dJ9_init_2 : decode cJ9_init 2 = .ok (.invokespecial 7, 3) := dk_183 0 7 (dk_at dksJ9_init_0 2 rfl rfl)
theorem dJ9_init_5 : decode cJ9_init 5 = .ok (.return_, 1) := dk_177 (dk_at dksJ9_init_0 5 rfl rfl)
theorem q130 : (Jvm.Cond.initialized "java/lang/IllegalArgumentException") ∈ lw_all := lw_g (lw_at lw_m1 15 rfl) rfl
theorem q444 : (Jvm.Cond.selects "java/lang/IllegalArgumentException" ({ cls := "java/lang/Throwable", name := "fillInStackTrace", desc := "()Ljava/lang/Throwable;" } : Jvm.MethodName) ({ cls := "java/lang/Throwable", name := "fillInStackTrace", desc := "()Ljava/lang/Throwable;" } : Jvm.MethodName)) ∈ lw_all := lw_g (lw_at lw_m2 89 rfl) rfl
theorem q645 : (Jvm.Cond.instantiable "java/lang/IllegalArgumentException" (6 : Nat)) ∈ lw_all := lw_g (lw_at lw_m3 50 rfl) rfl
theorem q646 : (Jvm.Cond.castable "java/lang/IllegalArgumentException" "java/lang/IllegalArgumentException") ∈ lw_tbl := lw_at lw_m3 51 rfl
theorem q647 : (Jvm.Cond.selects "java/lang/IllegalArgumentException" ({ cls := "java/lang/Throwable", name := "fillInStackTrace", desc := "(I)Ljava/lang/Throwable;" } : Jvm.MethodName) ({ cls := "java/lang/Throwable", name := "fillInStackTrace", desc := "(I)Ljava/lang/Throwable;" } : Jvm.MethodName)) ∈ lw_all := lw_g (lw_at lw_m3 52 rfl) rfl
theorem q648 : (Jvm.Cond.lays "java/lang/IllegalArgumentException" "java/lang/Throwable" "cause" "Ljava/lang/Throwable;") ∈ lw_all := lw_g (lw_at lw_m3 53 rfl) rfl
theorem q649 : (Jvm.Cond.lays "java/lang/IllegalArgumentException" "java/lang/Throwable" "stackTrace" "[Ljava/lang/StackTraceElement;") ∈ lw_all := lw_g (lw_at lw_m3 54 rfl) rfl
theorem q650 : (Jvm.Cond.lays "java/lang/IllegalArgumentException" "java/lang/Throwable" "suppressedExceptions" "Ljava/util/List;") ∈ lw_all := lw_g (lw_at lw_m3 55 rfl) rfl
theorem q651 : (Jvm.Cond.lays "java/lang/IllegalArgumentException" "java/lang/Throwable" "detailMessage" "Ljava/lang/String;") ∈ lw_all := lw_g (lw_at lw_m3 56 rfl) rfl
theorem q652 : (Jvm.Cond.lays "java/lang/IllegalArgumentException" "java/lang/Throwable" "backtrace" "Ljava/lang/Object;") ∈ lw_all := lw_g (lw_at lw_m3 57 rfl) rfl
theorem q730 : (Jvm.Cond.instanceMethod ({ cls := "java/lang/IllegalArgumentException", name := "<init>", desc := "(Ljava/lang/String;)V" } : Jvm.MethodName)) ∈ lw_all := lw_g (lw_at lw_m3 135 rfl) rfl
theorem q731 : (Jvm.Cond.code ({ cls := "java/lang/IllegalArgumentException", name := "<init>", desc := "(Ljava/lang/String;)V" } : Jvm.MethodName) prog_24_method_2_code (2 : Nat) (Option.none : Option Jvm.ClassFile.FieldType)) ∈ lw_all := lw_g (lw_at lw_m3 136 rfl) rfl
theorem q732 : (Jvm.Cond.methodLink "java/lang/IllegalArgumentException" (7 : Nat) ({ cls := "java/lang/RuntimeException", name := "<init>", desc := "(Ljava/lang/String;)V" } : Jvm.MethodName)) ∈ lw_all := lw_g (lw_at lw_m3 137 rfl) rfl
theorem q733 : (Jvm.Cond.lays "java/lang/IllegalArgumentException" "java/lang/Throwable" "depth" "I") ∈ lw_all := lw_g (lw_at lw_m3 138 rfl) rfl
theorem q734 : (Jvm.Cond.superclass "java/lang/IllegalArgumentException" "java/lang/RuntimeException") ∈ lw_all := lw_g (lw_at lw_m3 139 rfl) rfl
theorem q1010 : (Jvm.Cond.selects "java/lang/IllegalArgumentException" ({ cls := "java/lang/Object", name := "getClass", desc := "()Ljava/lang/Class;" } : Jvm.MethodName) ({ cls := "java/lang/Object", name := "getClass", desc := "()Ljava/lang/Class;" } : Jvm.MethodName)) ∈ lw_all := lw_g (lw_at lw_m4 175 rfl) rfl
theorem q1148 : (Jvm.Cond.selects "java/lang/IllegalArgumentException" ({ cls := "java/lang/Object", name := "hashCode", desc := "()I" } : Jvm.MethodName) ({ cls := "java/lang/Object", name := "hashCode", desc := "()I" } : Jvm.MethodName)) ∈ lw_all := lw_g (lw_at lw_m5 73 rfl) rfl
theorem q1239 : (Jvm.Cond.selects "java/lang/IllegalArgumentException" ({ cls := "java/lang/Object", name := "equals", desc := "(Ljava/lang/Object;)Z" } : Jvm.MethodName) ({ cls := "java/lang/Object", name := "equals", desc := "(Ljava/lang/Object;)Z" } : Jvm.MethodName)) ∈ lw_all := lw_g (lw_at lw_m5 164 rfl) rfl
theorem q2799 : (Jvm.Cond.castable "java/lang/IllegalArgumentException" "java/lang/Object") ∈ lw_tbl := lw_at lw_m12 44 rfl
theorem in_J9 : ∀ w ∈ wsJ90, w ∈ lw_all := lw_in wsJ90 [648, 649, 650, 651, 652, 733] (by decide +kernel) (by decide +kernel)
/-! java/lang/IllegalStateException -/
set_option maxRecDepth 100000
def RJ10 : String := "java/lang/IllegalStateException"
def TJ10 : u_T := fun k => match k with
  | 0 => ("java/lang/Throwable", "cause", "Ljava/lang/Throwable;", false)
  | 1 => ("java/lang/Throwable", "stackTrace", "[Ljava/lang/StackTraceElement;", false)
  | 2 => ("java/lang/Throwable", "suppressedExceptions", "Ljava/util/List;", false)
  | 3 => ("java/lang/Throwable", "detailMessage", "Ljava/lang/String;", false)
  | 4 => ("java/lang/Throwable", "backtrace", "Ljava/lang/Object;", false)
  | _ => ("java/lang/Throwable", "depth", "I", false)
def tyJ10 : Nat → FieldType := fun k => match k with
  | 0 => .object "java/lang/Throwable"
  | 1 => .array (.object "java/lang/StackTraceElement")
  | 2 => .object "java/util/List"
  | 3 => .object "java/lang/String"
  | 4 => .object "java/lang/Object"
  | _ => .int
abbrev wsJ100 : List Cond := u_ws RJ10 TJ10 6
theorem nmJ10 : ∀ a, a < 6 → ∀ b, b < 6 → a ≠ b → (TJ10 a).2.1 ≠ (TJ10 b).2.1 := by decide +kernel
theorem tyJ10_ok : ∀ k, k < 6 → parseFieldDescriptor (TJ10 k).2.2.1 = some (tyJ10 k) := by decide +kernel
abbrev cJ10_init : ByteArray := prog_25_method_2_code
def yJ10_init : MethodName := ⟨RJ10, "<init>", "(Ljava/lang/String;)V"⟩
def dkwJ10_init_0 : List UInt8 := [42, 43, 183, 0, 7, 177]
abbrev dktJ10_init_0 : List UInt8 := dkwJ10_init_0 ++ []
theorem dksJ10_init_0 : cJ10_init.data.toList.drop 0 = dktJ10_init_0 := by decide +kernel
theorem dJ10_init_0 : decode cJ10_init 0 = .ok (.aload_n 0, 1) := dk_42 (dk_at dksJ10_init_0 0 rfl rfl)
theorem dJ10_init_1 : decode cJ10_init 1 = .ok (.aload_n 1, 1) := dk_43 (dk_at dksJ10_init_0 1 rfl rfl)
theorem dJ10_init_2 : decode cJ10_init 2 = .ok (.invokespecial 7, 3) := dk_183 0 7 (dk_at dksJ10_init_0 2 rfl rfl)
theorem dJ10_init_5 : decode cJ10_init 5 = .ok (.return_, 1) := dk_177 (dk_at dksJ10_init_0 5 rfl rfl)
theorem q131 : (Jvm.Cond.initialized "java/lang/IllegalStateException") ∈ lw_all := lw_g (lw_at lw_m1 16 rfl) rfl
theorem q411 : (Jvm.Cond.instantiable "java/lang/IllegalStateException" (6 : Nat)) ∈ lw_all := lw_g (lw_at lw_m2 56 rfl) rfl
theorem q412 : (Jvm.Cond.castable "java/lang/IllegalStateException" "java/lang/IllegalStateException") ∈ lw_tbl := lw_at lw_m2 57 rfl
theorem q419 : (Jvm.Cond.selects "java/lang/IllegalStateException" ({ cls := "java/lang/Throwable", name := "fillInStackTrace", desc := "(I)Ljava/lang/Throwable;" } : Jvm.MethodName) ({ cls := "java/lang/Throwable", name := "fillInStackTrace", desc := "(I)Ljava/lang/Throwable;" } : Jvm.MethodName)) ∈ lw_all := lw_g (lw_at lw_m2 64 rfl) rfl
theorem q420 : (Jvm.Cond.selects "java/lang/IllegalStateException" ({ cls := "java/lang/Throwable", name := "fillInStackTrace", desc := "()Ljava/lang/Throwable;" } : Jvm.MethodName) ({ cls := "java/lang/Throwable", name := "fillInStackTrace", desc := "()Ljava/lang/Throwable;" } : Jvm.MethodName)) ∈ lw_all := lw_g (lw_at lw_m2 65 rfl) rfl
theorem q421 : (Jvm.Cond.lays "java/lang/IllegalStateException" "java/lang/Throwable" "cause" "Ljava/lang/Throwable;") ∈ lw_all := lw_g (lw_at lw_m2 66 rfl) rfl
theorem q423 : (Jvm.Cond.lays "java/lang/IllegalStateException" "java/lang/Throwable" "stackTrace" "[Ljava/lang/StackTraceElement;") ∈ lw_all := lw_g (lw_at lw_m2 68 rfl) rfl
theorem q425 : (Jvm.Cond.lays "java/lang/IllegalStateException" "java/lang/Throwable" "suppressedExceptions" "Ljava/util/List;") ∈ lw_all := lw_g (lw_at lw_m2 70 rfl) rfl
theorem q427 : (Jvm.Cond.lays "java/lang/IllegalStateException" "java/lang/Throwable" "detailMessage" "Ljava/lang/String;") ∈ lw_all := lw_g (lw_at lw_m2 72 rfl) rfl
theorem q429 : (Jvm.Cond.lays "java/lang/IllegalStateException" "java/lang/Throwable" "backtrace" "Ljava/lang/Object;") ∈ lw_all := lw_g (lw_at lw_m2 74 rfl) rfl
theorem q454 : (Jvm.Cond.instanceMethod ({ cls := "java/lang/IllegalStateException", name := "<init>", desc := "(Ljava/lang/String;)V" } : Jvm.MethodName)) ∈ lw_all := lw_g (lw_at lw_m2 99 rfl) rfl
theorem q455 : (Jvm.Cond.code ({ cls := "java/lang/IllegalStateException", name := "<init>", desc := "(Ljava/lang/String;)V" } : Jvm.MethodName) prog_25_method_2_code (2 : Nat) (Option.none : Option Jvm.ClassFile.FieldType)) ∈ lw_all := lw_g (lw_at lw_m2 100 rfl) rfl
theorem q456 : (Jvm.Cond.methodLink "java/lang/IllegalStateException" (7 : Nat) ({ cls := "java/lang/RuntimeException", name := "<init>", desc := "(Ljava/lang/String;)V" } : Jvm.MethodName)) ∈ lw_all := lw_g (lw_at lw_m2 101 rfl) rfl
theorem q474 : (Jvm.Cond.lays "java/lang/IllegalStateException" "java/lang/Throwable" "depth" "I") ∈ lw_all := lw_g (lw_at lw_m2 119 rfl) rfl
theorem q477 : (Jvm.Cond.superclass "java/lang/IllegalStateException" "java/lang/RuntimeException") ∈ lw_all := lw_g (lw_at lw_m2 122 rfl) rfl
theorem q1011 : (Jvm.Cond.selects "java/lang/IllegalStateException" ({ cls := "java/lang/Object", name := "getClass", desc := "()Ljava/lang/Class;" } : Jvm.MethodName) ({ cls := "java/lang/Object", name := "getClass", desc := "()Ljava/lang/Class;" } : Jvm.MethodName)) ∈ lw_all := lw_g (lw_at lw_m4 176 rfl) rfl
theorem q1149 : (Jvm.Cond.selects "java/lang/IllegalStateException" ({ cls := "java/lang/Object", name := "hashCode", desc := "()I" } : Jvm.MethodName) ({ cls := "java/lang/Object", name := "hashCode", desc := "()I" } : Jvm.MethodName)) ∈ lw_all := lw_g (lw_at lw_m5 74 rfl) rfl
theorem q1240 : (Jvm.Cond.selects "java/lang/IllegalStateException" ({ cls := "java/lang/Object", name := "equals", desc := "(Ljava/lang/Object;)Z" } : Jvm.MethodName) ({ cls := "java/lang/Object", name := "equals", desc := "(Ljava/lang/Object;)Z" } : Jvm.MethodName)) ∈ lw_all := lw_g (lw_at lw_m5 165 rfl) rfl
theorem q2800 : (Jvm.Cond.castable "java/lang/IllegalStateException" "java/lang/Object") ∈ lw_tbl := lw_at lw_m12 45 rfl
theorem in_J10 : ∀ w ∈ wsJ100, w ∈ lw_all := lw_in wsJ100 [421, 423, 425, 427, 429, 474] (by decide +kernel) (by decide +kernel)
/-! java/lang/AbstractStringBuilder -/
set_option maxRecDepth 100000
def RJ11 : String := "java/lang/AbstractStringBuilder"
abbrev cJ11_init : ByteArray := prog_14_method_2_code
def yJ11_init : MethodName := ⟨RJ11, "<init>", "(I)V"⟩
def dkwJ11_init_1 : List UInt8 := [167, 0, 16, 42, 27, 184, 0, 26, 181, 0, 15, 42, 4, 181, 0, 22, 177]
abbrev dktJ11_init_1 : List UInt8 := dkwJ11_init_1 ++ []
def dkwJ11_init_0 : List UInt8 := [42, 183, 0, 3, 178, 0, 18, 153, 0, 18, 42, 27, 188, 8, 181, 0, 15, 42, 3, 181, 0, 22]
abbrev dktJ11_init_0 : List UInt8 := dkwJ11_init_0 ++ dktJ11_init_1
theorem dksJ11_init_0 : cJ11_init.data.toList.drop 0 = dktJ11_init_0 := by decide +kernel
theorem dksJ11_init_1 : cJ11_init.data.toList.drop 22 = dktJ11_init_1 := dk_seg dksJ11_init_0 22 rfl rfl
theorem dJ11_init_0 : decode cJ11_init 0 = .ok (.aload_n 0, 1) := dk_42 (dk_at dksJ11_init_0 0 rfl rfl)
theorem dJ11_init_1 : decode cJ11_init 1 = .ok (.invokespecial 3, 3) := dk_183 0 3 (dk_at dksJ11_init_0 1 rfl rfl)
theorem dJ11_init_4 : decode cJ11_init 4 = .ok (.getstatic 18, 3) := dk_178 0 18 (dk_at dksJ11_init_0 4 rfl rfl)
theorem dJ11_init_7 : decode cJ11_init 7 = .ok (.ifCond .eq 18, 3) := dk_153 0 18 (dk_at dksJ11_init_0 7 rfl rfl)
theorem dJ11_init_10 : decode cJ11_init 10 = .ok (.aload_n 0, 1) := dk_42 (dk_at dksJ11_init_0 10 rfl rfl)
theorem dJ11_init_11 : decode cJ11_init 11 = .ok (.iload_n 1, 1) := dk_27 (dk_at dksJ11_init_0 11 rfl rfl)
theorem dJ11_init_12 : decode cJ11_init 12 = .ok (.newarray .byte, 2) := dk_188_8 (dk_at dksJ11_init_0 12 rfl rfl)
theorem dJ11_init_14 : decode cJ11_init 14 = .ok (.putfield 15, 3) := dk_181 0 15 (dk_at dksJ11_init_0 14 rfl rfl)
theorem dJ11_init_17 : decode cJ11_init 17 = .ok (.aload_n 0, 1) := dk_42 (dk_at dksJ11_init_0 17 rfl rfl)
theorem dJ11_init_18 : decode cJ11_init 18 = .ok (.iconst 0, 1) := dk_3 (dk_at dksJ11_init_0 18 rfl rfl)
theorem dJ11_init_19 : decode cJ11_init 19 = .ok (.putfield 22, 3) := dk_181 0 22 (dk_at dksJ11_init_0 19 rfl rfl)
theorem dJ11_init_22 : decode cJ11_init 22 = .ok (.goto 16, 3) := dk_167 0 16 (dk_at dksJ11_init_1 0 rfl rfl)
theorem dJ11_init_25 : decode cJ11_init 25 = .ok (.aload_n 0, 1) := dk_42 (dk_at dksJ11_init_1 3 rfl rfl)
theorem dJ11_init_26 : decode cJ11_init 26 = .ok (.iload_n 1, 1) := dk_27 (dk_at dksJ11_init_1 4 rfl rfl)
theorem dJ11_init_27 : decode cJ11_init 27 = .ok (.invokestatic 26, 3) := dk_184 0 26 (dk_at dksJ11_init_1 5 rfl rfl)
theorem dJ11_init_30 : decode cJ11_init 30 = .ok (.putfield 15, 3) := dk_181 0 15 (dk_at dksJ11_init_1 8 rfl rfl)
theorem dJ11_init_33 : decode cJ11_init 33 = .ok (.aload_n 0, 1) := dk_42 (dk_at dksJ11_init_1 11 rfl rfl)
theorem dJ11_init_34 : decode cJ11_init 34 = .ok (.iconst 1, 1) := dk_4 (dk_at dksJ11_init_1 12 rfl rfl)
theorem dJ11_init_35 : decode cJ11_init 35 = .ok (.putfield 22, 3) := dk_181 0 22 (dk_at dksJ11_init_1 13 rfl rfl)
theorem dJ11_init_38 : decode cJ11_init 38 = .ok (.return_, 1) := dk_177 (dk_at dksJ11_init_1 16 rfl rfl)
abbrev cJ11_length : ByteArray := prog_14_method_6_code
def yJ11_length : MethodName := ⟨RJ11, "length", "()I"⟩
theorem dJ11_length_0 : decode cJ11_length 0 = .ok (.aload_n 0, 1) := by decide +kernel
theorem dJ11_length_1 : decode cJ11_length 1 = .ok (.getfield 79, 3) := by decide +kernel
theorem dJ11_length_4 : decode cJ11_length 4 = .ok (.ireturn, 1) := by decide +kernel
abbrev cJ11_append : ByteArray := prog_14_method_31_code
def yJ11_append : MethodName := ⟨RJ11, "append", "(C)Ljava/lang/AbstractStringBuilder;"⟩
def dkwJ11_append_3 : List UInt8 := [181, 0, 79, 27, 184, 0, 197, 42, 176]
abbrev dktJ11_append_3 : List UInt8 := dkwJ11_append_3 ++ []
def dkwJ11_append_2 : List UInt8 := [182, 0, 83, 153, 0, 7, 42, 182, 0, 195, 42, 180, 0, 15, 42, 89, 180, 0, 79, 90, 4, 96]
abbrev dktJ11_append_2 : List UInt8 := dkwJ11_append_2 ++ dktJ11_append_3
def dkwJ11_append_1 : List UInt8 := [42, 180, 0, 15, 42, 89, 180, 0, 79, 90, 4, 96, 181, 0, 79, 27, 145, 84, 167, 0, 33, 42]
abbrev dktJ11_append_1 : List UInt8 := dkwJ11_append_1 ++ dktJ11_append_2
def dkwJ11_append_0 : List UInt8 := [42, 42, 180, 0, 79, 4, 96, 182, 0, 100, 42, 182, 0, 83, 153, 0, 31, 27, 184, 0, 191, 153, 0, 24]
abbrev dktJ11_append_0 : List UInt8 := dkwJ11_append_0 ++ dktJ11_append_1
theorem dksJ11_append_0 : cJ11_append.data.toList.drop 0 = dktJ11_append_0 := by decide +kernel
theorem dksJ11_append_1 : cJ11_append.data.toList.drop 24 = dktJ11_append_1 := dk_seg dksJ11_append_0 24 rfl rfl
theorem dksJ11_append_2 : cJ11_append.data.toList.drop 46 = dktJ11_append_2 := dk_seg dksJ11_append_1 22 rfl rfl
theorem dksJ11_append_3 : cJ11_append.data.toList.drop 68 = dktJ11_append_3 := dk_seg dksJ11_append_2 22 rfl rfl
theorem dJ11_append_0 : decode cJ11_append 0 = .ok (.aload_n 0, 1) := dk_42 (dk_at dksJ11_append_0 0 rfl rfl)
theorem dJ11_append_1 : decode cJ11_append 1 = .ok (.aload_n 0, 1) := dk_42 (dk_at dksJ11_append_0 1 rfl rfl)
theorem dJ11_append_2 : decode cJ11_append 2 = .ok (.getfield 79, 3) := dk_180 0 79 (dk_at dksJ11_append_0 2 rfl rfl)
theorem dJ11_append_5 : decode cJ11_append 5 = .ok (.iconst 1, 1) := dk_4 (dk_at dksJ11_append_0 5 rfl rfl)
theorem dJ11_append_6 : decode cJ11_append 6 = .ok (.iadd, 1) := dk_96 (dk_at dksJ11_append_0 6 rfl rfl)
theorem dJ11_append_7 : decode cJ11_append 7 = .ok (.invokevirtual 100, 3) := dk_182 0 100 (dk_at dksJ11_append_0 7 rfl rfl)
theorem dJ11_append_10 : decode cJ11_append 10 = .ok (.aload_n 0, 1) := dk_42 (dk_at dksJ11_append_0 10 rfl rfl)
theorem dJ11_append_11 : decode cJ11_append 11 = .ok (.invokevirtual 83, 3) := dk_182 0 83 (dk_at dksJ11_append_0 11 rfl rfl)
theorem dJ11_append_14 : decode cJ11_append 14 = .ok (.ifCond .eq 31, 3) := dk_153 0 31 (dk_at dksJ11_append_0 14 rfl rfl)
theorem dJ11_append_17 : decode cJ11_append 17 = .ok (.iload_n 1, 1) := dk_27 (dk_at dksJ11_append_0 17 rfl rfl)
theorem dJ11_append_18 : decode cJ11_append 18 = .ok (.invokestatic 191, 3) := dk_184 0 191 (dk_at dksJ11_append_0 18 rfl rfl)
theorem dJ11_append_21 : decode cJ11_append 21 = .ok (.ifCond .eq 24, 3) := dk_153 0 24 (dk_at dksJ11_append_0 21 rfl rfl)
theorem dJ11_append_24 : decode cJ11_append 24 = .ok (.aload_n 0, 1) := dk_42 (dk_at dksJ11_append_1 0 rfl rfl)
theorem dJ11_append_25 : decode cJ11_append 25 = .ok (.getfield 15, 3) := dk_180 0 15 (dk_at dksJ11_append_1 1 rfl rfl)
theorem dJ11_append_28 : decode cJ11_append 28 = .ok (.aload_n 0, 1) := dk_42 (dk_at dksJ11_append_1 4 rfl rfl)
theorem dJ11_append_29 : decode cJ11_append 29 = .ok (.dup, 1) := dk_89 (dk_at dksJ11_append_1 5 rfl rfl)
theorem dJ11_append_30 : decode cJ11_append 30 = .ok (.getfield 79, 3) := dk_180 0 79 (dk_at dksJ11_append_1 6 rfl rfl)
theorem dJ11_append_33 : decode cJ11_append 33 = .ok (.dup_x1, 1) := dk_90 (dk_at dksJ11_append_1 9 rfl rfl)
theorem dJ11_append_34 : decode cJ11_append 34 = .ok (.iconst 1, 1) := dk_4 (dk_at dksJ11_append_1 10 rfl rfl)
theorem dJ11_append_35 : decode cJ11_append 35 = .ok (.iadd, 1) := dk_96 (dk_at dksJ11_append_1 11 rfl rfl)
theorem dJ11_append_36 : decode cJ11_append 36 = .ok (.putfield 79, 3) := dk_181 0 79 (dk_at dksJ11_append_1 12 rfl rfl)
theorem dJ11_append_39 : decode cJ11_append 39 = .ok (.iload_n 1, 1) := dk_27 (dk_at dksJ11_append_1 15 rfl rfl)
theorem dJ11_append_40 : decode cJ11_append 40 = .ok (.i2b, 1) := dk_145 (dk_at dksJ11_append_1 16 rfl rfl)
theorem dJ11_append_41 : decode cJ11_append 41 = .ok (.bastore, 1) := dk_84 (dk_at dksJ11_append_1 17 rfl rfl)
theorem dJ11_append_42 : decode cJ11_append 42 = .ok (.goto 33, 3) := dk_167 0 33 (dk_at dksJ11_append_1 18 rfl rfl)
theorem dJ11_append_45 : decode cJ11_append 45 = .ok (.aload_n 0, 1) := dk_42 (dk_at dksJ11_append_1 21 rfl rfl)
theorem dJ11_append_46 : decode cJ11_append 46 = .ok (.invokevirtual 83, 3) := dk_182 0 83 (dk_at dksJ11_append_2 0 rfl rfl)
theorem dJ11_append_49 : decode cJ11_append 49 = .ok (.ifCond .eq 7, 3) := dk_153 0 7 (dk_at dksJ11_append_2 3 rfl rfl)
theorem dJ11_append_52 : decode cJ11_append 52 = .ok (.aload_n 0, 1) := dk_42 (dk_at dksJ11_append_2 6 rfl rfl)
theorem dJ11_append_53 : decode cJ11_append 53 = .ok (.invokevirtual 195, 3) := dk_182 0 195 (dk_at dksJ11_append_2 7 rfl rfl)
theorem dJ11_append_56 : decode cJ11_append 56 = .ok (.aload_n 0, 1) := dk_42 (dk_at dksJ11_append_2 10 rfl rfl)
theorem dJ11_append_57 : decode cJ11_append 57 = .ok (.getfield 15, 3) := dk_180 0 15 (dk_at dksJ11_append_2 11 rfl rfl)
theorem dJ11_append_60 : decode cJ11_append 60 = .ok (.aload_n 0, 1) := dk_42 (dk_at dksJ11_append_2 14 rfl rfl)
theorem dJ11_append_61 : decode cJ11_append 61 = .ok (.dup, 1) := dk_89 (dk_at dksJ11_append_2 15 rfl rfl)
theorem dJ11_append_62 : decode cJ11_append 62 = .ok (.getfield 79, 3) := dk_180 0 79 (dk_at dksJ11_append_2 16 rfl rfl)
theorem dJ11_append_65 : decode cJ11_append 65 = .ok (.dup_x1, 1) := dk_90 (dk_at dksJ11_append_2 19 rfl rfl)
theorem dJ11_append_66 : decode cJ11_append 66 = .ok (.iconst 1, 1) := dk_4 (dk_at dksJ11_append_2 20 rfl rfl)
theorem dJ11_append_67 : decode cJ11_append 67 = .ok (.iadd, 1) := dk_96 (dk_at dksJ11_append_2 21 rfl rfl)
theorem dJ11_append_68 : decode cJ11_append 68 = .ok (.putfield 79, 3) := dk_181 0 79 (dk_at dksJ11_append_3 0 rfl rfl)
theorem dJ11_append_71 : decode cJ11_append 71 = .ok (.iload_n 1, 1) := dk_27 (dk_at dksJ11_append_3 3 rfl rfl)
theorem dJ11_append_72 : decode cJ11_append 72 = .ok (.invokestatic 197, 3) := dk_184 0 197 (dk_at dksJ11_append_3 4 rfl rfl)
theorem dJ11_append_75 : decode cJ11_append 75 = .ok (.aload_n 0, 1) := dk_42 (dk_at dksJ11_append_3 7 rfl rfl)
theorem dJ11_append_76 : decode cJ11_append 76 = .ok (.areturn, 1) := dk_176 (dk_at dksJ11_append_3 8 rfl rfl)
abbrev cJ11_ensureCapacityInternal : ByteArray := prog_14_method_9_code
def yJ11_ensureCapacityInternal : MethodName := ⟨RJ11, "ensureCapacityInternal", "(I)V"⟩
def dkwJ11_ensureCapacityInternal_1 : List UInt8 := [182, 0, 104, 42, 180, 0, 22, 120, 184, 0, 108, 181, 0, 15, 177]
abbrev dktJ11_ensureCapacityInternal_1 : List UInt8 := dkwJ11_ensureCapacityInternal_1 ++ []
def dkwJ11_ensureCapacityInternal_0 : List UInt8 := [42, 180, 0, 15, 190, 42, 180, 0, 22, 122, 61, 27, 28, 100, 158, 0, 24, 42, 42, 180, 0, 15, 42, 27]
abbrev dktJ11_ensureCapacityInternal_0 : List UInt8 := dkwJ11_ensureCapacityInternal_0 ++ dktJ11_ensureCapacityInternal_1
theorem dksJ11_ensureCapacityInternal_0 : cJ11_ensureCapacityInternal.data.toList.drop 0 = dktJ11_ensureCapacityInternal_0 := by decide +kernel
theorem dksJ11_ensureCapacityInternal_1 : cJ11_ensureCapacityInternal.data.toList.drop 24 = dktJ11_ensureCapacityInternal_1 := dk_seg dksJ11_ensureCapacityInternal_0 24 rfl rfl
theorem dJ11_ensureCapacityInternal_0 : decode cJ11_ensureCapacityInternal 0 = .ok (.aload_n 0, 1) := dk_42 (dk_at dksJ11_ensureCapacityInternal_0 0 rfl rfl)
theorem dJ11_ensureCapacityInternal_1 : decode cJ11_ensureCapacityInternal 1 = .ok (.getfield 15, 3) := dk_180 0 15 (dk_at dksJ11_ensureCapacityInternal_0 1 rfl rfl)
theorem dJ11_ensureCapacityInternal_4 : decode cJ11_ensureCapacityInternal 4 = .ok (.arraylength, 1) := dk_190 (dk_at dksJ11_ensureCapacityInternal_0 4 rfl rfl)
theorem dJ11_ensureCapacityInternal_5 : decode cJ11_ensureCapacityInternal 5 = .ok (.aload_n 0, 1) := dk_42 (dk_at dksJ11_ensureCapacityInternal_0 5 rfl rfl)
theorem dJ11_ensureCapacityInternal_6 : decode cJ11_ensureCapacityInternal 6 = .ok (.getfield 22, 3) := dk_180 0 22 (dk_at dksJ11_ensureCapacityInternal_0 6 rfl rfl)
theorem dJ11_ensureCapacityInternal_9 : decode cJ11_ensureCapacityInternal 9 = .ok (.ishr, 1) := dk_122 (dk_at dksJ11_ensureCapacityInternal_0 9 rfl rfl)
theorem dJ11_ensureCapacityInternal_10 : decode cJ11_ensureCapacityInternal 10 = .ok (.istore_n 2, 1) := dk_61 (dk_at dksJ11_ensureCapacityInternal_0 10 rfl rfl)
theorem dJ11_ensureCapacityInternal_11 : decode cJ11_ensureCapacityInternal 11 = .ok (.iload_n 1, 1) := dk_27 (dk_at dksJ11_ensureCapacityInternal_0 11 rfl rfl)
theorem dJ11_ensureCapacityInternal_12 : decode cJ11_ensureCapacityInternal 12 = .ok (.iload_n 2, 1) := dk_28 (dk_at dksJ11_ensureCapacityInternal_0 12 rfl rfl)
theorem dJ11_ensureCapacityInternal_13 : decode cJ11_ensureCapacityInternal 13 = .ok (.isub, 1) := dk_100 (dk_at dksJ11_ensureCapacityInternal_0 13 rfl rfl)
theorem dJ11_ensureCapacityInternal_14 : decode cJ11_ensureCapacityInternal 14 = .ok (.ifCond .le 24, 3) := dk_158 0 24 (dk_at dksJ11_ensureCapacityInternal_0 14 rfl rfl)
theorem dJ11_ensureCapacityInternal_17 : decode cJ11_ensureCapacityInternal 17 = .ok (.aload_n 0, 1) := dk_42 (dk_at dksJ11_ensureCapacityInternal_0 17 rfl rfl)
theorem dJ11_ensureCapacityInternal_18 : decode cJ11_ensureCapacityInternal 18 = .ok (.aload_n 0, 1) := dk_42 (dk_at dksJ11_ensureCapacityInternal_0 18 rfl rfl)
theorem dJ11_ensureCapacityInternal_19 : decode cJ11_ensureCapacityInternal 19 = .ok (.getfield 15, 3) := dk_180 0 15 (dk_at dksJ11_ensureCapacityInternal_0 19 rfl rfl)
theorem dJ11_ensureCapacityInternal_22 : decode cJ11_ensureCapacityInternal 22 = .ok (.aload_n 0, 1) := dk_42 (dk_at dksJ11_ensureCapacityInternal_0 22 rfl rfl)
theorem dJ11_ensureCapacityInternal_23 : decode cJ11_ensureCapacityInternal 23 = .ok (.iload_n 1, 1) := dk_27 (dk_at dksJ11_ensureCapacityInternal_0 23 rfl rfl)
theorem dJ11_ensureCapacityInternal_24 : decode cJ11_ensureCapacityInternal 24 = .ok (.invokevirtual 104, 3) := dk_182 0 104 (dk_at dksJ11_ensureCapacityInternal_1 0 rfl rfl)
theorem dJ11_ensureCapacityInternal_27 : decode cJ11_ensureCapacityInternal 27 = .ok (.aload_n 0, 1) := dk_42 (dk_at dksJ11_ensureCapacityInternal_1 3 rfl rfl)
theorem dJ11_ensureCapacityInternal_28 : decode cJ11_ensureCapacityInternal 28 = .ok (.getfield 22, 3) := dk_180 0 22 (dk_at dksJ11_ensureCapacityInternal_1 4 rfl rfl)
theorem dJ11_ensureCapacityInternal_31 : decode cJ11_ensureCapacityInternal 31 = .ok (.ishl, 1) := dk_120 (dk_at dksJ11_ensureCapacityInternal_1 7 rfl rfl)
theorem dJ11_ensureCapacityInternal_32 : decode cJ11_ensureCapacityInternal 32 = .ok (.invokestatic 108, 3) := dk_184 0 108 (dk_at dksJ11_ensureCapacityInternal_1 8 rfl rfl)
theorem dJ11_ensureCapacityInternal_35 : decode cJ11_ensureCapacityInternal 35 = .ok (.putfield 15, 3) := dk_181 0 15 (dk_at dksJ11_ensureCapacityInternal_1 11 rfl rfl)
theorem dJ11_ensureCapacityInternal_38 : decode cJ11_ensureCapacityInternal 38 = .ok (.return_, 1) := dk_177 (dk_at dksJ11_ensureCapacityInternal_1 14 rfl rfl)
abbrev cJ11_newCapacity : ByteArray := prog_14_method_10_code
def yJ11_newCapacity : MethodName := ⟨RJ11, "newCapacity", "(I)I"⟩
def dkwJ11_newCapacity_2 : List UInt8 := [183, 0, 124, 191, 21, 5, 42, 180, 0, 22, 122, 172]
abbrev dktJ11_newCapacity_2 : List UInt8 := dkwJ11_newCapacity_2 ++ []
def dkwJ11_newCapacity_1 : List UInt8 := [180, 0, 22, 120, 96, 184, 0, 114, 54, 5, 21, 5, 18, 39, 160, 0, 13, 187, 0, 120, 89, 18, 122]
abbrev dktJ11_newCapacity_1 : List UInt8 := dkwJ11_newCapacity_1 ++ dktJ11_newCapacity_2
def dkwJ11_newCapacity_0 : List UInt8 := [42, 180, 0, 15, 190, 61, 27, 42, 180, 0, 22, 120, 62, 29, 28, 100, 54, 4, 28, 21, 4, 28, 5, 42]
abbrev dktJ11_newCapacity_0 : List UInt8 := dkwJ11_newCapacity_0 ++ dktJ11_newCapacity_1
theorem dksJ11_newCapacity_0 : cJ11_newCapacity.data.toList.drop 0 = dktJ11_newCapacity_0 := by decide +kernel
theorem dksJ11_newCapacity_1 : cJ11_newCapacity.data.toList.drop 24 = dktJ11_newCapacity_1 := dk_seg dksJ11_newCapacity_0 24 rfl rfl
theorem dksJ11_newCapacity_2 : cJ11_newCapacity.data.toList.drop 47 = dktJ11_newCapacity_2 := dk_seg dksJ11_newCapacity_1 23 rfl rfl
theorem dJ11_newCapacity_0 : decode cJ11_newCapacity 0 = .ok (.aload_n 0, 1) := dk_42 (dk_at dksJ11_newCapacity_0 0 rfl rfl)
theorem dJ11_newCapacity_1 : decode cJ11_newCapacity 1 = .ok (.getfield 15, 3) := dk_180 0 15 (dk_at dksJ11_newCapacity_0 1 rfl rfl)
theorem dJ11_newCapacity_4 : decode cJ11_newCapacity 4 = .ok (.arraylength, 1) := dk_190 (dk_at dksJ11_newCapacity_0 4 rfl rfl)
theorem dJ11_newCapacity_5 : decode cJ11_newCapacity 5 = .ok (.istore_n 2, 1) := dk_61 (dk_at dksJ11_newCapacity_0 5 rfl rfl)
theorem dJ11_newCapacity_6 : decode cJ11_newCapacity 6 = .ok (.iload_n 1, 1) := dk_27 (dk_at dksJ11_newCapacity_0 6 rfl rfl)
theorem dJ11_newCapacity_7 : decode cJ11_newCapacity 7 = .ok (.aload_n 0, 1) := dk_42 (dk_at dksJ11_newCapacity_0 7 rfl rfl)
theorem dJ11_newCapacity_8 : decode cJ11_newCapacity 8 = .ok (.getfield 22, 3) := dk_180 0 22 (dk_at dksJ11_newCapacity_0 8 rfl rfl)
theorem dJ11_newCapacity_11 : decode cJ11_newCapacity 11 = .ok (.ishl, 1) := dk_120 (dk_at dksJ11_newCapacity_0 11 rfl rfl)
theorem dJ11_newCapacity_12 : decode cJ11_newCapacity 12 = .ok (.istore_n 3, 1) := dk_62 (dk_at dksJ11_newCapacity_0 12 rfl rfl)
theorem dJ11_newCapacity_13 : decode cJ11_newCapacity 13 = .ok (.iload_n 3, 1) := dk_29 (dk_at dksJ11_newCapacity_0 13 rfl rfl)
theorem dJ11_newCapacity_14 : decode cJ11_newCapacity 14 = .ok (.iload_n 2, 1) := dk_28 (dk_at dksJ11_newCapacity_0 14 rfl rfl)
theorem dJ11_newCapacity_15 : decode cJ11_newCapacity 15 = .ok (.isub, 1) := dk_100 (dk_at dksJ11_newCapacity_0 15 rfl rfl)
theorem dJ11_newCapacity_16 : decode cJ11_newCapacity 16 = .ok (.istore 4, 2) := dk_54 4 (dk_at dksJ11_newCapacity_0 16 rfl rfl)
theorem dJ11_newCapacity_18 : decode cJ11_newCapacity 18 = .ok (.iload_n 2, 1) := dk_28 (dk_at dksJ11_newCapacity_0 18 rfl rfl)
theorem dJ11_newCapacity_19 : decode cJ11_newCapacity 19 = .ok (.iload 4, 2) := dk_21 4 (dk_at dksJ11_newCapacity_0 19 rfl rfl)
theorem dJ11_newCapacity_21 : decode cJ11_newCapacity 21 = .ok (.iload_n 2, 1) := dk_28 (dk_at dksJ11_newCapacity_0 21 rfl rfl)
theorem dJ11_newCapacity_22 : decode cJ11_newCapacity 22 = .ok (.iconst 2, 1) := dk_5 (dk_at dksJ11_newCapacity_0 22 rfl rfl)
theorem dJ11_newCapacity_23 : decode cJ11_newCapacity 23 = .ok (.aload_n 0, 1) := dk_42 (dk_at dksJ11_newCapacity_0 23 rfl rfl)
theorem dJ11_newCapacity_24 : decode cJ11_newCapacity 24 = .ok (.getfield 22, 3) := dk_180 0 22 (dk_at dksJ11_newCapacity_1 0 rfl rfl)
theorem dJ11_newCapacity_27 : decode cJ11_newCapacity 27 = .ok (.ishl, 1) := dk_120 (dk_at dksJ11_newCapacity_1 3 rfl rfl)
theorem dJ11_newCapacity_28 : decode cJ11_newCapacity 28 = .ok (.iadd, 1) := dk_96 (dk_at dksJ11_newCapacity_1 4 rfl rfl)
theorem dJ11_newCapacity_29 : decode cJ11_newCapacity 29 = .ok (.invokestatic 114, 3) := dk_184 0 114 (dk_at dksJ11_newCapacity_1 5 rfl rfl)
theorem dJ11_newCapacity_32 : decode cJ11_newCapacity 32 = .ok (.istore 5, 2) := dk_54 5 (dk_at dksJ11_newCapacity_1 8 rfl rfl)
theorem dJ11_newCapacity_34 : decode cJ11_newCapacity 34 = .ok (.iload 5, 2) := dk_21 5 (dk_at dksJ11_newCapacity_1 10 rfl rfl)
theorem dJ11_newCapacity_36 : decode cJ11_newCapacity 36 = .ok (.ldc 39, 2) := dk_18 39 (dk_at dksJ11_newCapacity_1 12 rfl rfl)
theorem dJ11_newCapacity_38 : decode cJ11_newCapacity 38 = .ok (.if_icmp .ne 13, 3) := dk_160 0 13 (dk_at dksJ11_newCapacity_1 14 rfl rfl)
theorem dJ11_newCapacity_41 : decode cJ11_newCapacity 41 = .ok (.new 120, 3) := dk_187 0 120 (dk_at dksJ11_newCapacity_1 17 rfl rfl)
theorem dJ11_newCapacity_44 : decode cJ11_newCapacity 44 = .ok (.dup, 1) := dk_89 (dk_at dksJ11_newCapacity_1 20 rfl rfl)
theorem dJ11_newCapacity_45 : decode cJ11_newCapacity 45 = .ok (.ldc 122, 2) := dk_18 122 (dk_at dksJ11_newCapacity_1 21 rfl rfl)
theorem dJ11_newCapacity_47 : decode cJ11_newCapacity 47 = .ok (.invokespecial 124, 3) := dk_183 0 124 (dk_at dksJ11_newCapacity_2 0 rfl rfl)
theorem dJ11_newCapacity_50 : decode cJ11_newCapacity 50 = .ok (.athrow, 1) := dk_191 (dk_at dksJ11_newCapacity_2 3 rfl rfl)
theorem dJ11_newCapacity_51 : decode cJ11_newCapacity 51 = .ok (.iload 5, 2) := dk_21 5 (dk_at dksJ11_newCapacity_2 4 rfl rfl)
theorem dJ11_newCapacity_53 : decode cJ11_newCapacity 53 = .ok (.aload_n 0, 1) := dk_42 (dk_at dksJ11_newCapacity_2 6 rfl rfl)
theorem dJ11_newCapacity_54 : decode cJ11_newCapacity 54 = .ok (.getfield 22, 3) := dk_180 0 22 (dk_at dksJ11_newCapacity_2 7 rfl rfl)
theorem dJ11_newCapacity_57 : decode cJ11_newCapacity 57 = .ok (.ishr, 1) := dk_122 (dk_at dksJ11_newCapacity_2 10 rfl rfl)
theorem dJ11_newCapacity_58 : decode cJ11_newCapacity 58 = .ok (.ireturn, 1) := dk_172 (dk_at dksJ11_newCapacity_2 11 rfl rfl)
abbrev cJ11_isLatin1 : ByteArray := prog_14_method_68_code
def yJ11_isLatin1 : MethodName := ⟨RJ11, "isLatin1", "()Z"⟩
def dkwJ11_isLatin1_0 : List UInt8 := [178, 0, 18, 153, 0, 14, 42, 180, 0, 22, 154, 0, 7, 4, 167, 0, 4, 3, 172]
abbrev dktJ11_isLatin1_0 : List UInt8 := dkwJ11_isLatin1_0 ++ []
theorem dksJ11_isLatin1_0 : cJ11_isLatin1.data.toList.drop 0 = dktJ11_isLatin1_0 := by decide +kernel
theorem dJ11_isLatin1_0 : decode cJ11_isLatin1 0 = .ok (.getstatic 18, 3) := dk_178 0 18 (dk_at dksJ11_isLatin1_0 0 rfl rfl)
theorem dJ11_isLatin1_3 : decode cJ11_isLatin1 3 = .ok (.ifCond .eq 14, 3) := dk_153 0 14 (dk_at dksJ11_isLatin1_0 3 rfl rfl)
theorem dJ11_isLatin1_6 : decode cJ11_isLatin1 6 = .ok (.aload_n 0, 1) := dk_42 (dk_at dksJ11_isLatin1_0 6 rfl rfl)
theorem dJ11_isLatin1_7 : decode cJ11_isLatin1 7 = .ok (.getfield 22, 3) := dk_180 0 22 (dk_at dksJ11_isLatin1_0 7 rfl rfl)
theorem dJ11_isLatin1_10 : decode cJ11_isLatin1 10 = .ok (.ifCond .ne 7, 3) := dk_154 0 7 (dk_at dksJ11_isLatin1_0 10 rfl rfl)
theorem dJ11_isLatin1_13 : decode cJ11_isLatin1 13 = .ok (.iconst 1, 1) := dk_4 (dk_at dksJ11_isLatin1_0 13 rfl rfl)
theorem dJ11_isLatin1_14 : decode cJ11_isLatin1 14 = .ok (.goto 4, 3) := dk_167 0 4 (dk_at dksJ11_isLatin1_0 14 rfl rfl)
theorem dJ11_isLatin1_17 : decode cJ11_isLatin1 17 = .ok (.iconst 0, 1) := dk_3 (dk_at dksJ11_isLatin1_0 17 rfl rfl)
theorem dJ11_isLatin1_18 : decode cJ11_isLatin1 18 = .ok (.ireturn, 1) := dk_172 (dk_at dksJ11_isLatin1_0 18 rfl rfl)
abbrev cJ11_inflate : ByteArray := prog_14_method_11_code
def yJ11_inflate : MethodName := ⟨RJ11, "inflate", "()V"⟩
def dkwJ11_inflate_1 : List UInt8 := [42, 180, 0, 79, 184, 0, 125, 42, 43, 181, 0, 15, 42, 4, 181, 0, 22, 177]
abbrev dktJ11_inflate_1 : List UInt8 := dkwJ11_inflate_1 ++ []
def dkwJ11_inflate_0 : List UInt8 := [42, 182, 0, 83, 154, 0, 4, 177, 42, 180, 0, 15, 190, 184, 0, 26, 76, 42, 180, 0, 15, 3, 43, 3]
abbrev dktJ11_inflate_0 : List UInt8 := dkwJ11_inflate_0 ++ dktJ11_inflate_1
theorem dksJ11_inflate_0 : cJ11_inflate.data.toList.drop 0 = dktJ11_inflate_0 := by decide +kernel
theorem dksJ11_inflate_1 : cJ11_inflate.data.toList.drop 24 = dktJ11_inflate_1 := dk_seg dksJ11_inflate_0 24 rfl rfl
theorem dJ11_inflate_0 : decode cJ11_inflate 0 = .ok (.aload_n 0, 1) := dk_42 (dk_at dksJ11_inflate_0 0 rfl rfl)
theorem dJ11_inflate_1 : decode cJ11_inflate 1 = .ok (.invokevirtual 83, 3) := dk_182 0 83 (dk_at dksJ11_inflate_0 1 rfl rfl)
theorem dJ11_inflate_4 : decode cJ11_inflate 4 = .ok (.ifCond .ne 4, 3) := dk_154 0 4 (dk_at dksJ11_inflate_0 4 rfl rfl)
theorem dJ11_inflate_7 : decode cJ11_inflate 7 = .ok (.return_, 1) := dk_177 (dk_at dksJ11_inflate_0 7 rfl rfl)
theorem dJ11_inflate_8 : decode cJ11_inflate 8 = .ok (.aload_n 0, 1) := dk_42 (dk_at dksJ11_inflate_0 8 rfl rfl)
theorem dJ11_inflate_9 : decode cJ11_inflate 9 = .ok (.getfield 15, 3) := dk_180 0 15 (dk_at dksJ11_inflate_0 9 rfl rfl)
theorem dJ11_inflate_12 : decode cJ11_inflate 12 = .ok (.arraylength, 1) := dk_190 (dk_at dksJ11_inflate_0 12 rfl rfl)
theorem dJ11_inflate_13 : decode cJ11_inflate 13 = .ok (.invokestatic 26, 3) := dk_184 0 26 (dk_at dksJ11_inflate_0 13 rfl rfl)
theorem dJ11_inflate_16 : decode cJ11_inflate 16 = .ok (.astore_n 1, 1) := dk_76 (dk_at dksJ11_inflate_0 16 rfl rfl)
theorem dJ11_inflate_17 : decode cJ11_inflate 17 = .ok (.aload_n 0, 1) := dk_42 (dk_at dksJ11_inflate_0 17 rfl rfl)
theorem dJ11_inflate_18 : decode cJ11_inflate 18 = .ok (.getfield 15, 3) := dk_180 0 15 (dk_at dksJ11_inflate_0 18 rfl rfl)
theorem dJ11_inflate_21 : decode cJ11_inflate 21 = .ok (.iconst 0, 1) := dk_3 (dk_at dksJ11_inflate_0 21 rfl rfl)
theorem dJ11_inflate_22 : decode cJ11_inflate 22 = .ok (.aload_n 1, 1) := dk_43 (dk_at dksJ11_inflate_0 22 rfl rfl)
theorem dJ11_inflate_23 : decode cJ11_inflate 23 = .ok (.iconst 0, 1) := dk_3 (dk_at dksJ11_inflate_0 23 rfl rfl)
theorem dJ11_inflate_24 : decode cJ11_inflate 24 = .ok (.aload_n 0, 1) := dk_42 (dk_at dksJ11_inflate_1 0 rfl rfl)
theorem dJ11_inflate_25 : decode cJ11_inflate 25 = .ok (.getfield 79, 3) := dk_180 0 79 (dk_at dksJ11_inflate_1 1 rfl rfl)
theorem dJ11_inflate_28 : decode cJ11_inflate 28 = .ok (.invokestatic 125, 3) := dk_184 0 125 (dk_at dksJ11_inflate_1 4 rfl rfl)
theorem dJ11_inflate_31 : decode cJ11_inflate 31 = .ok (.aload_n 0, 1) := dk_42 (dk_at dksJ11_inflate_1 7 rfl rfl)
theorem dJ11_inflate_32 : decode cJ11_inflate 32 = .ok (.aload_n 1, 1) := dk_43 (dk_at dksJ11_inflate_1 8 rfl rfl)
theorem dJ11_inflate_33 : decode cJ11_inflate 33 = .ok (.putfield 15, 3) := dk_181 0 15 (dk_at dksJ11_inflate_1 9 rfl rfl)
theorem dJ11_inflate_36 : decode cJ11_inflate 36 = .ok (.aload_n 0, 1) := dk_42 (dk_at dksJ11_inflate_1 12 rfl rfl)
theorem dJ11_inflate_37 : decode cJ11_inflate 37 = .ok (.iconst 1, 1) := dk_4 (dk_at dksJ11_inflate_1 13 rfl rfl)
theorem dJ11_inflate_38 : decode cJ11_inflate 38 = .ok (.putfield 22, 3) := dk_181 0 22 (dk_at dksJ11_inflate_1 14 rfl rfl)
theorem dJ11_inflate_41 : decode cJ11_inflate 41 = .ok (.return_, 1) := dk_177 (dk_at dksJ11_inflate_1 17 rfl rfl)
abbrev cJ11_getValue : ByteArray := prog_14_method_64_code
def yJ11_getValue : MethodName := ⟨RJ11, "getValue", "()[B"⟩
theorem dJ11_getValue_0 : decode cJ11_getValue 0 = .ok (.aload_n 0, 1) := by decide +kernel
theorem dJ11_getValue_1 : decode cJ11_getValue 1 = .ok (.getfield 15, 3) := by decide +kernel
theorem dJ11_getValue_4 : decode cJ11_getValue 4 = .ok (.areturn, 1) := by decide +kernel
abbrev cJ11_append_2 : ByteArray := prog_14_method_32_code
def yJ11_append_2 : MethodName := ⟨RJ11, "append", "(I)Ljava/lang/AbstractStringBuilder;"⟩
def dkwJ11_append_2_2 : List UInt8 := [42, 29, 181, 0, 79, 42, 176]
abbrev dktJ11_append_2_2 : List UInt8 := dkwJ11_append_2_2 ++ []
def dkwJ11_append_2_1 : List UInt8 := [27, 29, 42, 180, 0, 15, 184, 0, 248, 87, 167, 0, 14, 27, 28, 29, 42, 180, 0, 15, 184, 0, 251, 87]
abbrev dktJ11_append_2_1 : List UInt8 := dkwJ11_append_2_1 ++ dktJ11_append_2_2
def dkwJ11_append_2_0 : List UInt8 := [42, 180, 0, 79, 61, 28, 27, 184, 0, 245, 96, 62, 42, 29, 182, 0, 100, 42, 182, 0, 83, 153, 0, 16]
abbrev dktJ11_append_2_0 : List UInt8 := dkwJ11_append_2_0 ++ dktJ11_append_2_1
theorem dksJ11_append_2_0 : cJ11_append_2.data.toList.drop 0 = dktJ11_append_2_0 := by decide +kernel
theorem dksJ11_append_2_1 : cJ11_append_2.data.toList.drop 24 = dktJ11_append_2_1 := dk_seg dksJ11_append_2_0 24 rfl rfl
theorem dksJ11_append_2_2 : cJ11_append_2.data.toList.drop 48 = dktJ11_append_2_2 := dk_seg dksJ11_append_2_1 24 rfl rfl
theorem dJ11_append_2_0 : decode cJ11_append_2 0 = .ok (.aload_n 0, 1) := dk_42 (dk_at dksJ11_append_2_0 0 rfl rfl)
theorem dJ11_append_2_1 : decode cJ11_append_2 1 = .ok (.getfield 79, 3) := dk_180 0 79 (dk_at dksJ11_append_2_0 1 rfl rfl)
theorem dJ11_append_2_4 : decode cJ11_append_2 4 = .ok (.istore_n 2, 1) := dk_61 (dk_at dksJ11_append_2_0 4 rfl rfl)
theorem dJ11_append_2_5 : decode cJ11_append_2 5 = .ok (.iload_n 2, 1) := dk_28 (dk_at dksJ11_append_2_0 5 rfl rfl)
theorem dJ11_append_2_6 : decode cJ11_append_2 6 = .ok (.iload_n 1, 1) := dk_27 (dk_at dksJ11_append_2_0 6 rfl rfl)
theorem dJ11_append_2_7 : decode cJ11_append_2 7 = .ok (.invokestatic 245, 3) := dk_184 0 245 (dk_at dksJ11_append_2_0 7 rfl rfl)
theorem dJ11_append_2_10 : decode cJ11_append_2 10 = .ok (.iadd, 1) := dk_96 (dk_at dksJ11_append_2_0 10 rfl rfl)
theorem dJ11_append_2_11 : decode cJ11_append_2 11 = .ok (.istore_n 3, 1) := dk_62 (dk_at dksJ11_append_2_0 11 rfl rfl)
theorem dJ11_append_2_12 : decode cJ11_append_2 12 = .ok (.aload_n 0, 1) := dk_42 (dk_at dksJ11_append_2_0 12 rfl rfl)
theorem dJ11_append_2_13 : decode cJ11_append_2 13 = .ok (.iload_n 3, 1) := dk_29 (dk_at dksJ11_append_2_0 13 rfl rfl)
theorem dJ11_append_2_14 : decode cJ11_append_2 14 = .ok (.invokevirtual 100, 3) := dk_182 0 100 (dk_at dksJ11_append_2_0 14 rfl rfl)
theorem dJ11_append_2_17 : decode cJ11_append_2 17 = .ok (.aload_n 0, 1) := dk_42 (dk_at dksJ11_append_2_0 17 rfl rfl)
theorem dJ11_append_2_18 : decode cJ11_append_2 18 = .ok (.invokevirtual 83, 3) := dk_182 0 83 (dk_at dksJ11_append_2_0 18 rfl rfl)
theorem dJ11_append_2_21 : decode cJ11_append_2 21 = .ok (.ifCond .eq 16, 3) := dk_153 0 16 (dk_at dksJ11_append_2_0 21 rfl rfl)
theorem dJ11_append_2_24 : decode cJ11_append_2 24 = .ok (.iload_n 1, 1) := dk_27 (dk_at dksJ11_append_2_1 0 rfl rfl)
theorem dJ11_append_2_25 : decode cJ11_append_2 25 = .ok (.iload_n 3, 1) := dk_29 (dk_at dksJ11_append_2_1 1 rfl rfl)
theorem dJ11_append_2_26 : decode cJ11_append_2 26 = .ok (.aload_n 0, 1) := dk_42 (dk_at dksJ11_append_2_1 2 rfl rfl)
theorem dJ11_append_2_27 : decode cJ11_append_2 27 = .ok (.getfield 15, 3) := dk_180 0 15 (dk_at dksJ11_append_2_1 3 rfl rfl)
theorem dJ11_append_2_30 : decode cJ11_append_2 30 = .ok (.invokestatic 248, 3) := dk_184 0 248 (dk_at dksJ11_append_2_1 6 rfl rfl)
theorem dJ11_append_2_33 : decode cJ11_append_2 33 = .ok (.pop, 1) := dk_87 (dk_at dksJ11_append_2_1 9 rfl rfl)
theorem dJ11_append_2_34 : decode cJ11_append_2 34 = .ok (.goto 14, 3) := dk_167 0 14 (dk_at dksJ11_append_2_1 10 rfl rfl)
theorem dJ11_append_2_37 : decode cJ11_append_2 37 = .ok (.iload_n 1, 1) := dk_27 (dk_at dksJ11_append_2_1 13 rfl rfl)
theorem dJ11_append_2_38 : decode cJ11_append_2 38 = .ok (.iload_n 2, 1) := dk_28 (dk_at dksJ11_append_2_1 14 rfl rfl)
theorem dJ11_append_2_39 : decode cJ11_append_2 39 = .ok (.iload_n 3, 1) := dk_29 (dk_at dksJ11_append_2_1 15 rfl rfl)
theorem dJ11_append_2_40 : decode cJ11_append_2 40 = .ok (.aload_n 0, 1) := dk_42 (dk_at dksJ11_append_2_1 16 rfl rfl)
theorem dJ11_append_2_41 : decode cJ11_append_2 41 = .ok (.getfield 15, 3) := dk_180 0 15 (dk_at dksJ11_append_2_1 17 rfl rfl)
theorem dJ11_append_2_44 : decode cJ11_append_2 44 = .ok (.invokestatic 251, 3) := dk_184 0 251 (dk_at dksJ11_append_2_1 20 rfl rfl)
theorem dJ11_append_2_47 : decode cJ11_append_2 47 = .ok (.pop, 1) := dk_87 (dk_at dksJ11_append_2_1 23 rfl rfl)
theorem dJ11_append_2_48 : decode cJ11_append_2 48 = .ok (.aload_n 0, 1) := dk_42 (dk_at dksJ11_append_2_2 0 rfl rfl)
theorem dJ11_append_2_49 : decode cJ11_append_2 49 = .ok (.iload_n 3, 1) := dk_29 (dk_at dksJ11_append_2_2 1 rfl rfl)
theorem dJ11_append_2_50 : decode cJ11_append_2 50 = .ok (.putfield 79, 3) := dk_181 0 79 (dk_at dksJ11_append_2_2 2 rfl rfl)
theorem dJ11_append_2_53 : decode cJ11_append_2 53 = .ok (.aload_n 0, 1) := dk_42 (dk_at dksJ11_append_2_2 5 rfl rfl)
theorem dJ11_append_2_54 : decode cJ11_append_2 54 = .ok (.areturn, 1) := dk_176 (dk_at dksJ11_append_2_2 6 rfl rfl)
abbrev cJ11_append_3 : ByteArray := prog_14_method_22_code
def yJ11_append_3 : MethodName := ⟨RJ11, "append", "(Ljava/lang/String;)Ljava/lang/AbstractStringBuilder;"⟩
def dkwJ11_append_3_1 : List UInt8 := [42, 42, 180, 0, 79, 43, 182, 0, 208, 42, 89, 180, 0, 79, 28, 96, 181, 0, 79, 42, 176]
abbrev dktJ11_append_3_1 : List UInt8 := dkwJ11_append_3_1 ++ []
def dkwJ11_append_3_0 : List UInt8 := [43, 199, 0, 8, 42, 182, 0, 204, 176, 43, 182, 0, 32, 61, 42, 42, 180, 0, 79, 28, 96, 182, 0, 100]
abbrev dktJ11_append_3_0 : List UInt8 := dkwJ11_append_3_0 ++ dktJ11_append_3_1
theorem dksJ11_append_3_0 : cJ11_append_3.data.toList.drop 0 = dktJ11_append_3_0 := by decide +kernel
theorem dksJ11_append_3_1 : cJ11_append_3.data.toList.drop 24 = dktJ11_append_3_1 := dk_seg dksJ11_append_3_0 24 rfl rfl
theorem dJ11_append_3_0 : decode cJ11_append_3 0 = .ok (.aload_n 1, 1) := dk_43 (dk_at dksJ11_append_3_0 0 rfl rfl)
theorem dJ11_append_3_1 : decode cJ11_append_3 1 = .ok (.ifnonnull 8, 3) := dk_199 0 8 (dk_at dksJ11_append_3_0 1 rfl rfl)
theorem dJ11_append_3_4 : decode cJ11_append_3 4 = .ok (.aload_n 0, 1) := dk_42 (dk_at dksJ11_append_3_0 4 rfl rfl)
theorem dJ11_append_3_5 : decode cJ11_append_3 5 = .ok (.invokevirtual 204, 3) := dk_182 0 204 (dk_at dksJ11_append_3_0 5 rfl rfl)
theorem dJ11_append_3_8 : decode cJ11_append_3 8 = .ok (.areturn, 1) := dk_176 (dk_at dksJ11_append_3_0 8 rfl rfl)
theorem dJ11_append_3_9 : decode cJ11_append_3 9 = .ok (.aload_n 1, 1) := dk_43 (dk_at dksJ11_append_3_0 9 rfl rfl)
theorem dJ11_append_3_10 : decode cJ11_append_3 10 = .ok (.invokevirtual 32, 3) := dk_182 0 32 (dk_at dksJ11_append_3_0 10 rfl rfl)
theorem dJ11_append_3_13 : decode cJ11_append_3 13 = .ok (.istore_n 2, 1) := dk_61 (dk_at dksJ11_append_3_0 13 rfl rfl)
theorem dJ11_append_3_14 : decode cJ11_append_3 14 = .ok (.aload_n 0, 1) := dk_42 (dk_at dksJ11_append_3_0 14 rfl rfl)
theorem dJ11_append_3_15 : decode cJ11_append_3 15 = .ok (.aload_n 0, 1) := dk_42 (dk_at dksJ11_append_3_0 15 rfl rfl)
theorem dJ11_append_3_16 : decode cJ11_append_3 16 = .ok (.getfield 79, 3) := dk_180 0 79 (dk_at dksJ11_append_3_0 16 rfl rfl)
theorem dJ11_append_3_19 : decode cJ11_append_3 19 = .ok (.iload_n 2, 1) := dk_28 (dk_at dksJ11_append_3_0 19 rfl rfl)
theorem dJ11_append_3_20 : decode cJ11_append_3 20 = .ok (.iadd, 1) := dk_96 (dk_at dksJ11_append_3_0 20 rfl rfl)
theorem dJ11_append_3_21 : decode cJ11_append_3 21 = .ok (.invokevirtual 100, 3) := dk_182 0 100 (dk_at dksJ11_append_3_0 21 rfl rfl)
theorem dJ11_append_3_24 : decode cJ11_append_3 24 = .ok (.aload_n 0, 1) := dk_42 (dk_at dksJ11_append_3_1 0 rfl rfl)
theorem dJ11_append_3_25 : decode cJ11_append_3 25 = .ok (.aload_n 0, 1) := dk_42 (dk_at dksJ11_append_3_1 1 rfl rfl)
theorem dJ11_append_3_26 : decode cJ11_append_3 26 = .ok (.getfield 79, 3) := dk_180 0 79 (dk_at dksJ11_append_3_1 2 rfl rfl)
theorem dJ11_append_3_29 : decode cJ11_append_3 29 = .ok (.aload_n 1, 1) := dk_43 (dk_at dksJ11_append_3_1 5 rfl rfl)
theorem dJ11_append_3_30 : decode cJ11_append_3 30 = .ok (.invokevirtual 208, 3) := dk_182 0 208 (dk_at dksJ11_append_3_1 6 rfl rfl)
theorem dJ11_append_3_33 : decode cJ11_append_3 33 = .ok (.aload_n 0, 1) := dk_42 (dk_at dksJ11_append_3_1 9 rfl rfl)
theorem dJ11_append_3_34 : decode cJ11_append_3 34 = .ok (.dup, 1) := dk_89 (dk_at dksJ11_append_3_1 10 rfl rfl)
theorem dJ11_append_3_35 : decode cJ11_append_3 35 = .ok (.getfield 79, 3) := dk_180 0 79 (dk_at dksJ11_append_3_1 11 rfl rfl)
theorem dJ11_append_3_38 : decode cJ11_append_3 38 = .ok (.iload_n 2, 1) := dk_28 (dk_at dksJ11_append_3_1 14 rfl rfl)
theorem dJ11_append_3_39 : decode cJ11_append_3 39 = .ok (.iadd, 1) := dk_96 (dk_at dksJ11_append_3_1 15 rfl rfl)
theorem dJ11_append_3_40 : decode cJ11_append_3 40 = .ok (.putfield 79, 3) := dk_181 0 79 (dk_at dksJ11_append_3_1 16 rfl rfl)
theorem dJ11_append_3_43 : decode cJ11_append_3 43 = .ok (.aload_n 0, 1) := dk_42 (dk_at dksJ11_append_3_1 19 rfl rfl)
theorem dJ11_append_3_44 : decode cJ11_append_3 44 = .ok (.areturn, 1) := dk_176 (dk_at dksJ11_append_3_1 20 rfl rfl)
abbrev cJ11_appendNull : ByteArray := prog_14_method_26_code
def yJ11_appendNull : MethodName := ⟨RJ11, "appendNull", "()Ljava/lang/AbstractStringBuilder;"⟩
def dkwJ11_appendNull_3 : List UInt8 := [184, 0, 226, 60, 42, 27, 181, 0, 79, 42, 176]
abbrev dktJ11_appendNull_3 : List UInt8 := dkwJ11_appendNull_3 ++ []
def dkwJ11_appendNull_2 : List UInt8 := [16, 108, 84, 44, 27, 132, 1, 1, 16, 108, 84, 167, 0, 17, 44, 27, 16, 110, 16, 117, 16, 108, 16, 108]
abbrev dktJ11_appendNull_2 : List UInt8 := dkwJ11_appendNull_2 ++ dktJ11_appendNull_3
def dkwJ11_appendNull_1 : List UInt8 := [153, 0, 38, 44, 27, 132, 1, 1, 16, 110, 84, 44, 27, 132, 1, 1, 16, 117, 84, 44, 27, 132, 1, 1]
abbrev dktJ11_appendNull_1 : List UInt8 := dkwJ11_appendNull_1 ++ dktJ11_appendNull_2
def dkwJ11_appendNull_0 : List UInt8 := [42, 42, 180, 0, 79, 7, 96, 182, 0, 100, 42, 180, 0, 79, 60, 42, 180, 0, 15, 77, 42, 182, 0, 83]
abbrev dktJ11_appendNull_0 : List UInt8 := dkwJ11_appendNull_0 ++ dktJ11_appendNull_1
theorem dksJ11_appendNull_0 : cJ11_appendNull.data.toList.drop 0 = dktJ11_appendNull_0 := by decide +kernel
theorem dksJ11_appendNull_1 : cJ11_appendNull.data.toList.drop 24 = dktJ11_appendNull_1 := dk_seg dksJ11_appendNull_0 24 rfl rfl
theorem dksJ11_appendNull_2 : cJ11_appendNull.data.toList.drop 48 = dktJ11_appendNull_2 := dk_seg dksJ11_appendNull_1 24 rfl rfl
theorem dksJ11_appendNull_3 : cJ11_appendNull.data.toList.drop 72 = dktJ11_appendNull_3 := dk_seg dksJ11_appendNull_2 24 rfl rfl
theorem dJ11_appendNull_0 : decode cJ11_appendNull 0 = .ok (.aload_n 0, 1) := dk_42 (dk_at dksJ11_appendNull_0 0 rfl rfl)
theorem dJ11_appendNull_1 : decode cJ11_appendNull 1 = .ok (.aload_n 0, 1) := dk_42 (dk_at dksJ11_appendNull_0 1 rfl rfl)
theorem dJ11_appendNull_2 : decode cJ11_appendNull 2 = .ok (.getfield 79, 3) := dk_180 0 79 (dk_at dksJ11_appendNull_0 2 rfl rfl)
theorem dJ11_appendNull_5 : decode cJ11_appendNull 5 = .ok (.iconst 4, 1) := dk_7 (dk_at dksJ11_appendNull_0 5 rfl rfl)
theorem dJ11_appendNull_6 : decode cJ11_appendNull 6 = .ok (.iadd, 1) := dk_96 (dk_at dksJ11_appendNull_0 6 rfl rfl)
theorem dJ11_appendNull_7 : decode cJ11_appendNull 7 = .ok (.invokevirtual 100, 3) := dk_182 0 100 (dk_at dksJ11_appendNull_0 7 rfl rfl)
theorem dJ11_appendNull_10 : decode cJ11_appendNull 10 = .ok (.aload_n 0, 1) := dk_42 (dk_at dksJ11_appendNull_0 10 rfl rfl)
theorem dJ11_appendNull_11 : decode cJ11_appendNull 11 = .ok (.getfield 79, 3) := dk_180 0 79 (dk_at dksJ11_appendNull_0 11 rfl rfl)
theorem dJ11_appendNull_14 : decode cJ11_appendNull 14 = .ok (.istore_n 1, 1) := dk_60 (dk_at dksJ11_appendNull_0 14 rfl rfl)
theorem dJ11_appendNull_15 : decode cJ11_appendNull 15 = .ok (.aload_n 0, 1) := dk_42 (dk_at dksJ11_appendNull_0 15 rfl rfl)
theorem dJ11_appendNull_16 : decode cJ11_appendNull 16 = .ok (.getfield 15, 3) := dk_180 0 15 (dk_at dksJ11_appendNull_0 16 rfl rfl)
theorem dJ11_appendNull_19 : decode cJ11_appendNull 19 = .ok (.astore_n 2, 1) := dk_77 (dk_at dksJ11_appendNull_0 19 rfl rfl)
theorem dJ11_appendNull_20 : decode cJ11_appendNull 20 = .ok (.aload_n 0, 1) := dk_42 (dk_at dksJ11_appendNull_0 20 rfl rfl)
theorem dJ11_appendNull_21 : decode cJ11_appendNull 21 = .ok (.invokevirtual 83, 3) := dk_182 0 83 (dk_at dksJ11_appendNull_0 21 rfl rfl)
theorem dJ11_appendNull_24 : decode cJ11_appendNull 24 = .ok (.ifCond .eq 38, 3) := dk_153 0 38 (dk_at dksJ11_appendNull_1 0 rfl rfl)
theorem dJ11_appendNull_27 : decode cJ11_appendNull 27 = .ok (.aload_n 2, 1) := dk_44 (dk_at dksJ11_appendNull_1 3 rfl rfl)
theorem dJ11_appendNull_28 : decode cJ11_appendNull 28 = .ok (.iload_n 1, 1) := dk_27 (dk_at dksJ11_appendNull_1 4 rfl rfl)
theorem dJ11_appendNull_29 : decode cJ11_appendNull 29 = .ok (.iinc 1 1, 3) := dk_132 1 1 (dk_at dksJ11_appendNull_1 5 rfl rfl)
theorem dJ11_appendNull_32 : decode cJ11_appendNull 32 = .ok (.bipush 110, 2) := dk_16 110 (dk_at dksJ11_appendNull_1 8 rfl rfl)
theorem dJ11_appendNull_34 : decode cJ11_appendNull 34 = .ok (.bastore, 1) := dk_84 (dk_at dksJ11_appendNull_1 10 rfl rfl)
theorem dJ11_appendNull_35 : decode cJ11_appendNull 35 = .ok (.aload_n 2, 1) := dk_44 (dk_at dksJ11_appendNull_1 11 rfl rfl)
theorem dJ11_appendNull_36 : decode cJ11_appendNull 36 = .ok (.iload_n 1, 1) := dk_27 (dk_at dksJ11_appendNull_1 12 rfl rfl)
theorem dJ11_appendNull_37 : decode cJ11_appendNull 37 = .ok (.iinc 1 1, 3) := dk_132 1 1 (dk_at dksJ11_appendNull_1 13 rfl rfl)
theorem dJ11_appendNull_40 : decode cJ11_appendNull 40 = .ok (.bipush 117, 2) := dk_16 117 (dk_at dksJ11_appendNull_1 16 rfl rfl)
theorem dJ11_appendNull_42 : decode cJ11_appendNull 42 = .ok (.bastore, 1) := dk_84 (dk_at dksJ11_appendNull_1 18 rfl rfl)
theorem dJ11_appendNull_43 : decode cJ11_appendNull 43 = .ok (.aload_n 2, 1) := dk_44 (dk_at dksJ11_appendNull_1 19 rfl rfl)
theorem dJ11_appendNull_44 : decode cJ11_appendNull 44 = .ok (.iload_n 1, 1) := dk_27 (dk_at dksJ11_appendNull_1 20 rfl rfl)
theorem dJ11_appendNull_45 : decode cJ11_appendNull 45 = .ok (.iinc 1 1, 3) := dk_132 1 1 (dk_at dksJ11_appendNull_1 21 rfl rfl)
theorem dJ11_appendNull_48 : decode cJ11_appendNull 48 = .ok (.bipush 108, 2) := dk_16 108 (dk_at dksJ11_appendNull_2 0 rfl rfl)
theorem dJ11_appendNull_50 : decode cJ11_appendNull 50 = .ok (.bastore, 1) := dk_84 (dk_at dksJ11_appendNull_2 2 rfl rfl)
theorem dJ11_appendNull_51 : decode cJ11_appendNull 51 = .ok (.aload_n 2, 1) := dk_44 (dk_at dksJ11_appendNull_2 3 rfl rfl)
theorem dJ11_appendNull_52 : decode cJ11_appendNull 52 = .ok (.iload_n 1, 1) := dk_27 (dk_at dksJ11_appendNull_2 4 rfl rfl)
theorem dJ11_appendNull_53 : decode cJ11_appendNull 53 = .ok (.iinc 1 1, 3) := dk_132 1 1 (dk_at dksJ11_appendNull_2 5 rfl rfl)
theorem dJ11_appendNull_56 : decode cJ11_appendNull 56 = .ok (.bipush 108, 2) := dk_16 108 (dk_at dksJ11_appendNull_2 8 rfl rfl)
theorem dJ11_appendNull_58 : decode cJ11_appendNull 58 = .ok (.bastore, 1) := dk_84 (dk_at dksJ11_appendNull_2 10 rfl rfl)
theorem dJ11_appendNull_59 : decode cJ11_appendNull 59 = .ok (.goto 17, 3) := dk_167 0 17 (dk_at dksJ11_appendNull_2 11 rfl rfl)
theorem dJ11_appendNull_62 : decode cJ11_appendNull 62 = .ok (.aload_n 2, 1) := dk_44 (dk_at dksJ11_appendNull_2 14 rfl rfl)
theorem dJ11_appendNull_63 : decode cJ11_appendNull 63 = .ok (.iload_n 1, 1) := dk_27 (dk_at dksJ11_appendNull_2 15 rfl rfl)
theorem dJ11_appendNull_64 : decode cJ11_appendNull 64 = .ok (.bipush 110, 2) := dk_16 110 (dk_at dksJ11_appendNull_2 16 rfl rfl)
theorem dJ11_appendNull_66 : decode cJ11_appendNull 66 = .ok (.bipush 117, 2) := dk_16 117 (dk_at dksJ11_appendNull_2 18 rfl rfl)
theorem dJ11_appendNull_68 : decode cJ11_appendNull 68 = .ok (.bipush 108, 2) := dk_16 108 (dk_at dksJ11_appendNull_2 20 rfl rfl)
theorem dJ11_appendNull_70 : decode cJ11_appendNull 70 = .ok (.bipush 108, 2) := dk_16 108 (dk_at dksJ11_appendNull_2 22 rfl rfl)
theorem dJ11_appendNull_72 : decode cJ11_appendNull 72 = .ok (.invokestatic 226, 3) := dk_184 0 226 (dk_at dksJ11_appendNull_3 0 rfl rfl)
theorem dJ11_appendNull_75 : decode cJ11_appendNull 75 = .ok (.istore_n 1, 1) := dk_60 (dk_at dksJ11_appendNull_3 3 rfl rfl)
theorem dJ11_appendNull_76 : decode cJ11_appendNull 76 = .ok (.aload_n 0, 1) := dk_42 (dk_at dksJ11_appendNull_3 4 rfl rfl)
theorem dJ11_appendNull_77 : decode cJ11_appendNull 77 = .ok (.iload_n 1, 1) := dk_27 (dk_at dksJ11_appendNull_3 5 rfl rfl)
theorem dJ11_appendNull_78 : decode cJ11_appendNull 78 = .ok (.putfield 79, 3) := dk_181 0 79 (dk_at dksJ11_appendNull_3 6 rfl rfl)
theorem dJ11_appendNull_81 : decode cJ11_appendNull 81 = .ok (.aload_n 0, 1) := dk_42 (dk_at dksJ11_appendNull_3 9 rfl rfl)
theorem dJ11_appendNull_82 : decode cJ11_appendNull 82 = .ok (.areturn, 1) := dk_176 (dk_at dksJ11_appendNull_3 10 rfl rfl)
abbrev cJ11_putStringAt : ByteArray := prog_14_method_73_code
def yJ11_putStringAt : MethodName := ⟨RJ11, "putStringAt", "(ILjava/lang/String;)V"⟩
def dkwJ11_putStringAt_0 : List UInt8 := [42, 44, 182, 1, 141, 44, 42, 180, 0, 15, 27, 42, 180, 0, 22, 182, 1, 143, 177]
abbrev dktJ11_putStringAt_0 : List UInt8 := dkwJ11_putStringAt_0 ++ []
theorem dksJ11_putStringAt_0 : cJ11_putStringAt.data.toList.drop 0 = dktJ11_putStringAt_0 := by decide +kernel
theorem dJ11_putStringAt_0 : decode cJ11_putStringAt 0 = .ok (.aload_n 0, 1) := dk_42 (dk_at dksJ11_putStringAt_0 0 rfl rfl)
theorem dJ11_putStringAt_1 : decode cJ11_putStringAt 1 = .ok (.aload_n 2, 1) := dk_44 (dk_at dksJ11_putStringAt_0 1 rfl rfl)
theorem dJ11_putStringAt_2 : decode cJ11_putStringAt 2 = .ok (.invokevirtual 397, 3) := dk_182 1 141 (dk_at dksJ11_putStringAt_0 2 rfl rfl)
theorem dJ11_putStringAt_5 : decode cJ11_putStringAt 5 = .ok (.aload_n 2, 1) := dk_44 (dk_at dksJ11_putStringAt_0 5 rfl rfl)
theorem dJ11_putStringAt_6 : decode cJ11_putStringAt 6 = .ok (.aload_n 0, 1) := dk_42 (dk_at dksJ11_putStringAt_0 6 rfl rfl)
theorem dJ11_putStringAt_7 : decode cJ11_putStringAt 7 = .ok (.getfield 15, 3) := dk_180 0 15 (dk_at dksJ11_putStringAt_0 7 rfl rfl)
theorem dJ11_putStringAt_10 : decode cJ11_putStringAt 10 = .ok (.iload_n 1, 1) := dk_27 (dk_at dksJ11_putStringAt_0 10 rfl rfl)
theorem dJ11_putStringAt_11 : decode cJ11_putStringAt 11 = .ok (.aload_n 0, 1) := dk_42 (dk_at dksJ11_putStringAt_0 11 rfl rfl)
theorem dJ11_putStringAt_12 : decode cJ11_putStringAt 12 = .ok (.getfield 22, 3) := dk_180 0 22 (dk_at dksJ11_putStringAt_0 12 rfl rfl)
theorem dJ11_putStringAt_15 : decode cJ11_putStringAt 15 = .ok (.invokevirtual 399, 3) := dk_182 1 143 (dk_at dksJ11_putStringAt_0 15 rfl rfl)
theorem dJ11_putStringAt_18 : decode cJ11_putStringAt 18 = .ok (.return_, 1) := dk_177 (dk_at dksJ11_putStringAt_0 18 rfl rfl)
abbrev cJ11_inflateIfNeededFor : ByteArray := prog_14_method_71_code
def yJ11_inflateIfNeededFor : MethodName := ⟨RJ11, "inflateIfNeededFor", "(Ljava/lang/String;)V"⟩
def dkwJ11_inflateIfNeededFor_0 : List UInt8 := [178, 0, 18, 153, 0, 18, 42, 180, 0, 22, 43, 182, 0, 40, 159, 0, 7, 42, 182, 0, 195, 177]
abbrev dktJ11_inflateIfNeededFor_0 : List UInt8 := dkwJ11_inflateIfNeededFor_0 ++ []
theorem dksJ11_inflateIfNeededFor_0 : cJ11_inflateIfNeededFor.data.toList.drop 0 = dktJ11_inflateIfNeededFor_0 := by decide +kernel
theorem dJ11_inflateIfNeededFor_0 : decode cJ11_inflateIfNeededFor 0 = .ok (.getstatic 18, 3) := dk_178 0 18 (dk_at dksJ11_inflateIfNeededFor_0 0 rfl rfl)
theorem dJ11_inflateIfNeededFor_3 : decode cJ11_inflateIfNeededFor 3 = .ok (.ifCond .eq 18, 3) := dk_153 0 18 (dk_at dksJ11_inflateIfNeededFor_0 3 rfl rfl)
theorem dJ11_inflateIfNeededFor_6 : decode cJ11_inflateIfNeededFor 6 = .ok (.aload_n 0, 1) := dk_42 (dk_at dksJ11_inflateIfNeededFor_0 6 rfl rfl)
theorem dJ11_inflateIfNeededFor_7 : decode cJ11_inflateIfNeededFor 7 = .ok (.getfield 22, 3) := dk_180 0 22 (dk_at dksJ11_inflateIfNeededFor_0 7 rfl rfl)
theorem dJ11_inflateIfNeededFor_10 : decode cJ11_inflateIfNeededFor 10 = .ok (.aload_n 1, 1) := dk_43 (dk_at dksJ11_inflateIfNeededFor_0 10 rfl rfl)
theorem dJ11_inflateIfNeededFor_11 : decode cJ11_inflateIfNeededFor 11 = .ok (.invokevirtual 40, 3) := dk_182 0 40 (dk_at dksJ11_inflateIfNeededFor_0 11 rfl rfl)
theorem dJ11_inflateIfNeededFor_14 : decode cJ11_inflateIfNeededFor 14 = .ok (.if_icmp .eq 7, 3) := dk_159 0 7 (dk_at dksJ11_inflateIfNeededFor_0 14 rfl rfl)
theorem dJ11_inflateIfNeededFor_17 : decode cJ11_inflateIfNeededFor 17 = .ok (.aload_n 0, 1) := dk_42 (dk_at dksJ11_inflateIfNeededFor_0 17 rfl rfl)
theorem dJ11_inflateIfNeededFor_18 : decode cJ11_inflateIfNeededFor 18 = .ok (.invokevirtual 195, 3) := dk_182 0 195 (dk_at dksJ11_inflateIfNeededFor_0 18 rfl rfl)
theorem dJ11_inflateIfNeededFor_21 : decode cJ11_inflateIfNeededFor 21 = .ok (.return_, 1) := dk_177 (dk_at dksJ11_inflateIfNeededFor_0 21 rfl rfl)
abbrev cJ11_compareTo : ByteArray := prog_14_method_5_code
def yJ11_compareTo : MethodName := ⟨RJ11, "compareTo", "(Ljava/lang/AbstractStringBuilder;)I"⟩
def dkwJ11_compareTo_4 : List UInt8 := [184, 0, 97, 172]
abbrev dktJ11_compareTo_4 : List UInt8 := dkwJ11_compareTo_4 ++ []
def dkwJ11_compareTo_3 : List UInt8 := [182, 0, 83, 153, 0, 15, 44, 45, 21, 4, 21, 5, 184, 0, 94, 167, 0, 12, 44, 45, 21, 4, 21, 5]
abbrev dktJ11_compareTo_3 : List UInt8 := dkwJ11_compareTo_3 ++ dktJ11_compareTo_4
def dkwJ11_compareTo_2 : List UInt8 := [45, 21, 4, 21, 5, 184, 0, 87, 167, 0, 12, 44, 45, 21, 4, 21, 5, 184, 0, 93, 172, 42]
abbrev dktJ11_compareTo_2 : List UInt8 := dkwJ11_compareTo_2 ++ dktJ11_compareTo_3
def dkwJ11_compareTo_1 : List UInt8 := [180, 0, 79, 54, 5, 42, 180, 0, 22, 43, 180, 0, 22, 160, 0, 32, 42, 182, 0, 83, 153, 0, 15, 44]
abbrev dktJ11_compareTo_1 : List UInt8 := dkwJ11_compareTo_1 ++ dktJ11_compareTo_2
def dkwJ11_compareTo_0 : List UInt8 := [42, 43, 166, 0, 5, 3, 172, 42, 180, 0, 15, 77, 43, 180, 0, 15, 78, 42, 180, 0, 79, 54, 4, 43]
abbrev dktJ11_compareTo_0 : List UInt8 := dkwJ11_compareTo_0 ++ dktJ11_compareTo_1
theorem dksJ11_compareTo_0 : cJ11_compareTo.data.toList.drop 0 = dktJ11_compareTo_0 := by decide +kernel
theorem dksJ11_compareTo_1 : cJ11_compareTo.data.toList.drop 24 = dktJ11_compareTo_1 := dk_seg dksJ11_compareTo_0 24 rfl rfl
theorem dksJ11_compareTo_2 : cJ11_compareTo.data.toList.drop 48 = dktJ11_compareTo_2 := dk_seg dksJ11_compareTo_1 24 rfl rfl
theorem dksJ11_compareTo_3 : cJ11_compareTo.data.toList.drop 70 = dktJ11_compareTo_3 := dk_seg dksJ11_compareTo_2 22 rfl rfl
theorem dksJ11_compareTo_4 : cJ11_compareTo.data.toList.drop 94 = dktJ11_compareTo_4 := dk_seg dksJ11_compareTo_3 24 rfl rfl
theorem dJ11_compareTo_0 : decode cJ11_compareTo 0 = .ok (.aload_n 0, 1) := dk_42 (dk_at dksJ11_compareTo_0 0 rfl rfl)
theorem dJ11_compareTo_1 : decode cJ11_compareTo 1 = .ok (.aload_n 1, 1) := dk_43 (dk_at dksJ11_compareTo_0 1 rfl rfl)
theorem dJ11_compareTo_2 : decode cJ11_compareTo 2 = .ok (.if_acmp .ne 5, 3) := dk_166 0 5 (dk_at dksJ11_compareTo_0 2 rfl rfl)
theorem dJ11_compareTo_5 : decode cJ11_compareTo 5 = .ok (.iconst 0, 1) := dk_3 (dk_at dksJ11_compareTo_0 5 rfl rfl)
theorem dJ11_compareTo_6 : decode cJ11_compareTo 6 = .ok (.ireturn, 1) := dk_172 (dk_at dksJ11_compareTo_0 6 rfl rfl)
theorem dJ11_compareTo_7 : decode cJ11_compareTo 7 = .ok (.aload_n 0, 1) := dk_42 (dk_at dksJ11_compareTo_0 7 rfl rfl)
theorem dJ11_compareTo_8 : decode cJ11_compareTo 8 = .ok (.getfield 15, 3) := dk_180 0 15 (dk_at dksJ11_compareTo_0 8 rfl rfl)
theorem dJ11_compareTo_11 : decode cJ11_compareTo 11 = .ok (.astore_n 2, 1) := dk_77 (dk_at dksJ11_compareTo_0 11 rfl rfl)
theorem dJ11_compareTo_12 : decode cJ11_compareTo 12 = .ok (.aload_n 1, 1) := dk_43 (dk_at dksJ11_compareTo_0 12 rfl rfl)
theorem dJ11_compareTo_13 : decode cJ11_compareTo 13 = .ok (.getfield 15, 3) := dk_180 0 15 (dk_at dksJ11_compareTo_0 13 rfl rfl)
theorem dJ11_compareTo_16 : decode cJ11_compareTo 16 = .ok (.astore_n 3, 1) := dk_78 (dk_at dksJ11_compareTo_0 16 rfl rfl)
theorem dJ11_compareTo_17 : decode cJ11_compareTo 17 = .ok (.aload_n 0, 1) := dk_42 (dk_at dksJ11_compareTo_0 17 rfl rfl)
theorem dJ11_compareTo_18 : decode cJ11_compareTo 18 = .ok (.getfield 79, 3) := dk_180 0 79 (dk_at dksJ11_compareTo_0 18 rfl rfl)
theorem dJ11_compareTo_21 : decode cJ11_compareTo 21 = .ok (.istore 4, 2) := dk_54 4 (dk_at dksJ11_compareTo_0 21 rfl rfl)
theorem dJ11_compareTo_23 : decode cJ11_compareTo 23 = .ok (.aload_n 1, 1) := dk_43 (dk_at dksJ11_compareTo_0 23 rfl rfl)
theorem dJ11_compareTo_24 : decode cJ11_compareTo 24 = .ok (.getfield 79, 3) := dk_180 0 79 (dk_at dksJ11_compareTo_1 0 rfl rfl)
theorem dJ11_compareTo_27 : decode cJ11_compareTo 27 = .ok (.istore 5, 2) := dk_54 5 (dk_at dksJ11_compareTo_1 3 rfl rfl)
theorem dJ11_compareTo_29 : decode cJ11_compareTo 29 = .ok (.aload_n 0, 1) := dk_42 (dk_at dksJ11_compareTo_1 5 rfl rfl)
theorem dJ11_compareTo_30 : decode cJ11_compareTo 30 = .ok (.getfield 22, 3) := dk_180 0 22 (dk_at dksJ11_compareTo_1 6 rfl rfl)
theorem dJ11_compareTo_33 : decode cJ11_compareTo 33 = .ok (.aload_n 1, 1) := dk_43 (dk_at dksJ11_compareTo_1 9 rfl rfl)
theorem dJ11_compareTo_34 : decode cJ11_compareTo 34 = .ok (.getfield 22, 3) := dk_180 0 22 (dk_at dksJ11_compareTo_1 10 rfl rfl)
theorem dJ11_compareTo_37 : decode cJ11_compareTo 37 = .ok (.if_icmp .ne 32, 3) := dk_160 0 32 (dk_at dksJ11_compareTo_1 13 rfl rfl)
theorem dJ11_compareTo_40 : decode cJ11_compareTo 40 = .ok (.aload_n 0, 1) := dk_42 (dk_at dksJ11_compareTo_1 16 rfl rfl)
theorem dJ11_compareTo_41 : decode cJ11_compareTo 41 = .ok (.invokevirtual 83, 3) := dk_182 0 83 (dk_at dksJ11_compareTo_1 17 rfl rfl)
theorem dJ11_compareTo_44 : decode cJ11_compareTo 44 = .ok (.ifCond .eq 15, 3) := dk_153 0 15 (dk_at dksJ11_compareTo_1 20 rfl rfl)
theorem dJ11_compareTo_47 : decode cJ11_compareTo 47 = .ok (.aload_n 2, 1) := dk_44 (dk_at dksJ11_compareTo_1 23 rfl rfl)
theorem dJ11_compareTo_48 : decode cJ11_compareTo 48 = .ok (.aload_n 3, 1) := dk_45 (dk_at dksJ11_compareTo_2 0 rfl rfl)
theorem dJ11_compareTo_49 : decode cJ11_compareTo 49 = .ok (.iload 4, 2) := dk_21 4 (dk_at dksJ11_compareTo_2 1 rfl rfl)
theorem dJ11_compareTo_51 : decode cJ11_compareTo 51 = .ok (.iload 5, 2) := dk_21 5 (dk_at dksJ11_compareTo_2 3 rfl rfl)
theorem dJ11_compareTo_53 : decode cJ11_compareTo 53 = .ok (.invokestatic 87, 3) := dk_184 0 87 (dk_at dksJ11_compareTo_2 5 rfl rfl)
theorem dJ11_compareTo_56 : decode cJ11_compareTo 56 = .ok (.goto 12, 3) := dk_167 0 12 (dk_at dksJ11_compareTo_2 8 rfl rfl)
theorem dJ11_compareTo_59 : decode cJ11_compareTo 59 = .ok (.aload_n 2, 1) := dk_44 (dk_at dksJ11_compareTo_2 11 rfl rfl)
theorem dJ11_compareTo_60 : decode cJ11_compareTo 60 = .ok (.aload_n 3, 1) := dk_45 (dk_at dksJ11_compareTo_2 12 rfl rfl)
theorem dJ11_compareTo_61 : decode cJ11_compareTo 61 = .ok (.iload 4, 2) := dk_21 4 (dk_at dksJ11_compareTo_2 13 rfl rfl)
theorem dJ11_compareTo_63 : decode cJ11_compareTo 63 = .ok (.iload 5, 2) := dk_21 5 (dk_at dksJ11_compareTo_2 15 rfl rfl)
theorem dJ11_compareTo_65 : decode cJ11_compareTo 65 = .ok (.invokestatic 93, 3) := dk_184 0 93 (dk_at dksJ11_compareTo_2 17 rfl rfl)
theorem dJ11_compareTo_68 : decode cJ11_compareTo 68 = .ok (.ireturn, 1) := dk_172 (dk_at dksJ11_compareTo_2 20 rfl rfl)
theorem dJ11_compareTo_69 : decode cJ11_compareTo 69 = .ok (.aload_n 0, 1) := dk_42 (dk_at dksJ11_compareTo_2 21 rfl rfl)
theorem dJ11_compareTo_70 : decode cJ11_compareTo 70 = .ok (.invokevirtual 83, 3) := dk_182 0 83 (dk_at dksJ11_compareTo_3 0 rfl rfl)
theorem dJ11_compareTo_73 : decode cJ11_compareTo 73 = .ok (.ifCond .eq 15, 3) := dk_153 0 15 (dk_at dksJ11_compareTo_3 3 rfl rfl)
theorem dJ11_compareTo_76 : decode cJ11_compareTo 76 = .ok (.aload_n 2, 1) := dk_44 (dk_at dksJ11_compareTo_3 6 rfl rfl)
theorem dJ11_compareTo_77 : decode cJ11_compareTo 77 = .ok (.aload_n 3, 1) := dk_45 (dk_at dksJ11_compareTo_3 7 rfl rfl)
theorem dJ11_compareTo_78 : decode cJ11_compareTo 78 = .ok (.iload 4, 2) := dk_21 4 (dk_at dksJ11_compareTo_3 8 rfl rfl)
theorem dJ11_compareTo_80 : decode cJ11_compareTo 80 = .ok (.iload 5, 2) := dk_21 5 (dk_at dksJ11_compareTo_3 10 rfl rfl)
theorem dJ11_compareTo_82 : decode cJ11_compareTo 82 = .ok (.invokestatic 94, 3) := dk_184 0 94 (dk_at dksJ11_compareTo_3 12 rfl rfl)
theorem dJ11_compareTo_85 : decode cJ11_compareTo 85 = .ok (.goto 12, 3) := dk_167 0 12 (dk_at dksJ11_compareTo_3 15 rfl rfl)
theorem dJ11_compareTo_88 : decode cJ11_compareTo 88 = .ok (.aload_n 2, 1) := dk_44 (dk_at dksJ11_compareTo_3 18 rfl rfl)
theorem dJ11_compareTo_89 : decode cJ11_compareTo 89 = .ok (.aload_n 3, 1) := dk_45 (dk_at dksJ11_compareTo_3 19 rfl rfl)
theorem dJ11_compareTo_90 : decode cJ11_compareTo 90 = .ok (.iload 4, 2) := dk_21 4 (dk_at dksJ11_compareTo_3 20 rfl rfl)
theorem dJ11_compareTo_92 : decode cJ11_compareTo 92 = .ok (.iload 5, 2) := dk_21 5 (dk_at dksJ11_compareTo_3 22 rfl rfl)
theorem dJ11_compareTo_94 : decode cJ11_compareTo 94 = .ok (.invokestatic 97, 3) := dk_184 0 97 (dk_at dksJ11_compareTo_4 0 rfl rfl)
theorem dJ11_compareTo_97 : decode cJ11_compareTo 97 = .ok (.ireturn, 1) := dk_172 (dk_at dksJ11_compareTo_4 3 rfl rfl)
theorem q132 : (Jvm.Cond.initialized "java/lang/AbstractStringBuilder") ∈ lw_all := lw_g (lw_at lw_m1 17 rfl) rfl
theorem q488 : (Jvm.Cond.instanceMethod ({ cls := "java/lang/AbstractStringBuilder", name := "<init>", desc := "(I)V" } : Jvm.MethodName)) ∈ lw_all := lw_g (lw_at lw_m2 133 rfl) rfl
theorem q489 : (Jvm.Cond.code ({ cls := "java/lang/AbstractStringBuilder", name := "<init>", desc := "(I)V" } : Jvm.MethodName) prog_14_method_2_code (2 : Nat) (Option.none : Option Jvm.ClassFile.FieldType)) ∈ lw_all := lw_g (lw_at lw_m2 134 rfl) rfl
theorem q490 : (Jvm.Cond.methodLink "java/lang/AbstractStringBuilder" (3 : Nat) ({ cls := "java/lang/Object", name := "<init>", desc := "()V" } : Jvm.MethodName)) ∈ lw_all := lw_g (lw_at lw_m2 135 rfl) rfl
theorem q491 : (Jvm.Cond.fieldLink "java/lang/AbstractStringBuilder" (18 : Nat) "java/lang/String" "COMPACT_STRINGS" "Z") ∈ lw_all := lw_g (lw_at lw_m2 136 rfl) rfl
theorem q493 : (Jvm.Cond.methodLink "java/lang/AbstractStringBuilder" (26 : Nat) ({ cls := "java/lang/StringUTF16", name := "newBytesFor", desc := "(I)[B" } : Jvm.MethodName)) ∈ lw_all := lw_g (lw_at lw_m2 138 rfl) rfl
theorem q500 : (Jvm.Cond.fieldLink "java/lang/AbstractStringBuilder" (15 : Nat) "java/lang/AbstractStringBuilder" "value" "[B") ∈ lw_all := lw_g (lw_at lw_m2 145 rfl) rfl
theorem q501 : (Jvm.Cond.fieldLink "java/lang/AbstractStringBuilder" (22 : Nat) "java/lang/AbstractStringBuilder" "coder" "B") ∈ lw_all := lw_g (lw_at lw_m2 146 rfl) rfl
theorem q503 : (Jvm.Cond.fieldLink "java/lang/AbstractStringBuilder" (79 : Nat) "java/lang/AbstractStringBuilder" "count" "I") ∈ lw_all := lw_g (lw_at lw_m2 148 rfl) rfl
theorem q505 : (Jvm.Cond.soleField "java/lang/AbstractStringBuilder" "value") ∈ lw_all := lw_g (lw_at lw_m2 150 rfl) rfl
theorem q507 : (Jvm.Cond.soleField "java/lang/AbstractStringBuilder" "coder") ∈ lw_all := lw_g (lw_at lw_m2 152 rfl) rfl
theorem q509 : (Jvm.Cond.soleField "java/lang/AbstractStringBuilder" "maybeLatin1") ∈ lw_all := lw_g (lw_at lw_m2 154 rfl) rfl
theorem q511 : (Jvm.Cond.soleField "java/lang/AbstractStringBuilder" "count") ∈ lw_all := lw_g (lw_at lw_m2 156 rfl) rfl
theorem q518 : (Jvm.Cond.instanceMethod ({ cls := "java/lang/AbstractStringBuilder", name := "length", desc := "()I" } : Jvm.MethodName)) ∈ lw_all := lw_g (lw_at lw_m2 163 rfl) rfl
theorem q519 : (Jvm.Cond.code ({ cls := "java/lang/AbstractStringBuilder", name := "length", desc := "()I" } : Jvm.MethodName) prog_14_method_6_code (1 : Nat) (Option.some Jvm.ClassFile.FieldType.int)) ∈ lw_all := lw_g (lw_at lw_m2 164 rfl) rfl
theorem q525 : (Jvm.Cond.instanceMethod ({ cls := "java/lang/AbstractStringBuilder", name := "append", desc := "(C)Ljava/lang/AbstractStringBuilder;" } : Jvm.MethodName)) ∈ lw_all := lw_g (lw_at lw_m2 170 rfl) rfl
theorem q526 : (Jvm.Cond.code ({ cls := "java/lang/AbstractStringBuilder", name := "append", desc := "(C)Ljava/lang/AbstractStringBuilder;" } : Jvm.MethodName) prog_14_method_31_code (2 : Nat) (Option.some (Jvm.ClassFile.FieldType.object "java/lang/AbstractStringBuilder"))) ∈ lw_all := lw_g (lw_at lw_m2 171 rfl) rfl
theorem q527 : (Jvm.Cond.methodLink "java/lang/AbstractStringBuilder" (100 : Nat) ({ cls := "java/lang/AbstractStringBuilder", name := "ensureCapacityInternal", desc := "(I)V" } : Jvm.MethodName)) ∈ lw_all := lw_g (lw_at lw_m2 172 rfl) rfl
theorem q528 : (Jvm.Cond.privateMethod ({ cls := "java/lang/AbstractStringBuilder", name := "ensureCapacityInternal", desc := "(I)V" } : Jvm.MethodName)) ∈ lw_tbl := lw_at lw_m2 173 rfl
theorem q529 : (Jvm.Cond.instanceMethod ({ cls := "java/lang/AbstractStringBuilder", name := "ensureCapacityInternal", desc := "(I)V" } : Jvm.MethodName)) ∈ lw_all := lw_g (lw_at lw_m2 174 rfl) rfl
theorem q530 : (Jvm.Cond.code ({ cls := "java/lang/AbstractStringBuilder", name := "ensureCapacityInternal", desc := "(I)V" } : Jvm.MethodName) prog_14_method_9_code (3 : Nat) (Option.none : Option Jvm.ClassFile.FieldType)) ∈ lw_all := lw_g (lw_at lw_m2 175 rfl) rfl
theorem q531 : (Jvm.Cond.methodLink "java/lang/AbstractStringBuilder" (104 : Nat) ({ cls := "java/lang/AbstractStringBuilder", name := "newCapacity", desc := "(I)I" } : Jvm.MethodName)) ∈ lw_all := lw_g (lw_at lw_m2 176 rfl) rfl
theorem q532 : (Jvm.Cond.privateMethod ({ cls := "java/lang/AbstractStringBuilder", name := "newCapacity", desc := "(I)I" } : Jvm.MethodName)) ∈ lw_tbl := lw_at lw_m2 177 rfl
theorem q533 : (Jvm.Cond.instanceMethod ({ cls := "java/lang/AbstractStringBuilder", name := "newCapacity", desc := "(I)I" } : Jvm.MethodName)) ∈ lw_all := lw_g (lw_at lw_m2 178 rfl) rfl
theorem q534 : (Jvm.Cond.code ({ cls := "java/lang/AbstractStringBuilder", name := "newCapacity", desc := "(I)I" } : Jvm.MethodName) prog_14_method_10_code (6 : Nat) (Option.some Jvm.ClassFile.FieldType.int)) ∈ lw_all := lw_g (lw_at lw_m2 179 rfl) rfl
theorem q535 : (Jvm.Cond.methodLink "java/lang/AbstractStringBuilder" (114 : Nat) ({ cls := "jdk/internal/util/ArraysSupport", name := "newLength", desc := "(III)I" } : Jvm.MethodName)) ∈ lw_all := lw_g (lw_at lw_m2 180 rfl) rfl
theorem q545 : (Jvm.Cond.constant "java/lang/AbstractStringBuilder" (39 : Nat) (2147483647 : Int32)) ∈ lw_all := lw_g (lw_at lw_m2 190 rfl) rfl
theorem q546 : (Jvm.Cond.methodLink "java/lang/AbstractStringBuilder" (108 : Nat) ({ cls := "java/util/Arrays", name := "copyOf", desc := "([BI)[B" } : Jvm.MethodName)) ∈ lw_all := lw_g (lw_at lw_m2 191 rfl) rfl
theorem q562 : (Jvm.Cond.methodLink "java/lang/AbstractStringBuilder" (83 : Nat) ({ cls := "java/lang/AbstractStringBuilder", name := "isLatin1", desc := "()Z" } : Jvm.MethodName)) ∈ lw_all := lw_g (lw_at lw_m2 207 rfl) rfl
theorem q563 : (Jvm.Cond.instanceMethod ({ cls := "java/lang/AbstractStringBuilder", name := "isLatin1", desc := "()Z" } : Jvm.MethodName)) ∈ lw_all := lw_g (lw_at lw_m2 208 rfl) rfl
theorem q564 : (Jvm.Cond.sameMethod "java/lang/AbstractStringBuilder" "java/lang/AbstractStringBuilder" "isLatin1" "()Z") ∈ lw_all := lw_g (lw_at lw_m2 209 rfl) rfl
theorem q566 : (Jvm.Cond.code ({ cls := "java/lang/AbstractStringBuilder", name := "isLatin1", desc := "()Z" } : Jvm.MethodName) prog_14_method_68_code (1 : Nat) (Option.some Jvm.ClassFile.FieldType.boolean)) ∈ lw_all := lw_g (lw_at lw_m2 211 rfl) rfl
theorem q567 : (Jvm.Cond.methodLink "java/lang/AbstractStringBuilder" (191 : Nat) ({ cls := "java/lang/StringLatin1", name := "canEncode", desc := "(C)Z" } : Jvm.MethodName)) ∈ lw_all := lw_g (lw_at lw_m2 212 rfl) rfl
theorem q570 : (Jvm.Cond.methodLink "java/lang/AbstractStringBuilder" (195 : Nat) ({ cls := "java/lang/AbstractStringBuilder", name := "inflate", desc := "()V" } : Jvm.MethodName)) ∈ lw_all := lw_g (lw_at lw_m2 215 rfl) rfl
theorem q571 : (Jvm.Cond.privateMethod ({ cls := "java/lang/AbstractStringBuilder", name := "inflate", desc := "()V" } : Jvm.MethodName)) ∈ lw_tbl := lw_at lw_m2 216 rfl
theorem q572 : (Jvm.Cond.instanceMethod ({ cls := "java/lang/AbstractStringBuilder", name := "inflate", desc := "()V" } : Jvm.MethodName)) ∈ lw_all := lw_g (lw_at lw_m2 217 rfl) rfl
theorem q573 : (Jvm.Cond.code ({ cls := "java/lang/AbstractStringBuilder", name := "inflate", desc := "()V" } : Jvm.MethodName) prog_14_method_11_code (2 : Nat) (Option.none : Option Jvm.ClassFile.FieldType)) ∈ lw_all := lw_g (lw_at lw_m2 218 rfl) rfl
theorem q574 : (Jvm.Cond.methodLink "java/lang/AbstractStringBuilder" (125 : Nat) ({ cls := "java/lang/StringLatin1", name := "inflate", desc := "([BI[BII)V" } : Jvm.MethodName)) ∈ lw_all := lw_g (lw_at lw_m2 219 rfl) rfl
theorem q603 : (Jvm.Cond.methodLink "java/lang/AbstractStringBuilder" (197 : Nat) ({ cls := "java/lang/StringUTF16", name := "putCharSB", desc := "([BII)V" } : Jvm.MethodName)) ∈ lw_all := lw_g (lw_at lw_m3 8 rfl) rfl
theorem q629 : (Jvm.Cond.instanceMethod ({ cls := "java/lang/AbstractStringBuilder", name := "getValue", desc := "()[B" } : Jvm.MethodName)) ∈ lw_all := lw_g (lw_at lw_m3 34 rfl) rfl
theorem q630 : (Jvm.Cond.sameMethod "java/lang/AbstractStringBuilder" "java/lang/AbstractStringBuilder" "getValue" "()[B") ∈ lw_all := lw_g (lw_at lw_m3 35 rfl) rfl
theorem q632 : (Jvm.Cond.code ({ cls := "java/lang/AbstractStringBuilder", name := "getValue", desc := "()[B" } : Jvm.MethodName) prog_14_method_64_code (1 : Nat) (Option.some (Jvm.ClassFile.FieldType.array Jvm.ClassFile.FieldType.byte))) ∈ lw_all := lw_g (lw_at lw_m3 37 rfl) rfl
theorem q660 : (Jvm.Cond.instanceMethod ({ cls := "java/lang/AbstractStringBuilder", name := "append", desc := "(I)Ljava/lang/AbstractStringBuilder;" } : Jvm.MethodName)) ∈ lw_all := lw_g (lw_at lw_m3 65 rfl) rfl
theorem q661 : (Jvm.Cond.code ({ cls := "java/lang/AbstractStringBuilder", name := "append", desc := "(I)Ljava/lang/AbstractStringBuilder;" } : Jvm.MethodName) prog_14_method_32_code (4 : Nat) (Option.some (Jvm.ClassFile.FieldType.object "java/lang/AbstractStringBuilder"))) ∈ lw_all := lw_g (lw_at lw_m3 66 rfl) rfl
theorem q662 : (Jvm.Cond.methodLink "java/lang/AbstractStringBuilder" (245 : Nat) ({ cls := "java/lang/Integer", name := "stringSize", desc := "(I)I" } : Jvm.MethodName)) ∈ lw_all := lw_g (lw_at lw_m3 67 rfl) rfl
theorem q665 : (Jvm.Cond.methodLink "java/lang/AbstractStringBuilder" (248 : Nat) ({ cls := "java/lang/Integer", name := "getChars", desc := "(II[B)I" } : Jvm.MethodName)) ∈ lw_all := lw_g (lw_at lw_m3 70 rfl) rfl
theorem q672 : (Jvm.Cond.methodLink "java/lang/AbstractStringBuilder" (251 : Nat) ({ cls := "java/lang/StringUTF16", name := "getChars", desc := "(III[B)I" } : Jvm.MethodName)) ∈ lw_all := lw_g (lw_at lw_m3 77 rfl) rfl
theorem q695 : (Jvm.Cond.instanceMethod ({ cls := "java/lang/AbstractStringBuilder", name := "append", desc := "(Ljava/lang/String;)Ljava/lang/AbstractStringBuilder;" } : Jvm.MethodName)) ∈ lw_all := lw_g (lw_at lw_m3 100 rfl) rfl
theorem q696 : (Jvm.Cond.code ({ cls := "java/lang/AbstractStringBuilder", name := "append", desc := "(Ljava/lang/String;)Ljava/lang/AbstractStringBuilder;" } : Jvm.MethodName) prog_14_method_22_code (3 : Nat) (Option.some (Jvm.ClassFile.FieldType.object "java/lang/AbstractStringBuilder"))) ∈ lw_all := lw_g (lw_at lw_m3 101 rfl) rfl
theorem q697 : (Jvm.Cond.methodLink "java/lang/AbstractStringBuilder" (204 : Nat) ({ cls := "java/lang/AbstractStringBuilder", name := "appendNull", desc := "()Ljava/lang/AbstractStringBuilder;" } : Jvm.MethodName)) ∈ lw_all := lw_g (lw_at lw_m3 102 rfl) rfl
theorem q698 : (Jvm.Cond.privateMethod ({ cls := "java/lang/AbstractStringBuilder", name := "appendNull", desc := "()Ljava/lang/AbstractStringBuilder;" } : Jvm.MethodName)) ∈ lw_tbl := lw_at lw_m3 103 rfl
theorem q699 : (Jvm.Cond.instanceMethod ({ cls := "java/lang/AbstractStringBuilder", name := "appendNull", desc := "()Ljava/lang/AbstractStringBuilder;" } : Jvm.MethodName)) ∈ lw_all := lw_g (lw_at lw_m3 104 rfl) rfl
theorem q700 : (Jvm.Cond.code ({ cls := "java/lang/AbstractStringBuilder", name := "appendNull", desc := "()Ljava/lang/AbstractStringBuilder;" } : Jvm.MethodName) prog_14_method_26_code (3 : Nat) (Option.some (Jvm.ClassFile.FieldType.object "java/lang/AbstractStringBuilder"))) ∈ lw_all := lw_g (lw_at lw_m3 105 rfl) rfl
theorem q701 : (Jvm.Cond.methodLink "java/lang/AbstractStringBuilder" (226 : Nat) ({ cls := "java/lang/StringUTF16", name := "putCharsAt", desc := "([BICCCC)I" } : Jvm.MethodName)) ∈ lw_all := lw_g (lw_at lw_m3 106 rfl) rfl
theorem q704 : (Jvm.Cond.methodLink "java/lang/AbstractStringBuilder" (32 : Nat) ({ cls := "java/lang/String", name := "length", desc := "()I" } : Jvm.MethodName)) ∈ lw_all := lw_g (lw_at lw_m3 109 rfl) rfl
theorem q713 : (Jvm.Cond.methodLink "java/lang/AbstractStringBuilder" (208 : Nat) ({ cls := "java/lang/AbstractStringBuilder", name := "putStringAt", desc := "(ILjava/lang/String;)V" } : Jvm.MethodName)) ∈ lw_all := lw_g (lw_at lw_m3 118 rfl) rfl
theorem q714 : (Jvm.Cond.privateMethod ({ cls := "java/lang/AbstractStringBuilder", name := "putStringAt", desc := "(ILjava/lang/String;)V" } : Jvm.MethodName)) ∈ lw_tbl := lw_at lw_m3 119 rfl
theorem q715 : (Jvm.Cond.instanceMethod ({ cls := "java/lang/AbstractStringBuilder", name := "putStringAt", desc := "(ILjava/lang/String;)V" } : Jvm.MethodName)) ∈ lw_all := lw_g (lw_at lw_m3 120 rfl) rfl
theorem q716 : (Jvm.Cond.code ({ cls := "java/lang/AbstractStringBuilder", name := "putStringAt", desc := "(ILjava/lang/String;)V" } : Jvm.MethodName) prog_14_method_73_code (3 : Nat) (Option.none : Option Jvm.ClassFile.FieldType)) ∈ lw_all := lw_g (lw_at lw_m3 121 rfl) rfl
theorem q717 : (Jvm.Cond.methodLink "java/lang/AbstractStringBuilder" (397 : Nat) ({ cls := "java/lang/AbstractStringBuilder", name := "inflateIfNeededFor", desc := "(Ljava/lang/String;)V" } : Jvm.MethodName)) ∈ lw_all := lw_g (lw_at lw_m3 122 rfl) rfl
theorem q718 : (Jvm.Cond.privateMethod ({ cls := "java/lang/AbstractStringBuilder", name := "inflateIfNeededFor", desc := "(Ljava/lang/String;)V" } : Jvm.MethodName)) ∈ lw_tbl := lw_at lw_m3 123 rfl
theorem q719 : (Jvm.Cond.instanceMethod ({ cls := "java/lang/AbstractStringBuilder", name := "inflateIfNeededFor", desc := "(Ljava/lang/String;)V" } : Jvm.MethodName)) ∈ lw_all := lw_g (lw_at lw_m3 124 rfl) rfl
theorem q720 : (Jvm.Cond.code ({ cls := "java/lang/AbstractStringBuilder", name := "inflateIfNeededFor", desc := "(Ljava/lang/String;)V" } : Jvm.MethodName) prog_14_method_71_code (2 : Nat) (Option.none : Option Jvm.ClassFile.FieldType)) ∈ lw_all := lw_g (lw_at lw_m3 125 rfl) rfl
theorem q721 : (Jvm.Cond.methodLink "java/lang/AbstractStringBuilder" (40 : Nat) ({ cls := "java/lang/String", name := "coder", desc := "()B" } : Jvm.MethodName)) ∈ lw_all := lw_g (lw_at lw_m3 126 rfl) rfl
theorem q722 : (Jvm.Cond.methodLink "java/lang/AbstractStringBuilder" (399 : Nat) ({ cls := "java/lang/String", name := "getBytes", desc := "([BIB)V" } : Jvm.MethodName)) ∈ lw_all := lw_g (lw_at lw_m3 127 rfl) rfl
theorem q1475 : (Jvm.Cond.instanceMethod ({ cls := "java/lang/AbstractStringBuilder", name := "compareTo", desc := "(Ljava/lang/AbstractStringBuilder;)I" } : Jvm.MethodName)) ∈ lw_all := lw_g (lw_at lw_m6 160 rfl) rfl
theorem q1476 : (Jvm.Cond.code ({ cls := "java/lang/AbstractStringBuilder", name := "compareTo", desc := "(Ljava/lang/AbstractStringBuilder;)I" } : Jvm.MethodName) prog_14_method_5_code (6 : Nat) (Option.some Jvm.ClassFile.FieldType.int)) ∈ lw_all := lw_g (lw_at lw_m6 161 rfl) rfl
theorem q1477 : (Jvm.Cond.methodLink "java/lang/AbstractStringBuilder" (87 : Nat) ({ cls := "java/lang/StringLatin1", name := "compareTo", desc := "([B[BII)I" } : Jvm.MethodName)) ∈ lw_all := lw_g (lw_at lw_m6 162 rfl) rfl
theorem q1478 : (Jvm.Cond.methodLink "java/lang/AbstractStringBuilder" (93 : Nat) ({ cls := "java/lang/StringUTF16", name := "compareTo", desc := "([B[BII)I" } : Jvm.MethodName)) ∈ lw_all := lw_g (lw_at lw_m6 163 rfl) rfl
theorem q1487 : (Jvm.Cond.methodLink "java/lang/AbstractStringBuilder" (94 : Nat) ({ cls := "java/lang/StringLatin1", name := "compareToUTF16", desc := "([B[BII)I" } : Jvm.MethodName)) ∈ lw_all := lw_g (lw_at lw_m6 172 rfl) rfl
theorem q1491 : (Jvm.Cond.methodLink "java/lang/AbstractStringBuilder" (97 : Nat) ({ cls := "java/lang/StringUTF16", name := "compareToLatin1", desc := "([B[BII)I" } : Jvm.MethodName)) ∈ lw_all := lw_g (lw_at lw_m6 176 rfl) rfl
theorem q2770 : (Jvm.Cond.sameMethod "java/lang/AbstractStringBuilder" "java/lang/AbstractStringBuilder" "length" "()I") ∈ lw_all := lw_g (lw_at lw_m12 15 rfl) rfl
theorem q2771 : (Jvm.Cond.sameMethod "java/lang/AbstractStringBuilder" "java/lang/AbstractStringBuilder" "append" "(C)Ljava/lang/AbstractStringBuilder;") ∈ lw_all := lw_g (lw_at lw_m12 16 rfl) rfl
theorem q2772 : (Jvm.Cond.sameMethod "java/lang/AbstractStringBuilder" "java/lang/AbstractStringBuilder" "ensureCapacityInternal" "(I)V") ∈ lw_all := lw_g (lw_at lw_m12 17 rfl) rfl
theorem q2773 : (Jvm.Cond.sameMethod "java/lang/AbstractStringBuilder" "java/lang/AbstractStringBuilder" "newCapacity" "(I)I") ∈ lw_all := lw_g (lw_at lw_m12 18 rfl) rfl
theorem q2774 : (Jvm.Cond.sameMethod "java/lang/AbstractStringBuilder" "java/lang/AbstractStringBuilder" "inflate" "()V") ∈ lw_all := lw_g (lw_at lw_m12 19 rfl) rfl
theorem q2776 : (Jvm.Cond.sameMethod "java/lang/AbstractStringBuilder" "java/lang/AbstractStringBuilder" "append" "(I)Ljava/lang/AbstractStringBuilder;") ∈ lw_all := lw_g (lw_at lw_m12 21 rfl) rfl
theorem q2777 : (Jvm.Cond.sameMethod "java/lang/AbstractStringBuilder" "java/lang/AbstractStringBuilder" "append" "(Ljava/lang/String;)Ljava/lang/AbstractStringBuilder;") ∈ lw_all := lw_g (lw_at lw_m12 22 rfl) rfl
theorem q2778 : (Jvm.Cond.sameMethod "java/lang/AbstractStringBuilder" "java/lang/AbstractStringBuilder" "appendNull" "()Ljava/lang/AbstractStringBuilder;") ∈ lw_all := lw_g (lw_at lw_m12 23 rfl) rfl
theorem q2779 : (Jvm.Cond.sameMethod "java/lang/AbstractStringBuilder" "java/lang/AbstractStringBuilder" "putStringAt" "(ILjava/lang/String;)V") ∈ lw_all := lw_g (lw_at lw_m12 24 rfl) rfl
theorem q2780 : (Jvm.Cond.sameMethod "java/lang/AbstractStringBuilder" "java/lang/AbstractStringBuilder" "inflateIfNeededFor" "(Ljava/lang/String;)V") ∈ lw_all := lw_g (lw_at lw_m12 25 rfl) rfl
theorem q2781 : (Jvm.Cond.sameMethod "java/lang/AbstractStringBuilder" "java/lang/AbstractStringBuilder" "compareTo" "(Ljava/lang/AbstractStringBuilder;)I") ∈ lw_all := lw_g (lw_at lw_m12 26 rfl) rfl
/-! java/lang/StringBuilder -/
set_option maxRecDepth 100000
def RJ12 : String := "java/lang/StringBuilder"
def TJ12 : u_T := fun k => match k with
  | 0 => ("java/lang/AbstractStringBuilder", "value", "[B", false)
  | 1 => ("java/lang/AbstractStringBuilder", "coder", "B", false)
  | 2 => ("java/lang/AbstractStringBuilder", "maybeLatin1", "Z", false)
  | _ => ("java/lang/AbstractStringBuilder", "count", "I", false)
def tyJ12 : Nat → FieldType := fun k => match k with
  | 0 => .array .byte
  | 1 => .byte
  | 2 => .boolean
  | _ => .int
abbrev wsJ120 : List Cond := u_ws RJ12 TJ12 4
theorem nmJ12 : ∀ a, a < 4 → ∀ b, b < 4 → a ≠ b → (TJ12 a).2.1 ≠ (TJ12 b).2.1 := by decide +kernel
theorem tyJ12_ok : ∀ k, k < 4 → parseFieldDescriptor (TJ12 k).2.2.1 = some (tyJ12 k) := by decide +kernel
abbrev cJ12_init : ByteArray := prog_36_method_1_code
def yJ12_init : MethodName := ⟨RJ12, "<init>", "()V"⟩
def dkwJ12_init_0 : List UInt8 := [42, 16, 16, 183, 0, 1, 177]
abbrev dktJ12_init_0 : List UInt8 := dkwJ12_init_0 ++ []
theorem dksJ12_init_0 : cJ12_init.data.toList.drop 0 = dktJ12_init_0 := by decide +kernel
theorem dJ12_init_0 : decode cJ12_init 0 = .ok (.aload_n 0, 1) := dk_42 (dk_at dksJ12_init_0 0 rfl rfl)
theorem dJ12_init_1 : decode cJ12_init 1 = .ok (.bipush 16, 2) := dk_16 16 (dk_at dksJ12_init_0 1 rfl rfl)
theorem dJ12_init_3 : decode cJ12_init 3 = .ok (.invokespecial 1, 3) := dk_183 0 1 (dk_at dksJ12_init_0 3 rfl rfl)
theorem dJ12_init_6 : decode cJ12_init 6 = .ok (.return_, 1) := dk_177 (dk_at dksJ12_init_0 6 rfl rfl)
abbrev cJ12_length : ByteArray := prog_36_method_93_code
def yJ12_length : MethodName := ⟨RJ12, "length", "()I"⟩
theorem dJ12_length_0 : decode cJ12_length 0 = .ok (.aload_n 0, 1) := by decide +kernel
theorem dJ12_length_1 : decode cJ12_length 1 = .ok (.invokespecial 343, 3) := by decide +kernel
theorem dJ12_length_4 : decode cJ12_length 4 = .ok (.ireturn, 1) := by decide +kernel
abbrev cJ12_append : ByteArray := prog_36_method_14_code
def yJ12_append : MethodName := ⟨RJ12, "append", "(C)Ljava/lang/StringBuilder;"⟩
def dkwJ12_append_0 : List UInt8 := [42, 27, 183, 0, 50, 87, 42, 176]
abbrev dktJ12_append_0 : List UInt8 := dkwJ12_append_0 ++ []
theorem dksJ12_append_0 : cJ12_append.data.toList.drop 0 = dktJ12_append_0 := by decide +kernel
theorem dJ12_append_0 : decode cJ12_append 0 = .ok (.aload_n 0, 1) := dk_42 (dk_at dksJ12_append_0 0 rfl rfl)
theorem dJ12_append_1 : decode cJ12_append 1 = .ok (.iload_n 1, 1) := dk_27 (dk_at dksJ12_append_0 1 rfl rfl)
theorem dJ12_append_2 : decode cJ12_append 2 = .ok (.invokespecial 50, 3) := dk_183 0 50 (dk_at dksJ12_append_0 2 rfl rfl)
theorem dJ12_append_5 : decode cJ12_append 5 = .ok (.pop, 1) := dk_87 (dk_at dksJ12_append_0 5 rfl rfl)
theorem dJ12_append_6 : decode cJ12_append 6 = .ok (.aload_n 0, 1) := dk_42 (dk_at dksJ12_append_0 6 rfl rfl)
theorem dJ12_append_7 : decode cJ12_append 7 = .ok (.areturn, 1) := dk_176 (dk_at dksJ12_append_0 7 rfl rfl)
abbrev cJ12_toString : ByteArray := prog_36_method_42_code
def yJ12_toString : MethodName := ⟨RJ12, "toString", "()Ljava/lang/String;"⟩
def dkwJ12_toString_0 : List UInt8 := [187, 0, 18, 89, 42, 183, 0, 137, 176]
abbrev dktJ12_toString_0 : List UInt8 := dkwJ12_toString_0 ++ []
theorem dksJ12_toString_0 : cJ12_toString.data.toList.drop 0 = dktJ12_toString_0 := by decide +kernel
theorem dJ12_toString_0 : decode cJ12_toString 0 = .ok (.new 18, 3) := dk_187 0 18 (dk_at dksJ12_toString_0 0 rfl rfl)
theorem dJ12_toString_3 : decode cJ12_toString 3 = .ok (.dup, 1) := dk_89 (dk_at dksJ12_toString_0 3 rfl rfl)
theorem dJ12_toString_4 : decode cJ12_toString 4 = .ok (.aload_n 0, 1) := dk_42 (dk_at dksJ12_toString_0 4 rfl rfl)
theorem dJ12_toString_5 : decode cJ12_toString 5 = .ok (.invokespecial 137, 3) := dk_183 0 137 (dk_at dksJ12_toString_0 5 rfl rfl)
theorem dJ12_toString_8 : decode cJ12_toString 8 = .ok (.areturn, 1) := dk_176 (dk_at dksJ12_toString_0 8 rfl rfl)
abbrev cJ12_append_2 : ByteArray := prog_36_method_15_code
def yJ12_append_2 : MethodName := ⟨RJ12, "append", "(I)Ljava/lang/StringBuilder;"⟩
def dkwJ12_append_2_0 : List UInt8 := [42, 27, 183, 0, 53, 87, 42, 176]
abbrev dktJ12_append_2_0 : List UInt8 := dkwJ12_append_2_0 ++ []
theorem dksJ12_append_2_0 : cJ12_append_2.data.toList.drop 0 = dktJ12_append_2_0 := by decide +kernel
theorem dJ12_append_2_0 : decode cJ12_append_2 0 = .ok (.aload_n 0, 1) := dk_42 (dk_at dksJ12_append_2_0 0 rfl rfl)
theorem dJ12_append_2_1 : decode cJ12_append_2 1 = .ok (.iload_n 1, 1) := dk_27 (dk_at dksJ12_append_2_0 1 rfl rfl)
theorem dJ12_append_2_2 : decode cJ12_append_2 2 = .ok (.invokespecial 53, 3) := dk_183 0 53 (dk_at dksJ12_append_2_0 2 rfl rfl)
theorem dJ12_append_2_5 : decode cJ12_append_2 5 = .ok (.pop, 1) := dk_87 (dk_at dksJ12_append_2_0 5 rfl rfl)
theorem dJ12_append_2_6 : decode cJ12_append_2 6 = .ok (.aload_n 0, 1) := dk_42 (dk_at dksJ12_append_2_0 6 rfl rfl)
theorem dJ12_append_2_7 : decode cJ12_append_2 7 = .ok (.areturn, 1) := dk_176 (dk_at dksJ12_append_2_0 7 rfl rfl)
abbrev cJ12_append_3 : ByteArray := prog_36_method_7_code
def yJ12_append_3 : MethodName := ⟨RJ12, "append", "(Ljava/lang/String;)Ljava/lang/StringBuilder;"⟩
def dkwJ12_append_3_0 : List UInt8 := [42, 43, 183, 0, 29, 87, 42, 176]
abbrev dktJ12_append_3_0 : List UInt8 := dkwJ12_append_3_0 ++ []
theorem dksJ12_append_3_0 : cJ12_append_3.data.toList.drop 0 = dktJ12_append_3_0 := by decide +kernel
theorem dJ12_append_3_0 : decode cJ12_append_3 0 = .ok (.aload_n 0, 1) := dk_42 (dk_at dksJ12_append_3_0 0 rfl rfl)
theorem dJ12_append_3_1 : decode cJ12_append_3 1 = .ok (.aload_n 1, 1) := dk_43 (dk_at dksJ12_append_3_0 1 rfl rfl)
theorem dJ12_append_3_2 : decode cJ12_append_3 2 = .ok (.invokespecial 29, 3) := dk_183 0 29 (dk_at dksJ12_append_3_0 2 rfl rfl)
theorem dJ12_append_3_5 : decode cJ12_append_3 5 = .ok (.pop, 1) := dk_87 (dk_at dksJ12_append_3_0 5 rfl rfl)
theorem dJ12_append_3_6 : decode cJ12_append_3 6 = .ok (.aload_n 0, 1) := dk_42 (dk_at dksJ12_append_3_0 6 rfl rfl)
theorem dJ12_append_3_7 : decode cJ12_append_3 7 = .ok (.areturn, 1) := dk_176 (dk_at dksJ12_append_3_0 7 rfl rfl)
abbrev cJ12_compareTo : ByteArray := prog_36_method_97_code
def yJ12_compareTo : MethodName := ⟨RJ12, "compareTo", "(Ljava/lang/Object;)I"⟩
def dkwJ12_compareTo_0 : List UInt8 := [42, 43, 192, 0, 24, 182, 1, 90, 172]
abbrev dktJ12_compareTo_0 : List UInt8 := dkwJ12_compareTo_0 ++ []
theorem dksJ12_compareTo_0 : cJ12_compareTo.data.toList.drop 0 = dktJ12_compareTo_0 := by decide +kernel
theorem dJ12_compareTo_0 : decode cJ12_compareTo 0 = .ok (.aload_n 0, 1) := dk_42 (dk_at dksJ12_compareTo_0 0 rfl rfl)
theorem dJ12_compareTo_1 : decode cJ12_compareTo 1 = .ok (.aload_n 1, 1) := dk_43 (dk_at dksJ12_compareTo_0 1 rfl rfl)
theorem dJ12_compareTo_2 : decode cJ12_compareTo 2 = .ok (.checkcast 24, 3) := dk_192 0 24 (dk_at dksJ12_compareTo_0 2 rfl rfl)
theorem dJ12_compareTo_5 : decode cJ12_compareTo 5 = .ok (.invokevirtual 346, 3) := dk_182 1 90 (dk_at dksJ12_compareTo_0 5 rfl rfl)
theorem dJ12_compareTo_8 : decode cJ12_compareTo 8 = .ok (.ireturn, 1) := dk_172 (dk_at dksJ12_compareTo_0 8 rfl rfl)
abbrev cJ12_compareTo_2 : ByteArray := prog_36_method_5_code
def yJ12_compareTo_2 : MethodName := ⟨RJ12, "compareTo", "(Ljava/lang/StringBuilder;)I"⟩
def dkwJ12_compareTo_2_0 : List UInt8 := [42, 43, 183, 0, 13, 172]
abbrev dktJ12_compareTo_2_0 : List UInt8 := dkwJ12_compareTo_2_0 ++ []
theorem dksJ12_compareTo_2_0 : cJ12_compareTo_2.data.toList.drop 0 = dktJ12_compareTo_2_0 := by decide +kernel
theorem dJ12_compareTo_2_0 : decode cJ12_compareTo_2 0 = .ok (.aload_n 0, 1) := dk_42 (dk_at dksJ12_compareTo_2_0 0 rfl rfl)
theorem dJ12_compareTo_2_1 : decode cJ12_compareTo_2 1 = .ok (.aload_n 1, 1) := dk_43 (dk_at dksJ12_compareTo_2_0 1 rfl rfl)
theorem dJ12_compareTo_2_2 : decode cJ12_compareTo_2 2 = .ok (.invokespecial 13, 3) := dk_183 0 13 (dk_at dksJ12_compareTo_2_0 2 rfl rfl)
theorem dJ12_compareTo_2_5 : decode cJ12_compareTo_2 5 = .ok (.ireturn, 1) := dk_172 (dk_at dksJ12_compareTo_2_0 5 rfl rfl)
theorem q133 : (Jvm.Cond.initialized "java/lang/StringBuilder") ∈ lw_all := lw_g (lw_at lw_m1 18 rfl) rfl
theorem q483 : (Jvm.Cond.instantiable "java/lang/StringBuilder" (4 : Nat)) ∈ lw_all := lw_g (lw_at lw_m2 128 rfl) rfl
theorem q485 : (Jvm.Cond.instanceMethod ({ cls := "java/lang/StringBuilder", name := "<init>", desc := "()V" } : Jvm.MethodName)) ∈ lw_all := lw_g (lw_at lw_m2 130 rfl) rfl
theorem q486 : (Jvm.Cond.code ({ cls := "java/lang/StringBuilder", name := "<init>", desc := "()V" } : Jvm.MethodName) prog_36_method_1_code (1 : Nat) (Option.none : Option Jvm.ClassFile.FieldType)) ∈ lw_all := lw_g (lw_at lw_m2 131 rfl) rfl
theorem q487 : (Jvm.Cond.methodLink "java/lang/StringBuilder" (1 : Nat) ({ cls := "java/lang/AbstractStringBuilder", name := "<init>", desc := "(I)V" } : Jvm.MethodName)) ∈ lw_all := lw_g (lw_at lw_m2 132 rfl) rfl
theorem q504 : (Jvm.Cond.lays "java/lang/StringBuilder" "java/lang/AbstractStringBuilder" "value" "[B") ∈ lw_all := lw_g (lw_at lw_m2 149 rfl) rfl
theorem q506 : (Jvm.Cond.lays "java/lang/StringBuilder" "java/lang/AbstractStringBuilder" "coder" "B") ∈ lw_all := lw_g (lw_at lw_m2 151 rfl) rfl
theorem q508 : (Jvm.Cond.lays "java/lang/StringBuilder" "java/lang/AbstractStringBuilder" "maybeLatin1" "Z") ∈ lw_all := lw_g (lw_at lw_m2 153 rfl) rfl
theorem q510 : (Jvm.Cond.lays "java/lang/StringBuilder" "java/lang/AbstractStringBuilder" "count" "I") ∈ lw_all := lw_g (lw_at lw_m2 155 rfl) rfl
theorem q512 : (Jvm.Cond.superclass "java/lang/StringBuilder" "java/lang/AbstractStringBuilder") ∈ lw_all := lw_g (lw_at lw_m2 157 rfl) rfl
theorem q514 : (Jvm.Cond.instanceMethod ({ cls := "java/lang/StringBuilder", name := "length", desc := "()I" } : Jvm.MethodName)) ∈ lw_all := lw_g (lw_at lw_m2 159 rfl) rfl
theorem q515 : (Jvm.Cond.selects "java/lang/StringBuilder" ({ cls := "java/lang/StringBuilder", name := "length", desc := "()I" } : Jvm.MethodName) ({ cls := "java/lang/StringBuilder", name := "length", desc := "()I" } : Jvm.MethodName)) ∈ lw_all := lw_g (lw_at lw_m2 160 rfl) rfl
theorem q516 : (Jvm.Cond.code ({ cls := "java/lang/StringBuilder", name := "length", desc := "()I" } : Jvm.MethodName) prog_36_method_93_code (1 : Nat) (Option.some Jvm.ClassFile.FieldType.int)) ∈ lw_all := lw_g (lw_at lw_m2 161 rfl) rfl
theorem q517 : (Jvm.Cond.methodLink "java/lang/StringBuilder" (343 : Nat) ({ cls := "java/lang/AbstractStringBuilder", name := "length", desc := "()I" } : Jvm.MethodName)) ∈ lw_all := lw_g (lw_at lw_m2 162 rfl) rfl
theorem q521 : (Jvm.Cond.instanceMethod ({ cls := "java/lang/StringBuilder", name := "append", desc := "(C)Ljava/lang/StringBuilder;" } : Jvm.MethodName)) ∈ lw_all := lw_g (lw_at lw_m2 166 rfl) rfl
theorem q522 : (Jvm.Cond.selects "java/lang/StringBuilder" ({ cls := "java/lang/StringBuilder", name := "append", desc := "(C)Ljava/lang/StringBuilder;" } : Jvm.MethodName) ({ cls := "java/lang/StringBuilder", name := "append", desc := "(C)Ljava/lang/StringBuilder;" } : Jvm.MethodName)) ∈ lw_all := lw_g (lw_at lw_m2 167 rfl) rfl
theorem q523 : (Jvm.Cond.code ({ cls := "java/lang/StringBuilder", name := "append", desc := "(C)Ljava/lang/StringBuilder;" } : Jvm.MethodName) prog_36_method_14_code (2 : Nat) (Option.some (Jvm.ClassFile.FieldType.object "java/lang/StringBuilder"))) ∈ lw_all := lw_g (lw_at lw_m2 168 rfl) rfl
theorem q524 : (Jvm.Cond.methodLink "java/lang/StringBuilder" (50 : Nat) ({ cls := "java/lang/AbstractStringBuilder", name := "append", desc := "(C)Ljava/lang/AbstractStringBuilder;" } : Jvm.MethodName)) ∈ lw_all := lw_g (lw_at lw_m2 169 rfl) rfl
theorem q565 : (Jvm.Cond.selects "java/lang/StringBuilder" ({ cls := "java/lang/AbstractStringBuilder", name := "isLatin1", desc := "()Z" } : Jvm.MethodName) ({ cls := "java/lang/AbstractStringBuilder", name := "isLatin1", desc := "()Z" } : Jvm.MethodName)) ∈ lw_all := lw_g (lw_at lw_m2 210 rfl) rfl
theorem q616 : (Jvm.Cond.instanceMethod ({ cls := "java/lang/StringBuilder", name := "toString", desc := "()Ljava/lang/String;" } : Jvm.MethodName)) ∈ lw_all := lw_g (lw_at lw_m3 21 rfl) rfl
theorem q617 : (Jvm.Cond.selects "java/lang/StringBuilder" ({ cls := "java/lang/StringBuilder", name := "toString", desc := "()Ljava/lang/String;" } : Jvm.MethodName) ({ cls := "java/lang/StringBuilder", name := "toString", desc := "()Ljava/lang/String;" } : Jvm.MethodName)) ∈ lw_all := lw_g (lw_at lw_m3 22 rfl) rfl
theorem q618 : (Jvm.Cond.code ({ cls := "java/lang/StringBuilder", name := "toString", desc := "()Ljava/lang/String;" } : Jvm.MethodName) prog_36_method_42_code (1 : Nat) (Option.some (Jvm.ClassFile.FieldType.object "java/lang/String"))) ∈ lw_all := lw_g (lw_at lw_m3 23 rfl) rfl
theorem q619 : (Jvm.Cond.classLink "java/lang/StringBuilder" (18 : Nat) "java/lang/String") ∈ lw_all := lw_g (lw_at lw_m3 24 rfl) rfl
theorem q621 : (Jvm.Cond.methodLink "java/lang/StringBuilder" (137 : Nat) ({ cls := "java/lang/String", name := "<init>", desc := "(Ljava/lang/StringBuilder;)V" } : Jvm.MethodName)) ∈ lw_all := lw_g (lw_at lw_m3 26 rfl) rfl
theorem q631 : (Jvm.Cond.selects "java/lang/StringBuilder" ({ cls := "java/lang/AbstractStringBuilder", name := "getValue", desc := "()[B" } : Jvm.MethodName) ({ cls := "java/lang/AbstractStringBuilder", name := "getValue", desc := "()[B" } : Jvm.MethodName)) ∈ lw_all := lw_g (lw_at lw_m3 36 rfl) rfl
theorem q656 : (Jvm.Cond.instanceMethod ({ cls := "java/lang/StringBuilder", name := "append", desc := "(I)Ljava/lang/StringBuilder;" } : Jvm.MethodName)) ∈ lw_all := lw_g (lw_at lw_m3 61 rfl) rfl
theorem q657 : (Jvm.Cond.selects "java/lang/StringBuilder" ({ cls := "java/lang/StringBuilder", name := "append", desc := "(I)Ljava/lang/StringBuilder;" } : Jvm.MethodName) ({ cls := "java/lang/StringBuilder", name := "append", desc := "(I)Ljava/lang/StringBuilder;" } : Jvm.MethodName)) ∈ lw_all := lw_g (lw_at lw_m3 62 rfl) rfl
theorem q658 : (Jvm.Cond.code ({ cls := "java/lang/StringBuilder", name := "append", desc := "(I)Ljava/lang/StringBuilder;" } : Jvm.MethodName) prog_36_method_15_code (2 : Nat) (Option.some (Jvm.ClassFile.FieldType.object "java/lang/StringBuilder"))) ∈ lw_all := lw_g (lw_at lw_m3 63 rfl) rfl
theorem q659 : (Jvm.Cond.methodLink "java/lang/StringBuilder" (53 : Nat) ({ cls := "java/lang/AbstractStringBuilder", name := "append", desc := "(I)Ljava/lang/AbstractStringBuilder;" } : Jvm.MethodName)) ∈ lw_all := lw_g (lw_at lw_m3 64 rfl) rfl
theorem q691 : (Jvm.Cond.instanceMethod ({ cls := "java/lang/StringBuilder", name := "append", desc := "(Ljava/lang/String;)Ljava/lang/StringBuilder;" } : Jvm.MethodName)) ∈ lw_all := lw_g (lw_at lw_m3 96 rfl) rfl
theorem q692 : (Jvm.Cond.selects "java/lang/StringBuilder" ({ cls := "java/lang/StringBuilder", name := "append", desc := "(Ljava/lang/String;)Ljava/lang/StringBuilder;" } : Jvm.MethodName) ({ cls := "java/lang/StringBuilder", name := "append", desc := "(Ljava/lang/String;)Ljava/lang/StringBuilder;" } : Jvm.MethodName)) ∈ lw_all := lw_g (lw_at lw_m3 97 rfl) rfl
theorem q693 : (Jvm.Cond.code ({ cls := "java/lang/StringBuilder", name := "append", desc := "(Ljava/lang/String;)Ljava/lang/StringBuilder;" } : Jvm.MethodName) prog_36_method_7_code (2 : Nat) (Option.some (Jvm.ClassFile.FieldType.object "java/lang/StringBuilder"))) ∈ lw_all := lw_g (lw_at lw_m3 98 rfl) rfl
theorem q694 : (Jvm.Cond.methodLink "java/lang/StringBuilder" (29 : Nat) ({ cls := "java/lang/AbstractStringBuilder", name := "append", desc := "(Ljava/lang/String;)Ljava/lang/AbstractStringBuilder;" } : Jvm.MethodName)) ∈ lw_all := lw_g (lw_at lw_m3 99 rfl) rfl
theorem q1015 : (Jvm.Cond.selects "java/lang/StringBuilder" ({ cls := "java/lang/Object", name := "getClass", desc := "()Ljava/lang/Class;" } : Jvm.MethodName) ({ cls := "java/lang/Object", name := "getClass", desc := "()Ljava/lang/Class;" } : Jvm.MethodName)) ∈ lw_all := lw_g (lw_at lw_m4 180 rfl) rfl
theorem q1213 : (Jvm.Cond.selects "java/lang/StringBuilder" ({ cls := "java/lang/Object", name := "hashCode", desc := "()I" } : Jvm.MethodName) ({ cls := "java/lang/Object", name := "hashCode", desc := "()I" } : Jvm.MethodName)) ∈ lw_all := lw_g (lw_at lw_m5 138 rfl) rfl
theorem q1257 : (Jvm.Cond.selects "java/lang/StringBuilder" ({ cls := "java/lang/Object", name := "equals", desc := "(Ljava/lang/Object;)Z" } : Jvm.MethodName) ({ cls := "java/lang/Object", name := "equals", desc := "(Ljava/lang/Object;)Z" } : Jvm.MethodName)) ∈ lw_all := lw_g (lw_at lw_m5 182 rfl) rfl
theorem q1463 : (Jvm.Cond.castable "java/lang/StringBuilder" "java/lang/Comparable") ∈ lw_tbl := lw_at lw_m6 148 rfl
theorem q1464 : (Jvm.Cond.selects "java/lang/StringBuilder" ({ cls := "java/lang/Comparable", name := "compareTo", desc := "(Ljava/lang/Object;)I" } : Jvm.MethodName) ({ cls := "java/lang/StringBuilder", name := "compareTo", desc := "(Ljava/lang/Object;)I" } : Jvm.MethodName)) ∈ lw_all := lw_g (lw_at lw_m6 149 rfl) rfl
theorem q1465 : (Jvm.Cond.unhidden "java/lang/StringBuilder" "compareTo" "(Ljava/lang/Object;)I") ∈ lw_tbl := lw_at lw_m6 150 rfl
theorem q1466 : (Jvm.Cond.instanceMethod ({ cls := "java/lang/StringBuilder", name := "compareTo", desc := "(Ljava/lang/Object;)I" } : Jvm.MethodName)) ∈ lw_all := lw_g (lw_at lw_m6 151 rfl) rfl
theorem q1467 : (Jvm.Cond.publicMethod ({ cls := "java/lang/StringBuilder", name := "compareTo", desc := "(Ljava/lang/Object;)I" } : Jvm.MethodName)) ∈ lw_tbl := lw_at lw_m6 152 rfl
theorem q1468 : (Jvm.Cond.code ({ cls := "java/lang/StringBuilder", name := "compareTo", desc := "(Ljava/lang/Object;)I" } : Jvm.MethodName) prog_36_method_97_code (2 : Nat) (Option.some Jvm.ClassFile.FieldType.int)) ∈ lw_all := lw_g (lw_at lw_m6 153 rfl) rfl
theorem q1469 : (Jvm.Cond.classLink "java/lang/StringBuilder" (24 : Nat) "java/lang/StringBuilder") ∈ lw_all := lw_g (lw_at lw_m6 154 rfl) rfl
theorem q1470 : (Jvm.Cond.methodLink "java/lang/StringBuilder" (346 : Nat) ({ cls := "java/lang/StringBuilder", name := "compareTo", desc := "(Ljava/lang/StringBuilder;)I" } : Jvm.MethodName)) ∈ lw_all := lw_g (lw_at lw_m6 155 rfl) rfl
theorem q1471 : (Jvm.Cond.instanceMethod ({ cls := "java/lang/StringBuilder", name := "compareTo", desc := "(Ljava/lang/StringBuilder;)I" } : Jvm.MethodName)) ∈ lw_all := lw_g (lw_at lw_m6 156 rfl) rfl
theorem q1472 : (Jvm.Cond.selects "java/lang/StringBuilder" ({ cls := "java/lang/StringBuilder", name := "compareTo", desc := "(Ljava/lang/StringBuilder;)I" } : Jvm.MethodName) ({ cls := "java/lang/StringBuilder", name := "compareTo", desc := "(Ljava/lang/StringBuilder;)I" } : Jvm.MethodName)) ∈ lw_all := lw_g (lw_at lw_m6 157 rfl) rfl
theorem q1473 : (Jvm.Cond.code ({ cls := "java/lang/StringBuilder", name := "compareTo", desc := "(Ljava/lang/StringBuilder;)I" } : Jvm.MethodName) prog_36_method_5_code (2 : Nat) (Option.some Jvm.ClassFile.FieldType.int)) ∈ lw_all := lw_g (lw_at lw_m6 158 rfl) rfl
theorem q1474 : (Jvm.Cond.methodLink "java/lang/StringBuilder" (13 : Nat) ({ cls := "java/lang/AbstractStringBuilder", name := "compareTo", desc := "(Ljava/lang/AbstractStringBuilder;)I" } : Jvm.MethodName)) ∈ lw_all := lw_g (lw_at lw_m6 159 rfl) rfl
theorem q2775 : (Jvm.Cond.selects "java/lang/StringBuilder" ({ cls := "java/lang/AbstractStringBuilder", name := "length", desc := "()I" } : Jvm.MethodName) ({ cls := "java/lang/StringBuilder", name := "length", desc := "()I" } : Jvm.MethodName)) ∈ lw_all := lw_g (lw_at lw_m12 20 rfl) rfl
theorem q2801 : (Jvm.Cond.castable "java/lang/StringBuilder" "java/lang/Object") ∈ lw_tbl := lw_at lw_m12 46 rfl
theorem in_J12 : ∀ w ∈ wsJ120, w ∈ lw_all := lw_in wsJ120 [504, 506, 508, 510] (by decide +kernel) (by decide +kernel)
/-! java/lang/String -/
set_option maxRecDepth 100000
def RJ13 : String := "java/lang/String"
def TJ13 : u_T := fun k => match k with
  | 0 => ("java/lang/String", "value", "[B", true)
  | 1 => ("java/lang/String", "coder", "B", true)
  | 2 => ("java/lang/String", "hash", "I", false)
  | _ => ("java/lang/String", "hashIsZero", "Z", false)
def tyJ13 : Nat → FieldType := fun k => match k with
  | 0 => .array .byte
  | 1 => .byte
  | 2 => .int
  | _ => .boolean
abbrev wsJ130 : List Cond := u_ws RJ13 TJ13 4
theorem nmJ13 : ∀ a, a < 4 → ∀ b, b < 4 → a ≠ b → (TJ13 a).2.1 ≠ (TJ13 b).2.1 := by decide +kernel
theorem tyJ13_ok : ∀ k, k < 4 → parseFieldDescriptor (TJ13 k).2.2.1 = some (tyJ13 k) := by decide +kernel
abbrev cJ13_checkBoundsOffCount : ByteArray := prog_35_method_157_code
def yJ13_checkBoundsOffCount : MethodName := ⟨RJ13, "checkBoundsOffCount", "(III)I"⟩
def dkwJ13_checkBoundsOffCount_0 : List UInt8 := [26, 27, 28, 178, 4, 29, 184, 4, 41, 172]
abbrev dktJ13_checkBoundsOffCount_0 : List UInt8 := dkwJ13_checkBoundsOffCount_0 ++ []
theorem dksJ13_checkBoundsOffCount_0 : cJ13_checkBoundsOffCount.data.toList.drop 0 = dktJ13_checkBoundsOffCount_0 := by decide +kernel
theorem dJ13_checkBoundsOffCount_0 : decode cJ13_checkBoundsOffCount 0 = .ok (.iload_n 0, 1) := dk_26 (dk_at dksJ13_checkBoundsOffCount_0 0 rfl rfl)
theorem dJ13_checkBoundsOffCount_1 : decode cJ13_checkBoundsOffCount 1 = .ok (.iload_n 1, 1) := dk_27 (dk_at dksJ13_checkBoundsOffCount_0 1 rfl rfl)
theorem dJ13_checkBoundsOffCount_2 : decode cJ13_checkBoundsOffCount 2 = .ok (.iload_n 2, 1) := dk_28 (dk_at dksJ13_checkBoundsOffCount_0 2 rfl rfl)
theorem dJ13_checkBoundsOffCount_3 : decode cJ13_checkBoundsOffCount 3 = .ok (.getstatic 1053, 3) := dk_178 4 29 (dk_at dksJ13_checkBoundsOffCount_0 3 rfl rfl)
theorem dJ13_checkBoundsOffCount_6 : decode cJ13_checkBoundsOffCount 6 = .ok (.invokestatic 1065, 3) := dk_184 4 41 (dk_at dksJ13_checkBoundsOffCount_0 6 rfl rfl)
theorem dJ13_checkBoundsOffCount_9 : decode cJ13_checkBoundsOffCount 9 = .ok (.ireturn, 1) := dk_172 (dk_at dksJ13_checkBoundsOffCount_0 9 rfl rfl)
abbrev cJ13_checkIndex : ByteArray := prog_35_method_155_code
def yJ13_checkIndex : MethodName := ⟨RJ13, "checkIndex", "(II)V"⟩
def dkwJ13_checkIndex_0 : List UInt8 := [26, 27, 178, 4, 29, 184, 4, 35, 87, 177]
abbrev dktJ13_checkIndex_0 : List UInt8 := dkwJ13_checkIndex_0 ++ []
theorem dksJ13_checkIndex_0 : cJ13_checkIndex.data.toList.drop 0 = dktJ13_checkIndex_0 := by decide +kernel
theorem dJ13_checkIndex_0 : decode cJ13_checkIndex 0 = .ok (.iload_n 0, 1) := dk_26 (dk_at dksJ13_checkIndex_0 0 rfl rfl)
theorem dJ13_checkIndex_1 : decode cJ13_checkIndex 1 = .ok (.iload_n 1, 1) := dk_27 (dk_at dksJ13_checkIndex_0 1 rfl rfl)
theorem dJ13_checkIndex_2 : decode cJ13_checkIndex 2 = .ok (.getstatic 1053, 3) := dk_178 4 29 (dk_at dksJ13_checkIndex_0 2 rfl rfl)
theorem dJ13_checkIndex_5 : decode cJ13_checkIndex 5 = .ok (.invokestatic 1059, 3) := dk_184 4 35 (dk_at dksJ13_checkIndex_0 5 rfl rfl)
theorem dJ13_checkIndex_8 : decode cJ13_checkIndex 8 = .ok (.pop, 1) := dk_87 (dk_at dksJ13_checkIndex_0 8 rfl rfl)
theorem dJ13_checkIndex_9 : decode cJ13_checkIndex 9 = .ok (.return_, 1) := dk_177 (dk_at dksJ13_checkIndex_0 9 rfl rfl)
abbrev cJ13_init : ByteArray := prog_35_method_53_code
def yJ13_init : MethodName := ⟨RJ13, "<init>", "(Ljava/lang/StringBuilder;)V"⟩
def dkwJ13_init_0 : List UInt8 := [42, 43, 1, 183, 1, 233, 177]
abbrev dktJ13_init_0 : List UInt8 := dkwJ13_init_0 ++ []
theorem dksJ13_init_0 : cJ13_init.data.toList.drop 0 = dktJ13_init_0 := by decide +kernel
theorem dJ13_init_0 : decode cJ13_init 0 = .ok (.aload_n 0, 1) := dk_42 (dk_at dksJ13_init_0 0 rfl rfl)
theorem dJ13_init_1 : decode cJ13_init 1 = .ok (.aload_n 1, 1) := dk_43 (dk_at dksJ13_init_0 1 rfl rfl)
theorem dJ13_init_2 : decode cJ13_init 2 = .ok (.aconst_null, 1) := dk_1 (dk_at dksJ13_init_0 2 rfl rfl)
theorem dJ13_init_3 : decode cJ13_init 3 = .ok (.invokespecial 489, 3) := dk_183 1 233 (dk_at dksJ13_init_0 3 rfl rfl)
theorem dJ13_init_6 : decode cJ13_init 6 = .ok (.return_, 1) := dk_177 (dk_at dksJ13_init_0 6 rfl rfl)
abbrev cJ13_init_2 : ByteArray := prog_35_method_150_code
def yJ13_init_2 : MethodName := ⟨RJ13, "<init>", "(Ljava/lang/AbstractStringBuilder;Ljava/lang/Void;)V"⟩
def dkwJ13_init_2_4 : List UInt8 := [181, 0, 9, 177]
abbrev dktJ13_init_2_4 : List UInt8 := dkwJ13_init_2_4 ++ []
def dkwJ13_init_2_3 : List UInt8 := [184, 0, 47, 181, 0, 15, 177, 42, 4, 181, 0, 15, 42, 45, 3, 21, 4, 4, 120, 184, 0, 54]
abbrev dktJ13_init_2_3 : List UInt8 := dkwJ13_init_2_3 ++ dktJ13_init_2_4
def dkwJ13_init_2_2 : List UInt8 := [180, 4, 24, 153, 0, 28, 42, 45, 3, 21, 4, 184, 4, 27, 181, 0, 9, 42, 42, 180, 0, 9, 21, 4]
abbrev dktJ13_init_2_2 : List UInt8 := dkwJ13_init_2_2 ++ dktJ13_init_2_3
def dkwJ13_init_2_1 : List UInt8 := [181, 0, 15, 42, 45, 3, 21, 4, 184, 0, 54, 181, 0, 9, 167, 0, 59, 178, 0, 38, 153, 0, 35, 43]
abbrev dktJ13_init_2_1 : List UInt8 := dkwJ13_init_2_1 ++ dktJ13_init_2_2
def dkwJ13_init_2_0 : List UInt8 := [42, 183, 0, 1, 43, 182, 2, 40, 78, 43, 182, 2, 37, 54, 4, 43, 182, 4, 23, 153, 0, 22, 42, 3]
abbrev dktJ13_init_2_0 : List UInt8 := dkwJ13_init_2_0 ++ dktJ13_init_2_1
theorem dksJ13_init_2_0 : cJ13_init_2.data.toList.drop 0 = dktJ13_init_2_0 := by decide +kernel
theorem dksJ13_init_2_1 : cJ13_init_2.data.toList.drop 24 = dktJ13_init_2_1 := dk_seg dksJ13_init_2_0 24 rfl rfl
theorem dksJ13_init_2_2 : cJ13_init_2.data.toList.drop 48 = dktJ13_init_2_2 := dk_seg dksJ13_init_2_1 24 rfl rfl
theorem dksJ13_init_2_3 : cJ13_init_2.data.toList.drop 72 = dktJ13_init_2_3 := dk_seg dksJ13_init_2_2 24 rfl rfl
theorem dksJ13_init_2_4 : cJ13_init_2.data.toList.drop 94 = dktJ13_init_2_4 := dk_seg dksJ13_init_2_3 22 rfl rfl
theorem dJ13_init_2_0 : decode cJ13_init_2 0 = .ok (.aload_n 0, 1) := dk_42 (dk_at dksJ13_init_2_0 0 rfl rfl)
theorem dJ13_init_2_1 : decode cJ13_init_2 1 = .ok (.invokespecial 1, 3) := dk_183 0 1 (dk_at dksJ13_init_2_0 1 rfl rfl)
theorem dJ13_init_2_4 : decode cJ13_init_2 4 = .ok (.aload_n 1, 1) := dk_43 (dk_at dksJ13_init_2_0 4 rfl rfl)
theorem dJ13_init_2_5 : decode cJ13_init_2 5 = .ok (.invokevirtual 552, 3) := dk_182 2 40 (dk_at dksJ13_init_2_0 5 rfl rfl)
theorem dJ13_init_2_8 : decode cJ13_init_2 8 = .ok (.astore_n 3, 1) := dk_78 (dk_at dksJ13_init_2_0 8 rfl rfl)
theorem dJ13_init_2_9 : decode cJ13_init_2 9 = .ok (.aload_n 1, 1) := dk_43 (dk_at dksJ13_init_2_0 9 rfl rfl)
theorem dJ13_init_2_10 : decode cJ13_init_2 10 = .ok (.invokevirtual 549, 3) := dk_182 2 37 (dk_at dksJ13_init_2_0 10 rfl rfl)
theorem dJ13_init_2_13 : decode cJ13_init_2 13 = .ok (.istore 4, 2) := dk_54 4 (dk_at dksJ13_init_2_0 13 rfl rfl)
theorem dJ13_init_2_15 : decode cJ13_init_2 15 = .ok (.aload_n 1, 1) := dk_43 (dk_at dksJ13_init_2_0 15 rfl rfl)
theorem dJ13_init_2_16 : decode cJ13_init_2 16 = .ok (.invokevirtual 1047, 3) := dk_182 4 23 (dk_at dksJ13_init_2_0 16 rfl rfl)
theorem dJ13_init_2_19 : decode cJ13_init_2 19 = .ok (.ifCond .eq 22, 3) := dk_153 0 22 (dk_at dksJ13_init_2_0 19 rfl rfl)
theorem dJ13_init_2_22 : decode cJ13_init_2 22 = .ok (.aload_n 0, 1) := dk_42 (dk_at dksJ13_init_2_0 22 rfl rfl)
theorem dJ13_init_2_23 : decode cJ13_init_2 23 = .ok (.iconst 0, 1) := dk_3 (dk_at dksJ13_init_2_0 23 rfl rfl)
theorem dJ13_init_2_24 : decode cJ13_init_2 24 = .ok (.putfield 15, 3) := dk_181 0 15 (dk_at dksJ13_init_2_1 0 rfl rfl)
theorem dJ13_init_2_27 : decode cJ13_init_2 27 = .ok (.aload_n 0, 1) := dk_42 (dk_at dksJ13_init_2_1 3 rfl rfl)
theorem dJ13_init_2_28 : decode cJ13_init_2 28 = .ok (.aload_n 3, 1) := dk_45 (dk_at dksJ13_init_2_1 4 rfl rfl)
theorem dJ13_init_2_29 : decode cJ13_init_2 29 = .ok (.iconst 0, 1) := dk_3 (dk_at dksJ13_init_2_1 5 rfl rfl)
theorem dJ13_init_2_30 : decode cJ13_init_2 30 = .ok (.iload 4, 2) := dk_21 4 (dk_at dksJ13_init_2_1 6 rfl rfl)
theorem dJ13_init_2_32 : decode cJ13_init_2 32 = .ok (.invokestatic 54, 3) := dk_184 0 54 (dk_at dksJ13_init_2_1 8 rfl rfl)
theorem dJ13_init_2_35 : decode cJ13_init_2 35 = .ok (.putfield 9, 3) := dk_181 0 9 (dk_at dksJ13_init_2_1 11 rfl rfl)
theorem dJ13_init_2_38 : decode cJ13_init_2 38 = .ok (.goto 59, 3) := dk_167 0 59 (dk_at dksJ13_init_2_1 14 rfl rfl)
theorem dJ13_init_2_41 : decode cJ13_init_2 41 = .ok (.getstatic 38, 3) := dk_178 0 38 (dk_at dksJ13_init_2_1 17 rfl rfl)
theorem dJ13_init_2_44 : decode cJ13_init_2 44 = .ok (.ifCond .eq 35, 3) := dk_153 0 35 (dk_at dksJ13_init_2_1 20 rfl rfl)
theorem dJ13_init_2_47 : decode cJ13_init_2 47 = .ok (.aload_n 1, 1) := dk_43 (dk_at dksJ13_init_2_1 23 rfl rfl)
theorem dJ13_init_2_48 : decode cJ13_init_2 48 = .ok (.getfield 1048, 3) := dk_180 4 24 (dk_at dksJ13_init_2_2 0 rfl rfl)
theorem dJ13_init_2_51 : decode cJ13_init_2 51 = .ok (.ifCond .eq 28, 3) := dk_153 0 28 (dk_at dksJ13_init_2_2 3 rfl rfl)
theorem dJ13_init_2_54 : decode cJ13_init_2 54 = .ok (.aload_n 0, 1) := dk_42 (dk_at dksJ13_init_2_2 6 rfl rfl)
theorem dJ13_init_2_55 : decode cJ13_init_2 55 = .ok (.aload_n 3, 1) := dk_45 (dk_at dksJ13_init_2_2 7 rfl rfl)
theorem dJ13_init_2_56 : decode cJ13_init_2 56 = .ok (.iconst 0, 1) := dk_3 (dk_at dksJ13_init_2_2 8 rfl rfl)
theorem dJ13_init_2_57 : decode cJ13_init_2 57 = .ok (.iload 4, 2) := dk_21 4 (dk_at dksJ13_init_2_2 9 rfl rfl)
theorem dJ13_init_2_59 : decode cJ13_init_2 59 = .ok (.invokestatic 1051, 3) := dk_184 4 27 (dk_at dksJ13_init_2_2 11 rfl rfl)
theorem dJ13_init_2_62 : decode cJ13_init_2 62 = .ok (.putfield 9, 3) := dk_181 0 9 (dk_at dksJ13_init_2_2 14 rfl rfl)
theorem dJ13_init_2_65 : decode cJ13_init_2 65 = .ok (.aload_n 0, 1) := dk_42 (dk_at dksJ13_init_2_2 17 rfl rfl)
theorem dJ13_init_2_66 : decode cJ13_init_2 66 = .ok (.aload_n 0, 1) := dk_42 (dk_at dksJ13_init_2_2 18 rfl rfl)
theorem dJ13_init_2_67 : decode cJ13_init_2 67 = .ok (.getfield 9, 3) := dk_180 0 9 (dk_at dksJ13_init_2_2 19 rfl rfl)
theorem dJ13_init_2_70 : decode cJ13_init_2 70 = .ok (.iload 4, 2) := dk_21 4 (dk_at dksJ13_init_2_2 22 rfl rfl)
theorem dJ13_init_2_72 : decode cJ13_init_2 72 = .ok (.invokestatic 47, 3) := dk_184 0 47 (dk_at dksJ13_init_2_3 0 rfl rfl)
theorem dJ13_init_2_75 : decode cJ13_init_2 75 = .ok (.putfield 15, 3) := dk_181 0 15 (dk_at dksJ13_init_2_3 3 rfl rfl)
theorem dJ13_init_2_78 : decode cJ13_init_2 78 = .ok (.return_, 1) := dk_177 (dk_at dksJ13_init_2_3 6 rfl rfl)
theorem dJ13_init_2_79 : decode cJ13_init_2 79 = .ok (.aload_n 0, 1) := dk_42 (dk_at dksJ13_init_2_3 7 rfl rfl)
theorem dJ13_init_2_80 : decode cJ13_init_2 80 = .ok (.iconst 1, 1) := dk_4 (dk_at dksJ13_init_2_3 8 rfl rfl)
theorem dJ13_init_2_81 : decode cJ13_init_2 81 = .ok (.putfield 15, 3) := dk_181 0 15 (dk_at dksJ13_init_2_3 9 rfl rfl)
theorem dJ13_init_2_84 : decode cJ13_init_2 84 = .ok (.aload_n 0, 1) := dk_42 (dk_at dksJ13_init_2_3 12 rfl rfl)
theorem dJ13_init_2_85 : decode cJ13_init_2 85 = .ok (.aload_n 3, 1) := dk_45 (dk_at dksJ13_init_2_3 13 rfl rfl)
theorem dJ13_init_2_86 : decode cJ13_init_2 86 = .ok (.iconst 0, 1) := dk_3 (dk_at dksJ13_init_2_3 14 rfl rfl)
theorem dJ13_init_2_87 : decode cJ13_init_2 87 = .ok (.iload 4, 2) := dk_21 4 (dk_at dksJ13_init_2_3 15 rfl rfl)
theorem dJ13_init_2_89 : decode cJ13_init_2 89 = .ok (.iconst 1, 1) := dk_4 (dk_at dksJ13_init_2_3 17 rfl rfl)
theorem dJ13_init_2_90 : decode cJ13_init_2 90 = .ok (.ishl, 1) := dk_120 (dk_at dksJ13_init_2_3 18 rfl rfl)
theorem dJ13_init_2_91 : decode cJ13_init_2 91 = .ok (.invokestatic 54, 3) := dk_184 0 54 (dk_at dksJ13_init_2_3 19 rfl rfl)
theorem dJ13_init_2_94 : decode cJ13_init_2 94 = .ok (.putfield 9, 3) := dk_181 0 9 (dk_at dksJ13_init_2_4 0 rfl rfl)
theorem dJ13_init_2_97 : decode cJ13_init_2 97 = .ok (.return_, 1) := dk_177 (dk_at dksJ13_init_2_4 3 rfl rfl)
abbrev cJ13_checkBoundsBeginEnd : ByteArray := prog_35_method_158_code
def yJ13_checkBoundsBeginEnd : MethodName := ⟨RJ13, "checkBoundsBeginEnd", "(III)V"⟩
def dkwJ13_checkBoundsBeginEnd_0 : List UInt8 := [26, 27, 28, 178, 4, 29, 184, 4, 38, 87, 177]
abbrev dktJ13_checkBoundsBeginEnd_0 : List UInt8 := dkwJ13_checkBoundsBeginEnd_0 ++ []
theorem dksJ13_checkBoundsBeginEnd_0 : cJ13_checkBoundsBeginEnd.data.toList.drop 0 = dktJ13_checkBoundsBeginEnd_0 := by decide +kernel
theorem dJ13_checkBoundsBeginEnd_0 : decode cJ13_checkBoundsBeginEnd 0 = .ok (.iload_n 0, 1) := dk_26 (dk_at dksJ13_checkBoundsBeginEnd_0 0 rfl rfl)
theorem dJ13_checkBoundsBeginEnd_1 : decode cJ13_checkBoundsBeginEnd 1 = .ok (.iload_n 1, 1) := dk_27 (dk_at dksJ13_checkBoundsBeginEnd_0 1 rfl rfl)
theorem dJ13_checkBoundsBeginEnd_2 : decode cJ13_checkBoundsBeginEnd 2 = .ok (.iload_n 2, 1) := dk_28 (dk_at dksJ13_checkBoundsBeginEnd_0 2 rfl rfl)
theorem dJ13_checkBoundsBeginEnd_3 : decode cJ13_checkBoundsBeginEnd 3 = .ok (.getstatic 1053, 3) := dk_178 4 29 (dk_at dksJ13_checkBoundsBeginEnd_0 3 rfl rfl)
theorem dJ13_checkBoundsBeginEnd_6 : decode cJ13_checkBoundsBeginEnd 6 = .ok (.invokestatic 1062, 3) := dk_184 4 38 (dk_at dksJ13_checkBoundsBeginEnd_0 6 rfl rfl)
theorem dJ13_checkBoundsBeginEnd_9 : decode cJ13_checkBoundsBeginEnd 9 = .ok (.pop, 1) := dk_87 (dk_at dksJ13_checkBoundsBeginEnd_0 9 rfl rfl)
theorem dJ13_checkBoundsBeginEnd_10 : decode cJ13_checkBoundsBeginEnd 10 = .ok (.return_, 1) := dk_177 (dk_at dksJ13_checkBoundsBeginEnd_0 10 rfl rfl)
abbrev cJ13_length : ByteArray := prog_35_method_54_code
def yJ13_length : MethodName := ⟨RJ13, "length", "()I"⟩
def dkwJ13_length_0 : List UInt8 := [42, 180, 0, 9, 190, 42, 182, 1, 79, 122, 172]
abbrev dktJ13_length_0 : List UInt8 := dkwJ13_length_0 ++ []
theorem dksJ13_length_0 : cJ13_length.data.toList.drop 0 = dktJ13_length_0 := by decide +kernel
theorem dJ13_length_0 : decode cJ13_length 0 = .ok (.aload_n 0, 1) := dk_42 (dk_at dksJ13_length_0 0 rfl rfl)
theorem dJ13_length_1 : decode cJ13_length 1 = .ok (.getfield 9, 3) := dk_180 0 9 (dk_at dksJ13_length_0 1 rfl rfl)
theorem dJ13_length_4 : decode cJ13_length 4 = .ok (.arraylength, 1) := dk_190 (dk_at dksJ13_length_0 4 rfl rfl)
theorem dJ13_length_5 : decode cJ13_length 5 = .ok (.aload_n 0, 1) := dk_42 (dk_at dksJ13_length_0 5 rfl rfl)
theorem dJ13_length_6 : decode cJ13_length 6 = .ok (.invokevirtual 335, 3) := dk_182 1 79 (dk_at dksJ13_length_0 6 rfl rfl)
theorem dJ13_length_9 : decode cJ13_length 9 = .ok (.ishr, 1) := dk_122 (dk_at dksJ13_length_0 9 rfl rfl)
theorem dJ13_length_10 : decode cJ13_length 10 = .ok (.ireturn, 1) := dk_172 (dk_at dksJ13_length_0 10 rfl rfl)
abbrev cJ13_coder : ByteArray := prog_35_method_152_code
def yJ13_coder : MethodName := ⟨RJ13, "coder", "()B"⟩
def dkwJ13_coder_0 : List UInt8 := [178, 0, 38, 153, 0, 10, 42, 180, 0, 15, 167, 0, 4, 4, 172]
abbrev dktJ13_coder_0 : List UInt8 := dkwJ13_coder_0 ++ []
theorem dksJ13_coder_0 : cJ13_coder.data.toList.drop 0 = dktJ13_coder_0 := by decide +kernel
theorem dJ13_coder_0 : decode cJ13_coder 0 = .ok (.getstatic 38, 3) := dk_178 0 38 (dk_at dksJ13_coder_0 0 rfl rfl)
theorem dJ13_coder_3 : decode cJ13_coder 3 = .ok (.ifCond .eq 10, 3) := dk_153 0 10 (dk_at dksJ13_coder_0 3 rfl rfl)
theorem dJ13_coder_6 : decode cJ13_coder 6 = .ok (.aload_n 0, 1) := dk_42 (dk_at dksJ13_coder_0 6 rfl rfl)
theorem dJ13_coder_7 : decode cJ13_coder 7 = .ok (.getfield 15, 3) := dk_180 0 15 (dk_at dksJ13_coder_0 7 rfl rfl)
theorem dJ13_coder_10 : decode cJ13_coder 10 = .ok (.goto 4, 3) := dk_167 0 4 (dk_at dksJ13_coder_0 10 rfl rfl)
theorem dJ13_coder_13 : decode cJ13_coder 13 = .ok (.iconst 1, 1) := dk_4 (dk_at dksJ13_coder_0 13 rfl rfl)
theorem dJ13_coder_14 : decode cJ13_coder 14 = .ok (.ireturn, 1) := dk_172 (dk_at dksJ13_coder_0 14 rfl rfl)
abbrev cJ13_getBytes : ByteArray := prog_35_method_147_code
def yJ13_getBytes : MethodName := ⟨RJ13, "getBytes", "([BIB)V"⟩
def dkwJ13_getBytes_1 : List UInt8 := [184, 0, 212, 167, 0, 18, 42, 180, 0, 9, 3, 43, 28, 42, 180, 0, 9, 190, 184, 0, 106, 177]
abbrev dktJ13_getBytes_1 : List UInt8 := dkwJ13_getBytes_1 ++ []
def dkwJ13_getBytes_0 : List UInt8 := [42, 182, 1, 79, 29, 160, 0, 23, 42, 180, 0, 9, 3, 43, 28, 29, 120, 42, 180, 0, 9, 190]
abbrev dktJ13_getBytes_0 : List UInt8 := dkwJ13_getBytes_0 ++ dktJ13_getBytes_1
theorem dksJ13_getBytes_0 : cJ13_getBytes.data.toList.drop 0 = dktJ13_getBytes_0 := by decide +kernel
theorem dksJ13_getBytes_1 : cJ13_getBytes.data.toList.drop 22 = dktJ13_getBytes_1 := dk_seg dksJ13_getBytes_0 22 rfl rfl
theorem dJ13_getBytes_0 : decode cJ13_getBytes 0 = .ok (.aload_n 0, 1) := dk_42 (dk_at dksJ13_getBytes_0 0 rfl rfl)
theorem dJ13_getBytes_1 : decode cJ13_getBytes 1 = .ok (.invokevirtual 335, 3) := dk_182 1 79 (dk_at dksJ13_getBytes_0 1 rfl rfl)
theorem dJ13_getBytes_4 : decode cJ13_getBytes 4 = .ok (.iload_n 3, 1) := dk_29 (dk_at dksJ13_getBytes_0 4 rfl rfl)
theorem dJ13_getBytes_5 : decode cJ13_getBytes 5 = .ok (.if_icmp .ne 23, 3) := dk_160 0 23 (dk_at dksJ13_getBytes_0 5 rfl rfl)
theorem dJ13_getBytes_8 : decode cJ13_getBytes 8 = .ok (.aload_n 0, 1) := dk_42 (dk_at dksJ13_getBytes_0 8 rfl rfl)
theorem dJ13_getBytes_9 : decode cJ13_getBytes 9 = .ok (.getfield 9, 3) := dk_180 0 9 (dk_at dksJ13_getBytes_0 9 rfl rfl)
theorem dJ13_getBytes_12 : decode cJ13_getBytes 12 = .ok (.iconst 0, 1) := dk_3 (dk_at dksJ13_getBytes_0 12 rfl rfl)
theorem dJ13_getBytes_13 : decode cJ13_getBytes 13 = .ok (.aload_n 1, 1) := dk_43 (dk_at dksJ13_getBytes_0 13 rfl rfl)
theorem dJ13_getBytes_14 : decode cJ13_getBytes 14 = .ok (.iload_n 2, 1) := dk_28 (dk_at dksJ13_getBytes_0 14 rfl rfl)
theorem dJ13_getBytes_15 : decode cJ13_getBytes 15 = .ok (.iload_n 3, 1) := dk_29 (dk_at dksJ13_getBytes_0 15 rfl rfl)
theorem dJ13_getBytes_16 : decode cJ13_getBytes 16 = .ok (.ishl, 1) := dk_120 (dk_at dksJ13_getBytes_0 16 rfl rfl)
theorem dJ13_getBytes_17 : decode cJ13_getBytes 17 = .ok (.aload_n 0, 1) := dk_42 (dk_at dksJ13_getBytes_0 17 rfl rfl)
theorem dJ13_getBytes_18 : decode cJ13_getBytes 18 = .ok (.getfield 9, 3) := dk_180 0 9 (dk_at dksJ13_getBytes_0 18 rfl rfl)
theorem dJ13_getBytes_21 : decode cJ13_getBytes 21 = .ok (.arraylength, 1) := dk_190 (dk_at dksJ13_getBytes_0 21 rfl rfl)
theorem dJ13_getBytes_22 : decode cJ13_getBytes 22 = .ok (.invokestatic 212, 3) := dk_184 0 212 (dk_at dksJ13_getBytes_1 0 rfl rfl)
theorem dJ13_getBytes_25 : decode cJ13_getBytes 25 = .ok (.goto 18, 3) := dk_167 0 18 (dk_at dksJ13_getBytes_1 3 rfl rfl)
theorem dJ13_getBytes_28 : decode cJ13_getBytes 28 = .ok (.aload_n 0, 1) := dk_42 (dk_at dksJ13_getBytes_1 6 rfl rfl)
theorem dJ13_getBytes_29 : decode cJ13_getBytes 29 = .ok (.getfield 9, 3) := dk_180 0 9 (dk_at dksJ13_getBytes_1 7 rfl rfl)
theorem dJ13_getBytes_32 : decode cJ13_getBytes 32 = .ok (.iconst 0, 1) := dk_3 (dk_at dksJ13_getBytes_1 10 rfl rfl)
theorem dJ13_getBytes_33 : decode cJ13_getBytes 33 = .ok (.aload_n 1, 1) := dk_43 (dk_at dksJ13_getBytes_1 11 rfl rfl)
theorem dJ13_getBytes_34 : decode cJ13_getBytes 34 = .ok (.iload_n 2, 1) := dk_28 (dk_at dksJ13_getBytes_1 12 rfl rfl)
theorem dJ13_getBytes_35 : decode cJ13_getBytes 35 = .ok (.aload_n 0, 1) := dk_42 (dk_at dksJ13_getBytes_1 13 rfl rfl)
theorem dJ13_getBytes_36 : decode cJ13_getBytes 36 = .ok (.getfield 9, 3) := dk_180 0 9 (dk_at dksJ13_getBytes_1 14 rfl rfl)
theorem dJ13_getBytes_39 : decode cJ13_getBytes 39 = .ok (.arraylength, 1) := dk_190 (dk_at dksJ13_getBytes_1 17 rfl rfl)
theorem dJ13_getBytes_40 : decode cJ13_getBytes 40 = .ok (.invokestatic 106, 3) := dk_184 0 106 (dk_at dksJ13_getBytes_1 18 rfl rfl)
theorem dJ13_getBytes_43 : decode cJ13_getBytes 43 = .ok (.return_, 1) := dk_177 (dk_at dksJ13_getBytes_1 21 rfl rfl)
abbrev cJ13_charAt : ByteArray := prog_35_method_56_code
def yJ13_charAt : MethodName := ⟨RJ13, "charAt", "(I)C"⟩
def dkwJ13_charAt_1 : List UInt8 := [172]
abbrev dktJ13_charAt_1 : List UInt8 := dkwJ13_charAt_1 ++ []
def dkwJ13_charAt_0 : List UInt8 := [42, 182, 1, 236, 153, 0, 12, 42, 180, 0, 9, 27, 184, 1, 239, 172, 42, 180, 0, 9, 27, 184, 1, 242]
abbrev dktJ13_charAt_0 : List UInt8 := dkwJ13_charAt_0 ++ dktJ13_charAt_1
theorem dksJ13_charAt_0 : cJ13_charAt.data.toList.drop 0 = dktJ13_charAt_0 := by decide +kernel
theorem dksJ13_charAt_1 : cJ13_charAt.data.toList.drop 24 = dktJ13_charAt_1 := dk_seg dksJ13_charAt_0 24 rfl rfl
theorem dJ13_charAt_0 : decode cJ13_charAt 0 = .ok (.aload_n 0, 1) := dk_42 (dk_at dksJ13_charAt_0 0 rfl rfl)
theorem dJ13_charAt_1 : decode cJ13_charAt 1 = .ok (.invokevirtual 492, 3) := dk_182 1 236 (dk_at dksJ13_charAt_0 1 rfl rfl)
theorem dJ13_charAt_4 : decode cJ13_charAt 4 = .ok (.ifCond .eq 12, 3) := dk_153 0 12 (dk_at dksJ13_charAt_0 4 rfl rfl)
theorem dJ13_charAt_7 : decode cJ13_charAt 7 = .ok (.aload_n 0, 1) := dk_42 (dk_at dksJ13_charAt_0 7 rfl rfl)
theorem dJ13_charAt_8 : decode cJ13_charAt 8 = .ok (.getfield 9, 3) := dk_180 0 9 (dk_at dksJ13_charAt_0 8 rfl rfl)
theorem dJ13_charAt_11 : decode cJ13_charAt 11 = .ok (.iload_n 1, 1) := dk_27 (dk_at dksJ13_charAt_0 11 rfl rfl)
theorem dJ13_charAt_12 : decode cJ13_charAt 12 = .ok (.invokestatic 495, 3) := dk_184 1 239 (dk_at dksJ13_charAt_0 12 rfl rfl)
theorem dJ13_charAt_15 : decode cJ13_charAt 15 = .ok (.ireturn, 1) := dk_172 (dk_at dksJ13_charAt_0 15 rfl rfl)
theorem dJ13_charAt_16 : decode cJ13_charAt 16 = .ok (.aload_n 0, 1) := dk_42 (dk_at dksJ13_charAt_0 16 rfl rfl)
theorem dJ13_charAt_17 : decode cJ13_charAt 17 = .ok (.getfield 9, 3) := dk_180 0 9 (dk_at dksJ13_charAt_0 17 rfl rfl)
theorem dJ13_charAt_20 : decode cJ13_charAt 20 = .ok (.iload_n 1, 1) := dk_27 (dk_at dksJ13_charAt_0 20 rfl rfl)
theorem dJ13_charAt_21 : decode cJ13_charAt 21 = .ok (.invokestatic 498, 3) := dk_184 1 242 (dk_at dksJ13_charAt_0 21 rfl rfl)
theorem dJ13_charAt_24 : decode cJ13_charAt 24 = .ok (.ireturn, 1) := dk_172 (dk_at dksJ13_charAt_1 0 rfl rfl)
abbrev cJ13_isLatin1 : ByteArray := prog_35_method_154_code
def yJ13_isLatin1 : MethodName := ⟨RJ13, "isLatin1", "()Z"⟩
def dkwJ13_isLatin1_0 : List UInt8 := [178, 0, 38, 153, 0, 14, 42, 180, 0, 15, 154, 0, 7, 4, 167, 0, 4, 3, 172]
abbrev dktJ13_isLatin1_0 : List UInt8 := dkwJ13_isLatin1_0 ++ []
theorem dksJ13_isLatin1_0 : cJ13_isLatin1.data.toList.drop 0 = dktJ13_isLatin1_0 := by decide +kernel
theorem dJ13_isLatin1_0 : decode cJ13_isLatin1 0 = .ok (.getstatic 38, 3) := dk_178 0 38 (dk_at dksJ13_isLatin1_0 0 rfl rfl)
theorem dJ13_isLatin1_3 : decode cJ13_isLatin1 3 = .ok (.ifCond .eq 14, 3) := dk_153 0 14 (dk_at dksJ13_isLatin1_0 3 rfl rfl)
theorem dJ13_isLatin1_6 : decode cJ13_isLatin1 6 = .ok (.aload_n 0, 1) := dk_42 (dk_at dksJ13_isLatin1_0 6 rfl rfl)
theorem dJ13_isLatin1_7 : decode cJ13_isLatin1 7 = .ok (.getfield 15, 3) := dk_180 0 15 (dk_at dksJ13_isLatin1_0 7 rfl rfl)
theorem dJ13_isLatin1_10 : decode cJ13_isLatin1 10 = .ok (.ifCond .ne 7, 3) := dk_154 0 7 (dk_at dksJ13_isLatin1_0 10 rfl rfl)
theorem dJ13_isLatin1_13 : decode cJ13_isLatin1 13 = .ok (.iconst 1, 1) := dk_4 (dk_at dksJ13_isLatin1_0 13 rfl rfl)
theorem dJ13_isLatin1_14 : decode cJ13_isLatin1 14 = .ok (.goto 4, 3) := dk_167 0 4 (dk_at dksJ13_isLatin1_0 14 rfl rfl)
theorem dJ13_isLatin1_17 : decode cJ13_isLatin1 17 = .ok (.iconst 0, 1) := dk_3 (dk_at dksJ13_isLatin1_0 17 rfl rfl)
theorem dJ13_isLatin1_18 : decode cJ13_isLatin1 18 = .ok (.ireturn, 1) := dk_172 (dk_at dksJ13_isLatin1_0 18 rfl rfl)
abbrev cJ13_substring : ByteArray := prog_35_method_92_code
def yJ13_substring : MethodName := ⟨RJ13, "substring", "(II)Ljava/lang/String;"⟩
def dkwJ13_substring_2 : List UInt8 := [180, 0, 9, 27, 21, 4, 184, 2, 177, 176]
abbrev dktJ13_substring_2 : List UInt8 := dkwJ13_substring_2 ++ []
def dkwJ13_substring_1 : List UInt8 := [100, 54, 4, 42, 182, 1, 236, 153, 0, 16, 42, 180, 0, 9, 27, 21, 4, 184, 2, 173, 167, 0, 13, 42]
abbrev dktJ13_substring_1 : List UInt8 := dkwJ13_substring_1 ++ dktJ13_substring_2
def dkwJ13_substring_0 : List UInt8 := [42, 182, 1, 249, 62, 27, 28, 29, 184, 2, 9, 27, 154, 0, 10, 28, 29, 160, 0, 5, 42, 176, 28, 27]
abbrev dktJ13_substring_0 : List UInt8 := dkwJ13_substring_0 ++ dktJ13_substring_1
theorem dksJ13_substring_0 : cJ13_substring.data.toList.drop 0 = dktJ13_substring_0 := by decide +kernel
theorem dksJ13_substring_1 : cJ13_substring.data.toList.drop 24 = dktJ13_substring_1 := dk_seg dksJ13_substring_0 24 rfl rfl
theorem dksJ13_substring_2 : cJ13_substring.data.toList.drop 48 = dktJ13_substring_2 := dk_seg dksJ13_substring_1 24 rfl rfl
theorem dJ13_substring_0 : decode cJ13_substring 0 = .ok (.aload_n 0, 1) := dk_42 (dk_at dksJ13_substring_0 0 rfl rfl)
theorem dJ13_substring_1 : decode cJ13_substring 1 = .ok (.invokevirtual 505, 3) := dk_182 1 249 (dk_at dksJ13_substring_0 1 rfl rfl)
theorem dJ13_substring_4 : decode cJ13_substring 4 = .ok (.istore_n 3, 1) := dk_62 (dk_at dksJ13_substring_0 4 rfl rfl)
theorem dJ13_substring_5 : decode cJ13_substring 5 = .ok (.iload_n 1, 1) := dk_27 (dk_at dksJ13_substring_0 5 rfl rfl)
theorem dJ13_substring_6 : decode cJ13_substring 6 = .ok (.iload_n 2, 1) := dk_28 (dk_at dksJ13_substring_0 6 rfl rfl)
theorem dJ13_substring_7 : decode cJ13_substring 7 = .ok (.iload_n 3, 1) := dk_29 (dk_at dksJ13_substring_0 7 rfl rfl)
theorem dJ13_substring_8 : decode cJ13_substring 8 = .ok (.invokestatic 521, 3) := dk_184 2 9 (dk_at dksJ13_substring_0 8 rfl rfl)
theorem dJ13_substring_11 : decode cJ13_substring 11 = .ok (.iload_n 1, 1) := dk_27 (dk_at dksJ13_substring_0 11 rfl rfl)
theorem dJ13_substring_12 : decode cJ13_substring 12 = .ok (.ifCond .ne 10, 3) := dk_154 0 10 (dk_at dksJ13_substring_0 12 rfl rfl)
theorem dJ13_substring_15 : decode cJ13_substring 15 = .ok (.iload_n 2, 1) := dk_28 (dk_at dksJ13_substring_0 15 rfl rfl)
theorem dJ13_substring_16 : decode cJ13_substring 16 = .ok (.iload_n 3, 1) := dk_29 (dk_at dksJ13_substring_0 16 rfl rfl)
theorem dJ13_substring_17 : decode cJ13_substring 17 = .ok (.if_icmp .ne 5, 3) := dk_160 0 5 (dk_at dksJ13_substring_0 17 rfl rfl)
theorem dJ13_substring_20 : decode cJ13_substring 20 = .ok (.aload_n 0, 1) := dk_42 (dk_at dksJ13_substring_0 20 rfl rfl)
theorem dJ13_substring_21 : decode cJ13_substring 21 = .ok (.areturn, 1) := dk_176 (dk_at dksJ13_substring_0 21 rfl rfl)
theorem dJ13_substring_22 : decode cJ13_substring 22 = .ok (.iload_n 2, 1) := dk_28 (dk_at dksJ13_substring_0 22 rfl rfl)
theorem dJ13_substring_23 : decode cJ13_substring 23 = .ok (.iload_n 1, 1) := dk_27 (dk_at dksJ13_substring_0 23 rfl rfl)
theorem dJ13_substring_24 : decode cJ13_substring 24 = .ok (.isub, 1) := dk_100 (dk_at dksJ13_substring_1 0 rfl rfl)
theorem dJ13_substring_25 : decode cJ13_substring 25 = .ok (.istore 4, 2) := dk_54 4 (dk_at dksJ13_substring_1 1 rfl rfl)
theorem dJ13_substring_27 : decode cJ13_substring 27 = .ok (.aload_n 0, 1) := dk_42 (dk_at dksJ13_substring_1 3 rfl rfl)
theorem dJ13_substring_28 : decode cJ13_substring 28 = .ok (.invokevirtual 492, 3) := dk_182 1 236 (dk_at dksJ13_substring_1 4 rfl rfl)
theorem dJ13_substring_31 : decode cJ13_substring 31 = .ok (.ifCond .eq 16, 3) := dk_153 0 16 (dk_at dksJ13_substring_1 7 rfl rfl)
theorem dJ13_substring_34 : decode cJ13_substring 34 = .ok (.aload_n 0, 1) := dk_42 (dk_at dksJ13_substring_1 10 rfl rfl)
theorem dJ13_substring_35 : decode cJ13_substring 35 = .ok (.getfield 9, 3) := dk_180 0 9 (dk_at dksJ13_substring_1 11 rfl rfl)
theorem dJ13_substring_38 : decode cJ13_substring 38 = .ok (.iload_n 1, 1) := dk_27 (dk_at dksJ13_substring_1 14 rfl rfl)
theorem dJ13_substring_39 : decode cJ13_substring 39 = .ok (.iload 4, 2) := dk_21 4 (dk_at dksJ13_substring_1 15 rfl rfl)
theorem dJ13_substring_41 : decode cJ13_substring 41 = .ok (.invokestatic 685, 3) := dk_184 2 173 (dk_at dksJ13_substring_1 17 rfl rfl)
theorem dJ13_substring_44 : decode cJ13_substring 44 = .ok (.goto 13, 3) := dk_167 0 13 (dk_at dksJ13_substring_1 20 rfl rfl)
theorem dJ13_substring_47 : decode cJ13_substring 47 = .ok (.aload_n 0, 1) := dk_42 (dk_at dksJ13_substring_1 23 rfl rfl)
theorem dJ13_substring_48 : decode cJ13_substring 48 = .ok (.getfield 9, 3) := dk_180 0 9 (dk_at dksJ13_substring_2 0 rfl rfl)
theorem dJ13_substring_51 : decode cJ13_substring 51 = .ok (.iload_n 1, 1) := dk_27 (dk_at dksJ13_substring_2 3 rfl rfl)
theorem dJ13_substring_52 : decode cJ13_substring 52 = .ok (.iload 4, 2) := dk_21 4 (dk_at dksJ13_substring_2 4 rfl rfl)
theorem dJ13_substring_54 : decode cJ13_substring 54 = .ok (.invokestatic 689, 3) := dk_184 2 177 (dk_at dksJ13_substring_2 6 rfl rfl)
theorem dJ13_substring_57 : decode cJ13_substring 57 = .ok (.areturn, 1) := dk_176 (dk_at dksJ13_substring_2 9 rfl rfl)
abbrev cJ13_init_3 : ByteArray := prog_35_method_151_code
def yJ13_init_3 : MethodName := ⟨RJ13, "<init>", "([BB)V"⟩
def dkwJ13_init_3_0 : List UInt8 := [42, 183, 0, 1, 42, 43, 181, 0, 9, 42, 28, 181, 0, 15, 177]
abbrev dktJ13_init_3_0 : List UInt8 := dkwJ13_init_3_0 ++ []
theorem dksJ13_init_3_0 : cJ13_init_3.data.toList.drop 0 = dktJ13_init_3_0 := by decide +kernel
theorem dJ13_init_3_0 : decode cJ13_init_3 0 = .ok (.aload_n 0, 1) := dk_42 (dk_at dksJ13_init_3_0 0 rfl rfl)
theorem dJ13_init_3_1 : decode cJ13_init_3 1 = .ok (.invokespecial 1, 3) := dk_183 0 1 (dk_at dksJ13_init_3_0 1 rfl rfl)
theorem dJ13_init_3_4 : decode cJ13_init_3 4 = .ok (.aload_n 0, 1) := dk_42 (dk_at dksJ13_init_3_0 4 rfl rfl)
theorem dJ13_init_3_5 : decode cJ13_init_3 5 = .ok (.aload_n 1, 1) := dk_43 (dk_at dksJ13_init_3_0 5 rfl rfl)
theorem dJ13_init_3_6 : decode cJ13_init_3 6 = .ok (.putfield 9, 3) := dk_181 0 9 (dk_at dksJ13_init_3_0 6 rfl rfl)
theorem dJ13_init_3_9 : decode cJ13_init_3 9 = .ok (.aload_n 0, 1) := dk_42 (dk_at dksJ13_init_3_0 9 rfl rfl)
theorem dJ13_init_3_10 : decode cJ13_init_3 10 = .ok (.iload_n 2, 1) := dk_28 (dk_at dksJ13_init_3_0 10 rfl rfl)
theorem dJ13_init_3_11 : decode cJ13_init_3 11 = .ok (.putfield 15, 3) := dk_181 0 15 (dk_at dksJ13_init_3_0 11 rfl rfl)
theorem dJ13_init_3_14 : decode cJ13_init_3 14 = .ok (.return_, 1) := dk_177 (dk_at dksJ13_init_3_0 14 rfl rfl)
abbrev cJ13_indexOf : ByteArray := prog_35_method_79_code
def yJ13_indexOf : MethodName := ⟨RJ13, "indexOf", "(I)I"⟩
def dkwJ13_indexOf_0 : List UInt8 := [42, 27, 3, 182, 2, 121, 172]
abbrev dktJ13_indexOf_0 : List UInt8 := dkwJ13_indexOf_0 ++ []
theorem dksJ13_indexOf_0 : cJ13_indexOf.data.toList.drop 0 = dktJ13_indexOf_0 := by decide +kernel
theorem dJ13_indexOf_0 : decode cJ13_indexOf 0 = .ok (.aload_n 0, 1) := dk_42 (dk_at dksJ13_indexOf_0 0 rfl rfl)
theorem dJ13_indexOf_1 : decode cJ13_indexOf 1 = .ok (.iload_n 1, 1) := dk_27 (dk_at dksJ13_indexOf_0 1 rfl rfl)
theorem dJ13_indexOf_2 : decode cJ13_indexOf 2 = .ok (.iconst 0, 1) := dk_3 (dk_at dksJ13_indexOf_0 2 rfl rfl)
theorem dJ13_indexOf_3 : decode cJ13_indexOf 3 = .ok (.invokevirtual 633, 3) := dk_182 2 121 (dk_at dksJ13_indexOf_0 3 rfl rfl)
theorem dJ13_indexOf_6 : decode cJ13_indexOf 6 = .ok (.ireturn, 1) := dk_172 (dk_at dksJ13_indexOf_0 6 rfl rfl)
abbrev cJ13_indexOf_2 : ByteArray := prog_35_method_80_code
def yJ13_indexOf_2 : MethodName := ⟨RJ13, "indexOf", "(II)I"⟩
def dkwJ13_indexOf_2_1 : List UInt8 := [180, 0, 9, 27, 28, 42, 182, 1, 249, 184, 2, 128, 172]
abbrev dktJ13_indexOf_2_1 : List UInt8 := dkwJ13_indexOf_2_1 ++ []
def dkwJ13_indexOf_2_0 : List UInt8 := [42, 182, 1, 236, 153, 0, 19, 42, 180, 0, 9, 27, 28, 42, 182, 1, 249, 184, 2, 125, 167, 0, 16, 42]
abbrev dktJ13_indexOf_2_0 : List UInt8 := dkwJ13_indexOf_2_0 ++ dktJ13_indexOf_2_1
theorem dksJ13_indexOf_2_0 : cJ13_indexOf_2.data.toList.drop 0 = dktJ13_indexOf_2_0 := by decide +kernel
theorem dksJ13_indexOf_2_1 : cJ13_indexOf_2.data.toList.drop 24 = dktJ13_indexOf_2_1 := dk_seg dksJ13_indexOf_2_0 24 rfl rfl
theorem dJ13_indexOf_2_0 : decode cJ13_indexOf_2 0 = .ok (.aload_n 0, 1) := dk_42 (dk_at dksJ13_indexOf_2_0 0 rfl rfl)
theorem dJ13_indexOf_2_1 : decode cJ13_indexOf_2 1 = .ok (.invokevirtual 492, 3) := dk_182 1 236 (dk_at dksJ13_indexOf_2_0 1 rfl rfl)
theorem dJ13_indexOf_2_4 : decode cJ13_indexOf_2 4 = .ok (.ifCond .eq 19, 3) := dk_153 0 19 (dk_at dksJ13_indexOf_2_0 4 rfl rfl)
theorem dJ13_indexOf_2_7 : decode cJ13_indexOf_2 7 = .ok (.aload_n 0, 1) := dk_42 (dk_at dksJ13_indexOf_2_0 7 rfl rfl)
theorem dJ13_indexOf_2_8 : decode cJ13_indexOf_2 8 = .ok (.getfield 9, 3) := dk_180 0 9 (dk_at dksJ13_indexOf_2_0 8 rfl rfl)
theorem dJ13_indexOf_2_11 : decode cJ13_indexOf_2 11 = .ok (.iload_n 1, 1) := dk_27 (dk_at dksJ13_indexOf_2_0 11 rfl rfl)
theorem dJ13_indexOf_2_12 : decode cJ13_indexOf_2 12 = .ok (.iload_n 2, 1) := dk_28 (dk_at dksJ13_indexOf_2_0 12 rfl rfl)
theorem dJ13_indexOf_2_13 : decode cJ13_indexOf_2 13 = .ok (.aload_n 0, 1) := dk_42 (dk_at dksJ13_indexOf_2_0 13 rfl rfl)
theorem dJ13_indexOf_2_14 : decode cJ13_indexOf_2 14 = .ok (.invokevirtual 505, 3) := dk_182 1 249 (dk_at dksJ13_indexOf_2_0 14 rfl rfl)
theorem dJ13_indexOf_2_17 : decode cJ13_indexOf_2 17 = .ok (.invokestatic 637, 3) := dk_184 2 125 (dk_at dksJ13_indexOf_2_0 17 rfl rfl)
theorem dJ13_indexOf_2_20 : decode cJ13_indexOf_2 20 = .ok (.goto 16, 3) := dk_167 0 16 (dk_at dksJ13_indexOf_2_0 20 rfl rfl)
theorem dJ13_indexOf_2_23 : decode cJ13_indexOf_2 23 = .ok (.aload_n 0, 1) := dk_42 (dk_at dksJ13_indexOf_2_0 23 rfl rfl)
theorem dJ13_indexOf_2_24 : decode cJ13_indexOf_2 24 = .ok (.getfield 9, 3) := dk_180 0 9 (dk_at dksJ13_indexOf_2_1 0 rfl rfl)
theorem dJ13_indexOf_2_27 : decode cJ13_indexOf_2 27 = .ok (.iload_n 1, 1) := dk_27 (dk_at dksJ13_indexOf_2_1 3 rfl rfl)
theorem dJ13_indexOf_2_28 : decode cJ13_indexOf_2 28 = .ok (.iload_n 2, 1) := dk_28 (dk_at dksJ13_indexOf_2_1 4 rfl rfl)
theorem dJ13_indexOf_2_29 : decode cJ13_indexOf_2 29 = .ok (.aload_n 0, 1) := dk_42 (dk_at dksJ13_indexOf_2_1 5 rfl rfl)
theorem dJ13_indexOf_2_30 : decode cJ13_indexOf_2 30 = .ok (.invokevirtual 505, 3) := dk_182 1 249 (dk_at dksJ13_indexOf_2_1 6 rfl rfl)
theorem dJ13_indexOf_2_33 : decode cJ13_indexOf_2 33 = .ok (.invokestatic 640, 3) := dk_184 2 128 (dk_at dksJ13_indexOf_2_1 9 rfl rfl)
theorem dJ13_indexOf_2_36 : decode cJ13_indexOf_2 36 = .ok (.ireturn, 1) := dk_172 (dk_at dksJ13_indexOf_2_1 12 rfl rfl)
abbrev cJ13_hashCode : ByteArray := prog_35_method_78_code
def yJ13_hashCode : MethodName := ⟨RJ13, "hashCode", "()I"⟩
def dkwJ13_hashCode_2 : List UInt8 := [181, 0, 23, 167, 0, 8, 42, 27, 181, 0, 19, 27, 172]
abbrev dktJ13_hashCode_2 : List UInt8 := dkwJ13_hashCode_2 ++ []
def dkwJ13_hashCode_1 : List UInt8 := [180, 0, 9, 184, 2, 116, 167, 0, 10, 42, 180, 0, 9, 184, 2, 120, 60, 27, 154, 0, 11, 42, 4]
abbrev dktJ13_hashCode_1 : List UInt8 := dkwJ13_hashCode_1 ++ dktJ13_hashCode_2
def dkwJ13_hashCode_0 : List UInt8 := [42, 180, 0, 19, 60, 27, 154, 0, 52, 42, 180, 0, 23, 154, 0, 45, 42, 182, 1, 236, 153, 0, 13, 42]
abbrev dktJ13_hashCode_0 : List UInt8 := dkwJ13_hashCode_0 ++ dktJ13_hashCode_1
theorem dksJ13_hashCode_0 : cJ13_hashCode.data.toList.drop 0 = dktJ13_hashCode_0 := by decide +kernel
theorem dksJ13_hashCode_1 : cJ13_hashCode.data.toList.drop 24 = dktJ13_hashCode_1 := dk_seg dksJ13_hashCode_0 24 rfl rfl
theorem dksJ13_hashCode_2 : cJ13_hashCode.data.toList.drop 47 = dktJ13_hashCode_2 := dk_seg dksJ13_hashCode_1 23 rfl rfl
theorem dJ13_hashCode_0 : decode cJ13_hashCode 0 = .ok (.aload_n 0, 1) := dk_42 (dk_at dksJ13_hashCode_0 0 rfl rfl)
theorem dJ13_hashCode_1 : decode cJ13_hashCode 1 = .ok (.getfield 19, 3) := dk_180 0 19 (dk_at dksJ13_hashCode_0 1 rfl rfl)
theorem dJ13_hashCode_4 : decode cJ13_hashCode 4 = .ok (.istore_n 1, 1) := dk_60 (dk_at dksJ13_hashCode_0 4 rfl rfl)
theorem dJ13_hashCode_5 : decode cJ13_hashCode 5 = .ok (.iload_n 1, 1) := dk_27 (dk_at dksJ13_hashCode_0 5 rfl rfl)
theorem dJ13_hashCode_6 : decode cJ13_hashCode 6 = .ok (.ifCond .ne 52, 3) := dk_154 0 52 (dk_at dksJ13_hashCode_0 6 rfl rfl)
theorem dJ13_hashCode_9 : decode cJ13_hashCode 9 = .ok (.aload_n 0, 1) := dk_42 (dk_at dksJ13_hashCode_0 9 rfl rfl)
theorem dJ13_hashCode_10 : decode cJ13_hashCode 10 = .ok (.getfield 23, 3) := dk_180 0 23 (dk_at dksJ13_hashCode_0 10 rfl rfl)
theorem dJ13_hashCode_13 : decode cJ13_hashCode 13 = .ok (.ifCond .ne 45, 3) := dk_154 0 45 (dk_at dksJ13_hashCode_0 13 rfl rfl)
theorem dJ13_hashCode_16 : decode cJ13_hashCode 16 = .ok (.aload_n 0, 1) := dk_42 (dk_at dksJ13_hashCode_0 16 rfl rfl)
theorem dJ13_hashCode_17 : decode cJ13_hashCode 17 = .ok (.invokevirtual 492, 3) := dk_182 1 236 (dk_at dksJ13_hashCode_0 17 rfl rfl)
theorem dJ13_hashCode_20 : decode cJ13_hashCode 20 = .ok (.ifCond .eq 13, 3) := dk_153 0 13 (dk_at dksJ13_hashCode_0 20 rfl rfl)
theorem dJ13_hashCode_23 : decode cJ13_hashCode 23 = .ok (.aload_n 0, 1) := dk_42 (dk_at dksJ13_hashCode_0 23 rfl rfl)
theorem dJ13_hashCode_24 : decode cJ13_hashCode 24 = .ok (.getfield 9, 3) := dk_180 0 9 (dk_at dksJ13_hashCode_1 0 rfl rfl)
theorem dJ13_hashCode_27 : decode cJ13_hashCode 27 = .ok (.invokestatic 628, 3) := dk_184 2 116 (dk_at dksJ13_hashCode_1 3 rfl rfl)
theorem dJ13_hashCode_30 : decode cJ13_hashCode 30 = .ok (.goto 10, 3) := dk_167 0 10 (dk_at dksJ13_hashCode_1 6 rfl rfl)
theorem dJ13_hashCode_33 : decode cJ13_hashCode 33 = .ok (.aload_n 0, 1) := dk_42 (dk_at dksJ13_hashCode_1 9 rfl rfl)
theorem dJ13_hashCode_34 : decode cJ13_hashCode 34 = .ok (.getfield 9, 3) := dk_180 0 9 (dk_at dksJ13_hashCode_1 10 rfl rfl)
theorem dJ13_hashCode_37 : decode cJ13_hashCode 37 = .ok (.invokestatic 632, 3) := dk_184 2 120 (dk_at dksJ13_hashCode_1 13 rfl rfl)
theorem dJ13_hashCode_40 : decode cJ13_hashCode 40 = .ok (.istore_n 1, 1) := dk_60 (dk_at dksJ13_hashCode_1 16 rfl rfl)
theorem dJ13_hashCode_41 : decode cJ13_hashCode 41 = .ok (.iload_n 1, 1) := dk_27 (dk_at dksJ13_hashCode_1 17 rfl rfl)
theorem dJ13_hashCode_42 : decode cJ13_hashCode 42 = .ok (.ifCond .ne 11, 3) := dk_154 0 11 (dk_at dksJ13_hashCode_1 18 rfl rfl)
theorem dJ13_hashCode_45 : decode cJ13_hashCode 45 = .ok (.aload_n 0, 1) := dk_42 (dk_at dksJ13_hashCode_1 21 rfl rfl)
theorem dJ13_hashCode_46 : decode cJ13_hashCode 46 = .ok (.iconst 1, 1) := dk_4 (dk_at dksJ13_hashCode_1 22 rfl rfl)
theorem dJ13_hashCode_47 : decode cJ13_hashCode 47 = .ok (.putfield 23, 3) := dk_181 0 23 (dk_at dksJ13_hashCode_2 0 rfl rfl)
theorem dJ13_hashCode_50 : decode cJ13_hashCode 50 = .ok (.goto 8, 3) := dk_167 0 8 (dk_at dksJ13_hashCode_2 3 rfl rfl)
theorem dJ13_hashCode_53 : decode cJ13_hashCode 53 = .ok (.aload_n 0, 1) := dk_42 (dk_at dksJ13_hashCode_2 6 rfl rfl)
theorem dJ13_hashCode_54 : decode cJ13_hashCode 54 = .ok (.iload_n 1, 1) := dk_27 (dk_at dksJ13_hashCode_2 7 rfl rfl)
theorem dJ13_hashCode_55 : decode cJ13_hashCode 55 = .ok (.putfield 19, 3) := dk_181 0 19 (dk_at dksJ13_hashCode_2 8 rfl rfl)
theorem dJ13_hashCode_58 : decode cJ13_hashCode 58 = .ok (.iload_n 1, 1) := dk_27 (dk_at dksJ13_hashCode_2 11 rfl rfl)
theorem dJ13_hashCode_59 : decode cJ13_hashCode 59 = .ok (.ireturn, 1) := dk_172 (dk_at dksJ13_hashCode_2 12 rfl rfl)
abbrev cJ13_equals : ByteArray := prog_35_method_66_code
def yJ13_equals : MethodName := ⟨RJ13, "equals", "(Ljava/lang/Object;)Z"⟩
def dkwJ13_equals_2 : List UInt8 := [184, 2, 29, 153, 0, 7, 4, 167, 0, 4, 3, 172]
abbrev dktJ13_equals_2 : List UInt8 := dkwJ13_equals_2 ++ []
def dkwJ13_equals_1 : List UInt8 := [153, 0, 14, 42, 180, 0, 15, 44, 180, 0, 15, 160, 0, 21, 42, 180, 0, 9, 44, 180, 0, 9]
abbrev dktJ13_equals_1 : List UInt8 := dkwJ13_equals_1 ++ dktJ13_equals_2
def dkwJ13_equals_0 : List UInt8 := [42, 43, 166, 0, 5, 4, 172, 43, 193, 0, 10, 153, 0, 43, 43, 192, 0, 10, 77, 178, 0, 38]
abbrev dktJ13_equals_0 : List UInt8 := dkwJ13_equals_0 ++ dktJ13_equals_1
theorem dksJ13_equals_0 : cJ13_equals.data.toList.drop 0 = dktJ13_equals_0 := by decide +kernel
theorem dksJ13_equals_1 : cJ13_equals.data.toList.drop 22 = dktJ13_equals_1 := dk_seg dksJ13_equals_0 22 rfl rfl
theorem dksJ13_equals_2 : cJ13_equals.data.toList.drop 44 = dktJ13_equals_2 := dk_seg dksJ13_equals_1 22 rfl rfl
theorem dJ13_equals_0 : decode cJ13_equals 0 = .ok (.aload_n 0, 1) := dk_42 (dk_at dksJ13_equals_0 0 rfl rfl)
theorem dJ13_equals_1 : decode cJ13_equals 1 = .ok (.aload_n 1, 1) := dk_43 (dk_at dksJ13_equals_0 1 rfl rfl)
theorem dJ13_equals_2 : decode cJ13_equals 2 = .ok (.if_acmp .ne 5, 3) := dk_166 0 5 (dk_at dksJ13_equals_0 2 rfl rfl)
theorem dJ13_equals_5 : decode cJ13_equals 5 = .ok (.iconst 1, 1) := dk_4 (dk_at dksJ13_equals_0 5 rfl rfl)
theorem dJ13_equals_6 : decode cJ13_equals 6 = .ok (.ireturn, 1) := dk_172 (dk_at dksJ13_equals_0 6 rfl rfl)
theorem dJ13_equals_7 : decode cJ13_equals 7 = .ok (.aload_n 1, 1) := dk_43 (dk_at dksJ13_equals_0 7 rfl rfl)
theorem dJ13_equals_8 : decode cJ13_equals 8 = .ok (.instanceof 10, 3) := dk_193 0 10 (dk_at dksJ13_equals_0 8 rfl rfl)
theorem dJ13_equals_11 : decode cJ13_equals 11 = .ok (.ifCond .eq 43, 3) := dk_153 0 43 (dk_at dksJ13_equals_0 11 rfl rfl)
theorem dJ13_equals_14 : decode cJ13_equals 14 = .ok (.aload_n 1, 1) := dk_43 (dk_at dksJ13_equals_0 14 rfl rfl)
theorem dJ13_equals_15 : decode cJ13_equals 15 = .ok (.checkcast 10, 3) := dk_192 0 10 (dk_at dksJ13_equals_0 15 rfl rfl)
theorem dJ13_equals_18 : decode cJ13_equals 18 = .ok (.astore_n 2, 1) := dk_77 (dk_at dksJ13_equals_0 18 rfl rfl)
theorem dJ13_equals_19 : decode cJ13_equals 19 = .ok (.getstatic 38, 3) := dk_178 0 38 (dk_at dksJ13_equals_0 19 rfl rfl)
theorem dJ13_equals_22 : decode cJ13_equals 22 = .ok (.ifCond .eq 14, 3) := dk_153 0 14 (dk_at dksJ13_equals_1 0 rfl rfl)
theorem dJ13_equals_25 : decode cJ13_equals 25 = .ok (.aload_n 0, 1) := dk_42 (dk_at dksJ13_equals_1 3 rfl rfl)
theorem dJ13_equals_26 : decode cJ13_equals 26 = .ok (.getfield 15, 3) := dk_180 0 15 (dk_at dksJ13_equals_1 4 rfl rfl)
theorem dJ13_equals_29 : decode cJ13_equals 29 = .ok (.aload_n 2, 1) := dk_44 (dk_at dksJ13_equals_1 7 rfl rfl)
theorem dJ13_equals_30 : decode cJ13_equals 30 = .ok (.getfield 15, 3) := dk_180 0 15 (dk_at dksJ13_equals_1 8 rfl rfl)
theorem dJ13_equals_33 : decode cJ13_equals 33 = .ok (.if_icmp .ne 21, 3) := dk_160 0 21 (dk_at dksJ13_equals_1 11 rfl rfl)
theorem dJ13_equals_36 : decode cJ13_equals 36 = .ok (.aload_n 0, 1) := dk_42 (dk_at dksJ13_equals_1 14 rfl rfl)
theorem dJ13_equals_37 : decode cJ13_equals 37 = .ok (.getfield 9, 3) := dk_180 0 9 (dk_at dksJ13_equals_1 15 rfl rfl)
theorem dJ13_equals_40 : decode cJ13_equals 40 = .ok (.aload_n 2, 1) := dk_44 (dk_at dksJ13_equals_1 18 rfl rfl)
theorem dJ13_equals_41 : decode cJ13_equals 41 = .ok (.getfield 9, 3) := dk_180 0 9 (dk_at dksJ13_equals_1 19 rfl rfl)
theorem dJ13_equals_44 : decode cJ13_equals 44 = .ok (.invokestatic 541, 3) := dk_184 2 29 (dk_at dksJ13_equals_2 0 rfl rfl)
theorem dJ13_equals_47 : decode cJ13_equals 47 = .ok (.ifCond .eq 7, 3) := dk_153 0 7 (dk_at dksJ13_equals_2 3 rfl rfl)
theorem dJ13_equals_50 : decode cJ13_equals 50 = .ok (.iconst 1, 1) := dk_4 (dk_at dksJ13_equals_2 6 rfl rfl)
theorem dJ13_equals_51 : decode cJ13_equals 51 = .ok (.goto 4, 3) := dk_167 0 4 (dk_at dksJ13_equals_2 7 rfl rfl)
theorem dJ13_equals_54 : decode cJ13_equals 54 = .ok (.iconst 0, 1) := dk_3 (dk_at dksJ13_equals_2 10 rfl rfl)
theorem dJ13_equals_55 : decode cJ13_equals 55 = .ok (.ireturn, 1) := dk_172 (dk_at dksJ13_equals_2 11 rfl rfl)
abbrev cJ13_compareTo : ByteArray := prog_35_method_162_code
def yJ13_compareTo : MethodName := ⟨RJ13, "compareTo", "(Ljava/lang/Object;)I"⟩
def dkwJ13_compareTo_0 : List UInt8 := [42, 43, 192, 0, 10, 182, 4, 60, 172]
abbrev dktJ13_compareTo_0 : List UInt8 := dkwJ13_compareTo_0 ++ []
theorem dksJ13_compareTo_0 : cJ13_compareTo.data.toList.drop 0 = dktJ13_compareTo_0 := by decide +kernel
theorem dJ13_compareTo_0 : decode cJ13_compareTo 0 = .ok (.aload_n 0, 1) := dk_42 (dk_at dksJ13_compareTo_0 0 rfl rfl)
theorem dJ13_compareTo_1 : decode cJ13_compareTo 1 = .ok (.aload_n 1, 1) := dk_43 (dk_at dksJ13_compareTo_0 1 rfl rfl)
theorem dJ13_compareTo_2 : decode cJ13_compareTo 2 = .ok (.checkcast 10, 3) := dk_192 0 10 (dk_at dksJ13_compareTo_0 2 rfl rfl)
theorem dJ13_compareTo_5 : decode cJ13_compareTo 5 = .ok (.invokevirtual 1084, 3) := dk_182 4 60 (dk_at dksJ13_compareTo_0 5 rfl rfl)
theorem dJ13_compareTo_8 : decode cJ13_compareTo 8 = .ok (.ireturn, 1) := dk_172 (dk_at dksJ13_compareTo_0 8 rfl rfl)
abbrev cJ13_compareTo_2 : ByteArray := prog_35_method_71_code
def yJ13_compareTo_2 : MethodName := ⟨RJ13, "compareTo", "(Ljava/lang/String;)I"⟩
def dkwJ13_compareTo_2_2 : List UInt8 := [154, 0, 11, 44, 45, 184, 2, 79, 167, 0, 8, 44, 45, 184, 2, 82, 172]
abbrev dktJ13_compareTo_2_2 : List UInt8 := dkwJ13_compareTo_2_2 ++ []
def dkwJ13_compareTo_2_1 : List UInt8 := [160, 0, 22, 21, 4, 154, 0, 11, 44, 45, 184, 2, 74, 167, 0, 8, 44, 45, 184, 2, 78, 172, 21, 4]
abbrev dktJ13_compareTo_2_1 : List UInt8 := dkwJ13_compareTo_2_1 ++ dktJ13_compareTo_2_2
def dkwJ13_compareTo_2_0 : List UInt8 := [42, 180, 0, 9, 77, 43, 180, 0, 9, 78, 42, 182, 1, 79, 54, 4, 21, 4, 43, 182, 1, 79]
abbrev dktJ13_compareTo_2_0 : List UInt8 := dkwJ13_compareTo_2_0 ++ dktJ13_compareTo_2_1
theorem dksJ13_compareTo_2_0 : cJ13_compareTo_2.data.toList.drop 0 = dktJ13_compareTo_2_0 := by decide +kernel
theorem dksJ13_compareTo_2_1 : cJ13_compareTo_2.data.toList.drop 22 = dktJ13_compareTo_2_1 := dk_seg dksJ13_compareTo_2_0 22 rfl rfl
theorem dksJ13_compareTo_2_2 : cJ13_compareTo_2.data.toList.drop 46 = dktJ13_compareTo_2_2 := dk_seg dksJ13_compareTo_2_1 24 rfl rfl
theorem dJ13_compareTo_2_0 : decode cJ13_compareTo_2 0 = .ok (.aload_n 0, 1) := dk_42 (dk_at dksJ13_compareTo_2_0 0 rfl rfl)
theorem dJ13_compareTo_2_1 : decode cJ13_compareTo_2 1 = .ok (.getfield 9, 3) := dk_180 0 9 (dk_at dksJ13_compareTo_2_0 1 rfl rfl)
theorem dJ13_compareTo_2_4 : decode cJ13_compareTo_2 4 = .ok (.astore_n 2, 1) := dk_77 (dk_at dksJ13_compareTo_2_0 4 rfl rfl)
theorem dJ13_compareTo_2_5 : decode cJ13_compareTo_2 5 = .ok (.aload_n 1, 1) := dk_43 (dk_at dksJ13_compareTo_2_0 5 rfl rfl)
theorem dJ13_compareTo_2_6 : decode cJ13_compareTo_2 6 = .ok (.getfield 9, 3) := dk_180 0 9 (dk_at dksJ13_compareTo_2_0 6 rfl rfl)
theorem dJ13_compareTo_2_9 : decode cJ13_compareTo_2 9 = .ok (.astore_n 3, 1) := dk_78 (dk_at dksJ13_compareTo_2_0 9 rfl rfl)
theorem dJ13_compareTo_2_10 : decode cJ13_compareTo_2 10 = .ok (.aload_n 0, 1) := dk_42 (dk_at dksJ13_compareTo_2_0 10 rfl rfl)
theorem dJ13_compareTo_2_11 : decode cJ13_compareTo_2 11 = .ok (.invokevirtual 335, 3) := dk_182 1 79 (dk_at dksJ13_compareTo_2_0 11 rfl rfl)
theorem dJ13_compareTo_2_14 : decode cJ13_compareTo_2 14 = .ok (.istore 4, 2) := dk_54 4 (dk_at dksJ13_compareTo_2_0 14 rfl rfl)
theorem dJ13_compareTo_2_16 : decode cJ13_compareTo_2 16 = .ok (.iload 4, 2) := dk_21 4 (dk_at dksJ13_compareTo_2_0 16 rfl rfl)
theorem dJ13_compareTo_2_18 : decode cJ13_compareTo_2 18 = .ok (.aload_n 1, 1) := dk_43 (dk_at dksJ13_compareTo_2_0 18 rfl rfl)
theorem dJ13_compareTo_2_19 : decode cJ13_compareTo_2 19 = .ok (.invokevirtual 335, 3) := dk_182 1 79 (dk_at dksJ13_compareTo_2_0 19 rfl rfl)
theorem dJ13_compareTo_2_22 : decode cJ13_compareTo_2 22 = .ok (.if_icmp .ne 22, 3) := dk_160 0 22 (dk_at dksJ13_compareTo_2_1 0 rfl rfl)
theorem dJ13_compareTo_2_25 : decode cJ13_compareTo_2 25 = .ok (.iload 4, 2) := dk_21 4 (dk_at dksJ13_compareTo_2_1 3 rfl rfl)
theorem dJ13_compareTo_2_27 : decode cJ13_compareTo_2 27 = .ok (.ifCond .ne 11, 3) := dk_154 0 11 (dk_at dksJ13_compareTo_2_1 5 rfl rfl)
theorem dJ13_compareTo_2_30 : decode cJ13_compareTo_2 30 = .ok (.aload_n 2, 1) := dk_44 (dk_at dksJ13_compareTo_2_1 8 rfl rfl)
theorem dJ13_compareTo_2_31 : decode cJ13_compareTo_2 31 = .ok (.aload_n 3, 1) := dk_45 (dk_at dksJ13_compareTo_2_1 9 rfl rfl)
theorem dJ13_compareTo_2_32 : decode cJ13_compareTo_2 32 = .ok (.invokestatic 586, 3) := dk_184 2 74 (dk_at dksJ13_compareTo_2_1 10 rfl rfl)
theorem dJ13_compareTo_2_35 : decode cJ13_compareTo_2 35 = .ok (.goto 8, 3) := dk_167 0 8 (dk_at dksJ13_compareTo_2_1 13 rfl rfl)
theorem dJ13_compareTo_2_38 : decode cJ13_compareTo_2 38 = .ok (.aload_n 2, 1) := dk_44 (dk_at dksJ13_compareTo_2_1 16 rfl rfl)
theorem dJ13_compareTo_2_39 : decode cJ13_compareTo_2 39 = .ok (.aload_n 3, 1) := dk_45 (dk_at dksJ13_compareTo_2_1 17 rfl rfl)
theorem dJ13_compareTo_2_40 : decode cJ13_compareTo_2 40 = .ok (.invokestatic 590, 3) := dk_184 2 78 (dk_at dksJ13_compareTo_2_1 18 rfl rfl)
theorem dJ13_compareTo_2_43 : decode cJ13_compareTo_2 43 = .ok (.ireturn, 1) := dk_172 (dk_at dksJ13_compareTo_2_1 21 rfl rfl)
theorem dJ13_compareTo_2_44 : decode cJ13_compareTo_2 44 = .ok (.iload 4, 2) := dk_21 4 (dk_at dksJ13_compareTo_2_1 22 rfl rfl)
theorem dJ13_compareTo_2_46 : decode cJ13_compareTo_2 46 = .ok (.ifCond .ne 11, 3) := dk_154 0 11 (dk_at dksJ13_compareTo_2_2 0 rfl rfl)
theorem dJ13_compareTo_2_49 : decode cJ13_compareTo_2 49 = .ok (.aload_n 2, 1) := dk_44 (dk_at dksJ13_compareTo_2_2 3 rfl rfl)
theorem dJ13_compareTo_2_50 : decode cJ13_compareTo_2 50 = .ok (.aload_n 3, 1) := dk_45 (dk_at dksJ13_compareTo_2_2 4 rfl rfl)
theorem dJ13_compareTo_2_51 : decode cJ13_compareTo_2 51 = .ok (.invokestatic 591, 3) := dk_184 2 79 (dk_at dksJ13_compareTo_2_2 5 rfl rfl)
theorem dJ13_compareTo_2_54 : decode cJ13_compareTo_2 54 = .ok (.goto 8, 3) := dk_167 0 8 (dk_at dksJ13_compareTo_2_2 8 rfl rfl)
theorem dJ13_compareTo_2_57 : decode cJ13_compareTo_2 57 = .ok (.aload_n 2, 1) := dk_44 (dk_at dksJ13_compareTo_2_2 11 rfl rfl)
theorem dJ13_compareTo_2_58 : decode cJ13_compareTo_2 58 = .ok (.aload_n 3, 1) := dk_45 (dk_at dksJ13_compareTo_2_2 12 rfl rfl)
theorem dJ13_compareTo_2_59 : decode cJ13_compareTo_2 59 = .ok (.invokestatic 594, 3) := dk_184 2 82 (dk_at dksJ13_compareTo_2_2 13 rfl rfl)
theorem dJ13_compareTo_2_62 : decode cJ13_compareTo_2 62 = .ok (.ireturn, 1) := dk_172 (dk_at dksJ13_compareTo_2_2 16 rfl rfl)
abbrev cJ13_checkOffset : ByteArray := prog_35_method_156_code
def yJ13_checkOffset : MethodName := ⟨RJ13, "checkOffset", "(II)V"⟩
def dkwJ13_checkOffset_0 : List UInt8 := [26, 27, 27, 178, 4, 29, 184, 4, 38, 87, 177]
abbrev dktJ13_checkOffset_0 : List UInt8 := dkwJ13_checkOffset_0 ++ []
theorem dksJ13_checkOffset_0 : cJ13_checkOffset.data.toList.drop 0 = dktJ13_checkOffset_0 := by decide +kernel
theorem dJ13_checkOffset_0 : decode cJ13_checkOffset 0 = .ok (.iload_n 0, 1) := dk_26 (dk_at dksJ13_checkOffset_0 0 rfl rfl)
theorem dJ13_checkOffset_1 : decode cJ13_checkOffset 1 = .ok (.iload_n 1, 1) := dk_27 (dk_at dksJ13_checkOffset_0 1 rfl rfl)
theorem dJ13_checkOffset_2 : decode cJ13_checkOffset 2 = .ok (.iload_n 1, 1) := dk_27 (dk_at dksJ13_checkOffset_0 2 rfl rfl)
theorem dJ13_checkOffset_3 : decode cJ13_checkOffset 3 = .ok (.getstatic 1053, 3) := dk_178 4 29 (dk_at dksJ13_checkOffset_0 3 rfl rfl)
theorem dJ13_checkOffset_6 : decode cJ13_checkOffset 6 = .ok (.invokestatic 1062, 3) := dk_184 4 38 (dk_at dksJ13_checkOffset_0 6 rfl rfl)
theorem dJ13_checkOffset_9 : decode cJ13_checkOffset 9 = .ok (.pop, 1) := dk_87 (dk_at dksJ13_checkOffset_0 9 rfl rfl)
theorem dJ13_checkOffset_10 : decode cJ13_checkOffset 10 = .ok (.return_, 1) := dk_177 (dk_at dksJ13_checkOffset_0 10 rfl rfl)
theorem q134 : (Jvm.Cond.initialized "java/lang/String") ∈ lw_all := lw_g (lw_at lw_m1 19 rfl) rfl
theorem q492 : (Jvm.Cond.laysStatic "java/lang/String" "COMPACT_STRINGS" "Z") ∈ lw_tbl := lw_at lw_m2 137 rfl
theorem q502 : (Jvm.Cond.fieldLink "java/lang/String" (1048 : Nat) "java/lang/AbstractStringBuilder" "maybeLatin1" "Z") ∈ lw_all := lw_g (lw_at lw_m2 147 rfl) rfl
theorem q587 : (Jvm.Cond.static ({ cls := "java/lang/String", name := "checkBoundsOffCount", desc := "(III)I" } : Jvm.MethodName)) ∈ lw_all := lw_g (lw_at lw_m2 232 rfl) rfl
theorem q588 : (Jvm.Cond.code ({ cls := "java/lang/String", name := "checkBoundsOffCount", desc := "(III)I" } : Jvm.MethodName) prog_35_method_157_code (3 : Nat) (Option.some Jvm.ClassFile.FieldType.int)) ∈ lw_all := lw_g (lw_at lw_m2 233 rfl) rfl
theorem q589 : (Jvm.Cond.fieldLink "java/lang/String" (1053 : Nat) "jdk/internal/util/Preconditions" "SIOOBE_FORMATTER" "Ljava/util/function/BiFunction;") ∈ lw_all := lw_g (lw_at lw_m2 234 rfl) rfl
theorem q591 : (Jvm.Cond.methodLink "java/lang/String" (1065 : Nat) ({ cls := "jdk/internal/util/Preconditions", name := "checkFromIndexSize", desc := "(IIILjava/util/function/BiFunction;)I" } : Jvm.MethodName)) ∈ lw_all := lw_g (lw_at lw_m2 236 rfl) rfl
theorem q610 : (Jvm.Cond.static ({ cls := "java/lang/String", name := "checkIndex", desc := "(II)V" } : Jvm.MethodName)) ∈ lw_all := lw_g (lw_at lw_m3 15 rfl) rfl
theorem q611 : (Jvm.Cond.code ({ cls := "java/lang/String", name := "checkIndex", desc := "(II)V" } : Jvm.MethodName) prog_35_method_155_code (2 : Nat) (Option.none : Option Jvm.ClassFile.FieldType)) ∈ lw_all := lw_g (lw_at lw_m3 16 rfl) rfl
theorem q612 : (Jvm.Cond.methodLink "java/lang/String" (1059 : Nat) ({ cls := "jdk/internal/util/Preconditions", name := "checkIndex", desc := "(IILjava/util/function/BiFunction;)I" } : Jvm.MethodName)) ∈ lw_all := lw_g (lw_at lw_m3 17 rfl) rfl
theorem q620 : (Jvm.Cond.instantiable "java/lang/String" (4 : Nat)) ∈ lw_all := lw_g (lw_at lw_m3 25 rfl) rfl
theorem q622 : (Jvm.Cond.instanceMethod ({ cls := "java/lang/String", name := "<init>", desc := "(Ljava/lang/StringBuilder;)V" } : Jvm.MethodName)) ∈ lw_all := lw_g (lw_at lw_m3 27 rfl) rfl
theorem q623 : (Jvm.Cond.code ({ cls := "java/lang/String", name := "<init>", desc := "(Ljava/lang/StringBuilder;)V" } : Jvm.MethodName) prog_35_method_53_code (2 : Nat) (Option.none : Option Jvm.ClassFile.FieldType)) ∈ lw_all := lw_g (lw_at lw_m3 28 rfl) rfl
theorem q624 : (Jvm.Cond.methodLink "java/lang/String" (489 : Nat) ({ cls := "java/lang/String", name := "<init>", desc := "(Ljava/lang/AbstractStringBuilder;Ljava/lang/Void;)V" } : Jvm.MethodName)) ∈ lw_all := lw_g (lw_at lw_m3 29 rfl) rfl
theorem q625 : (Jvm.Cond.instanceMethod ({ cls := "java/lang/String", name := "<init>", desc := "(Ljava/lang/AbstractStringBuilder;Ljava/lang/Void;)V" } : Jvm.MethodName)) ∈ lw_all := lw_g (lw_at lw_m3 30 rfl) rfl
theorem q626 : (Jvm.Cond.code ({ cls := "java/lang/String", name := "<init>", desc := "(Ljava/lang/AbstractStringBuilder;Ljava/lang/Void;)V" } : Jvm.MethodName) prog_35_method_150_code (5 : Nat) (Option.none : Option Jvm.ClassFile.FieldType)) ∈ lw_all := lw_g (lw_at lw_m3 31 rfl) rfl
theorem q627 : (Jvm.Cond.methodLink "java/lang/String" (1 : Nat) ({ cls := "java/lang/Object", name := "<init>", desc := "()V" } : Jvm.MethodName)) ∈ lw_all := lw_g (lw_at lw_m3 32 rfl) rfl
theorem q628 : (Jvm.Cond.methodLink "java/lang/String" (552 : Nat) ({ cls := "java/lang/AbstractStringBuilder", name := "getValue", desc := "()[B" } : Jvm.MethodName)) ∈ lw_all := lw_g (lw_at lw_m3 33 rfl) rfl
theorem q633 : (Jvm.Cond.methodLink "java/lang/String" (549 : Nat) ({ cls := "java/lang/AbstractStringBuilder", name := "length", desc := "()I" } : Jvm.MethodName)) ∈ lw_all := lw_g (lw_at lw_m3 38 rfl) rfl
theorem q634 : (Jvm.Cond.methodLink "java/lang/String" (1047 : Nat) ({ cls := "java/lang/AbstractStringBuilder", name := "isLatin1", desc := "()Z" } : Jvm.MethodName)) ∈ lw_all := lw_g (lw_at lw_m3 39 rfl) rfl
theorem q635 : (Jvm.Cond.methodLink "java/lang/String" (54 : Nat) ({ cls := "java/util/Arrays", name := "copyOfRange", desc := "([BII)[B" } : Jvm.MethodName)) ∈ lw_all := lw_g (lw_at lw_m3 40 rfl) rfl
theorem q679 : (Jvm.Cond.static ({ cls := "java/lang/String", name := "checkBoundsBeginEnd", desc := "(III)V" } : Jvm.MethodName)) ∈ lw_all := lw_g (lw_at lw_m3 84 rfl) rfl
theorem q680 : (Jvm.Cond.code ({ cls := "java/lang/String", name := "checkBoundsBeginEnd", desc := "(III)V" } : Jvm.MethodName) prog_35_method_158_code (3 : Nat) (Option.none : Option Jvm.ClassFile.FieldType)) ∈ lw_all := lw_g (lw_at lw_m3 85 rfl) rfl
theorem q681 : (Jvm.Cond.methodLink "java/lang/String" (1062 : Nat) ({ cls := "jdk/internal/util/Preconditions", name := "checkFromToIndex", desc := "(IIILjava/util/function/BiFunction;)I" } : Jvm.MethodName)) ∈ lw_all := lw_g (lw_at lw_m3 86 rfl) rfl
theorem q705 : (Jvm.Cond.instanceMethod ({ cls := "java/lang/String", name := "length", desc := "()I" } : Jvm.MethodName)) ∈ lw_all := lw_g (lw_at lw_m3 110 rfl) rfl
theorem q706 : (Jvm.Cond.selects "java/lang/String" ({ cls := "java/lang/String", name := "length", desc := "()I" } : Jvm.MethodName) ({ cls := "java/lang/String", name := "length", desc := "()I" } : Jvm.MethodName)) ∈ lw_all := lw_g (lw_at lw_m3 111 rfl) rfl
theorem q707 : (Jvm.Cond.code ({ cls := "java/lang/String", name := "length", desc := "()I" } : Jvm.MethodName) prog_35_method_54_code (1 : Nat) (Option.some Jvm.ClassFile.FieldType.int)) ∈ lw_all := lw_g (lw_at lw_m3 112 rfl) rfl
theorem q708 : (Jvm.Cond.methodLink "java/lang/String" (335 : Nat) ({ cls := "java/lang/String", name := "coder", desc := "()B" } : Jvm.MethodName)) ∈ lw_all := lw_g (lw_at lw_m3 113 rfl) rfl
theorem q709 : (Jvm.Cond.instanceMethod ({ cls := "java/lang/String", name := "coder", desc := "()B" } : Jvm.MethodName)) ∈ lw_all := lw_g (lw_at lw_m3 114 rfl) rfl
theorem q710 : (Jvm.Cond.selects "java/lang/String" ({ cls := "java/lang/String", name := "coder", desc := "()B" } : Jvm.MethodName) ({ cls := "java/lang/String", name := "coder", desc := "()B" } : Jvm.MethodName)) ∈ lw_all := lw_g (lw_at lw_m3 115 rfl) rfl
theorem q711 : (Jvm.Cond.code ({ cls := "java/lang/String", name := "coder", desc := "()B" } : Jvm.MethodName) prog_35_method_152_code (1 : Nat) (Option.some Jvm.ClassFile.FieldType.byte)) ∈ lw_all := lw_g (lw_at lw_m3 116 rfl) rfl
theorem q712 : (Jvm.Cond.fieldLink "java/lang/String" (38 : Nat) "java/lang/String" "COMPACT_STRINGS" "Z") ∈ lw_all := lw_g (lw_at lw_m3 117 rfl) rfl
theorem q723 : (Jvm.Cond.instanceMethod ({ cls := "java/lang/String", name := "getBytes", desc := "([BIB)V" } : Jvm.MethodName)) ∈ lw_all := lw_g (lw_at lw_m3 128 rfl) rfl
theorem q724 : (Jvm.Cond.selects "java/lang/String" ({ cls := "java/lang/String", name := "getBytes", desc := "([BIB)V" } : Jvm.MethodName) ({ cls := "java/lang/String", name := "getBytes", desc := "([BIB)V" } : Jvm.MethodName)) ∈ lw_all := lw_g (lw_at lw_m3 129 rfl) rfl
theorem q725 : (Jvm.Cond.code ({ cls := "java/lang/String", name := "getBytes", desc := "([BIB)V" } : Jvm.MethodName) prog_35_method_147_code (4 : Nat) (Option.none : Option Jvm.ClassFile.FieldType)) ∈ lw_all := lw_g (lw_at lw_m3 130 rfl) rfl
theorem q726 : (Jvm.Cond.methodLink "java/lang/String" (212 : Nat) ({ cls := "java/lang/System", name := "arraycopy", desc := "(Ljava/lang/Object;ILjava/lang/Object;II)V" } : Jvm.MethodName)) ∈ lw_all := lw_g (lw_at lw_m3 131 rfl) rfl
theorem q727 : (Jvm.Cond.methodLink "java/lang/String" (106 : Nat) ({ cls := "java/lang/StringLatin1", name := "inflate", desc := "([BI[BII)V" } : Jvm.MethodName)) ∈ lw_all := lw_g (lw_at lw_m3 132 rfl) rfl
theorem q735 : (Jvm.Cond.methodLink "java/lang/String" (1051 : Nat) ({ cls := "java/lang/StringUTF16", name := "compress", desc := "([BII)[B" } : Jvm.MethodName)) ∈ lw_all := lw_g (lw_at lw_m3 140 rfl) rfl
theorem q745 : (Jvm.Cond.methodLink "java/lang/String" (47 : Nat) ({ cls := "java/lang/StringUTF16", name := "coderFromArrayLen", desc := "([BI)B" } : Jvm.MethodName)) ∈ lw_all := lw_g (lw_at lw_m3 150 rfl) rfl
theorem q748 : (Jvm.Cond.fieldLink "java/lang/String" (9 : Nat) "java/lang/String" "value" "[B") ∈ lw_all := lw_g (lw_at lw_m3 153 rfl) rfl
theorem q749 : (Jvm.Cond.fieldLink "java/lang/String" (15 : Nat) "java/lang/String" "coder" "B") ∈ lw_all := lw_g (lw_at lw_m3 154 rfl) rfl
theorem q750 : (Jvm.Cond.fieldLink "java/lang/String" (19 : Nat) "java/lang/String" "hash" "I") ∈ lw_all := lw_g (lw_at lw_m3 155 rfl) rfl
theorem q751 : (Jvm.Cond.fieldLink "java/lang/String" (23 : Nat) "java/lang/String" "hashIsZero" "Z") ∈ lw_all := lw_g (lw_at lw_m3 156 rfl) rfl
theorem q752 : (Jvm.Cond.laysFinal "java/lang/String" "java/lang/String" "value" "[B") ∈ lw_all := lw_g (lw_at lw_m3 157 rfl) rfl
theorem q753 : (Jvm.Cond.soleField "java/lang/String" "value") ∈ lw_all := lw_g (lw_at lw_m3 158 rfl) rfl
theorem q754 : (Jvm.Cond.laysFinal "java/lang/String" "java/lang/String" "coder" "B") ∈ lw_all := lw_g (lw_at lw_m3 159 rfl) rfl
theorem q755 : (Jvm.Cond.soleField "java/lang/String" "coder") ∈ lw_all := lw_g (lw_at lw_m3 160 rfl) rfl
theorem q756 : (Jvm.Cond.lays "java/lang/String" "java/lang/String" "hash" "I") ∈ lw_all := lw_g (lw_at lw_m3 161 rfl) rfl
theorem q757 : (Jvm.Cond.soleField "java/lang/String" "hash") ∈ lw_all := lw_g (lw_at lw_m3 162 rfl) rfl
theorem q758 : (Jvm.Cond.lays "java/lang/String" "java/lang/String" "hashIsZero" "Z") ∈ lw_all := lw_g (lw_at lw_m3 163 rfl) rfl
theorem q759 : (Jvm.Cond.soleField "java/lang/String" "hashIsZero") ∈ lw_all := lw_g (lw_at lw_m3 164 rfl) rfl
theorem q760 : (Jvm.Cond.superclass "java/lang/String" "java/lang/Object") ∈ lw_all := lw_g (lw_at lw_m3 165 rfl) rfl
theorem q767 : (Jvm.Cond.instanceMethod ({ cls := "java/lang/String", name := "charAt", desc := "(I)C" } : Jvm.MethodName)) ∈ lw_all := lw_g (lw_at lw_m3 172 rfl) rfl
theorem q768 : (Jvm.Cond.selects "java/lang/String" ({ cls := "java/lang/String", name := "charAt", desc := "(I)C" } : Jvm.MethodName) ({ cls := "java/lang/String", name := "charAt", desc := "(I)C" } : Jvm.MethodName)) ∈ lw_all := lw_g (lw_at lw_m3 173 rfl) rfl
theorem q769 : (Jvm.Cond.code ({ cls := "java/lang/String", name := "charAt", desc := "(I)C" } : Jvm.MethodName) prog_35_method_56_code (2 : Nat) (Option.some Jvm.ClassFile.FieldType.char)) ∈ lw_all := lw_g (lw_at lw_m3 174 rfl) rfl
theorem q770 : (Jvm.Cond.methodLink "java/lang/String" (492 : Nat) ({ cls := "java/lang/String", name := "isLatin1", desc := "()Z" } : Jvm.MethodName)) ∈ lw_all := lw_g (lw_at lw_m3 175 rfl) rfl
theorem q771 : (Jvm.Cond.instanceMethod ({ cls := "java/lang/String", name := "isLatin1", desc := "()Z" } : Jvm.MethodName)) ∈ lw_all := lw_g (lw_at lw_m3 176 rfl) rfl
theorem q772 : (Jvm.Cond.selects "java/lang/String" ({ cls := "java/lang/String", name := "isLatin1", desc := "()Z" } : Jvm.MethodName) ({ cls := "java/lang/String", name := "isLatin1", desc := "()Z" } : Jvm.MethodName)) ∈ lw_all := lw_g (lw_at lw_m3 177 rfl) rfl
theorem q773 : (Jvm.Cond.code ({ cls := "java/lang/String", name := "isLatin1", desc := "()Z" } : Jvm.MethodName) prog_35_method_154_code (1 : Nat) (Option.some Jvm.ClassFile.FieldType.boolean)) ∈ lw_all := lw_g (lw_at lw_m3 178 rfl) rfl
theorem q774 : (Jvm.Cond.methodLink "java/lang/String" (495 : Nat) ({ cls := "java/lang/StringLatin1", name := "charAt", desc := "([BI)C" } : Jvm.MethodName)) ∈ lw_all := lw_g (lw_at lw_m3 179 rfl) rfl
theorem q778 : (Jvm.Cond.methodLink "java/lang/String" (498 : Nat) ({ cls := "java/lang/StringUTF16", name := "charAt", desc := "([BI)C" } : Jvm.MethodName)) ∈ lw_all := lw_g (lw_at lw_m3 183 rfl) rfl
theorem q787 : (Jvm.Cond.instanceMethod ({ cls := "java/lang/String", name := "substring", desc := "(II)Ljava/lang/String;" } : Jvm.MethodName)) ∈ lw_all := lw_g (lw_at lw_m3 192 rfl) rfl
theorem q788 : (Jvm.Cond.selects "java/lang/String" ({ cls := "java/lang/String", name := "substring", desc := "(II)Ljava/lang/String;" } : Jvm.MethodName) ({ cls := "java/lang/String", name := "substring", desc := "(II)Ljava/lang/String;" } : Jvm.MethodName)) ∈ lw_all := lw_g (lw_at lw_m3 193 rfl) rfl
theorem q789 : (Jvm.Cond.code ({ cls := "java/lang/String", name := "substring", desc := "(II)Ljava/lang/String;" } : Jvm.MethodName) prog_35_method_92_code (5 : Nat) (Option.some (Jvm.ClassFile.FieldType.object "java/lang/String"))) ∈ lw_all := lw_g (lw_at lw_m3 194 rfl) rfl
theorem q790 : (Jvm.Cond.methodLink "java/lang/String" (505 : Nat) ({ cls := "java/lang/String", name := "length", desc := "()I" } : Jvm.MethodName)) ∈ lw_all := lw_g (lw_at lw_m3 195 rfl) rfl
theorem q791 : (Jvm.Cond.methodLink "java/lang/String" (521 : Nat) ({ cls := "java/lang/String", name := "checkBoundsBeginEnd", desc := "(III)V" } : Jvm.MethodName)) ∈ lw_all := lw_g (lw_at lw_m3 196 rfl) rfl
theorem q792 : (Jvm.Cond.methodLink "java/lang/String" (685 : Nat) ({ cls := "java/lang/StringLatin1", name := "newString", desc := "([BII)Ljava/lang/String;" } : Jvm.MethodName)) ∈ lw_all := lw_g (lw_at lw_m3 197 rfl) rfl
theorem q799 : (Jvm.Cond.instanceMethod ({ cls := "java/lang/String", name := "<init>", desc := "([BB)V" } : Jvm.MethodName)) ∈ lw_all := lw_g (lw_at lw_m3 204 rfl) rfl
theorem q800 : (Jvm.Cond.code ({ cls := "java/lang/String", name := "<init>", desc := "([BB)V" } : Jvm.MethodName) prog_35_method_151_code (3 : Nat) (Option.none : Option Jvm.ClassFile.FieldType)) ∈ lw_all := lw_g (lw_at lw_m3 205 rfl) rfl
theorem q801 : (Jvm.Cond.methodLink "java/lang/String" (689 : Nat) ({ cls := "java/lang/StringUTF16", name := "newString", desc := "([BII)Ljava/lang/String;" } : Jvm.MethodName)) ∈ lw_all := lw_g (lw_at lw_m3 206 rfl) rfl
theorem q916 : (Jvm.Cond.instanceMethod ({ cls := "java/lang/String", name := "indexOf", desc := "(I)I" } : Jvm.MethodName)) ∈ lw_all := lw_g (lw_at lw_m4 81 rfl) rfl
theorem q917 : (Jvm.Cond.selects "java/lang/String" ({ cls := "java/lang/String", name := "indexOf", desc := "(I)I" } : Jvm.MethodName) ({ cls := "java/lang/String", name := "indexOf", desc := "(I)I" } : Jvm.MethodName)) ∈ lw_all := lw_g (lw_at lw_m4 82 rfl) rfl
theorem q918 : (Jvm.Cond.code ({ cls := "java/lang/String", name := "indexOf", desc := "(I)I" } : Jvm.MethodName) prog_35_method_79_code (2 : Nat) (Option.some Jvm.ClassFile.FieldType.int)) ∈ lw_all := lw_g (lw_at lw_m4 83 rfl) rfl
theorem q919 : (Jvm.Cond.methodLink "java/lang/String" (633 : Nat) ({ cls := "java/lang/String", name := "indexOf", desc := "(II)I" } : Jvm.MethodName)) ∈ lw_all := lw_g (lw_at lw_m4 84 rfl) rfl
theorem q920 : (Jvm.Cond.instanceMethod ({ cls := "java/lang/String", name := "indexOf", desc := "(II)I" } : Jvm.MethodName)) ∈ lw_all := lw_g (lw_at lw_m4 85 rfl) rfl
theorem q921 : (Jvm.Cond.selects "java/lang/String" ({ cls := "java/lang/String", name := "indexOf", desc := "(II)I" } : Jvm.MethodName) ({ cls := "java/lang/String", name := "indexOf", desc := "(II)I" } : Jvm.MethodName)) ∈ lw_all := lw_g (lw_at lw_m4 86 rfl) rfl
theorem q922 : (Jvm.Cond.code ({ cls := "java/lang/String", name := "indexOf", desc := "(II)I" } : Jvm.MethodName) prog_35_method_80_code (3 : Nat) (Option.some Jvm.ClassFile.FieldType.int)) ∈ lw_all := lw_g (lw_at lw_m4 87 rfl) rfl
theorem q923 : (Jvm.Cond.methodLink "java/lang/String" (637 : Nat) ({ cls := "java/lang/StringLatin1", name := "indexOf", desc := "([BIII)I" } : Jvm.MethodName)) ∈ lw_all := lw_g (lw_at lw_m4 88 rfl) rfl
theorem q934 : (Jvm.Cond.methodLink "java/lang/String" (640 : Nat) ({ cls := "java/lang/StringUTF16", name := "indexOf", desc := "([BIII)I" } : Jvm.MethodName)) ∈ lw_all := lw_g (lw_at lw_m4 99 rfl) rfl
theorem q1014 : (Jvm.Cond.selects "java/lang/String" ({ cls := "java/lang/Object", name := "getClass", desc := "()Ljava/lang/Class;" } : Jvm.MethodName) ({ cls := "java/lang/Object", name := "getClass", desc := "()Ljava/lang/Class;" } : Jvm.MethodName)) ∈ lw_all := lw_g (lw_at lw_m4 179 rfl) rfl
theorem q1157 : (Jvm.Cond.selects "java/lang/String" ({ cls := "java/lang/Object", name := "hashCode", desc := "()I" } : Jvm.MethodName) ({ cls := "java/lang/String", name := "hashCode", desc := "()I" } : Jvm.MethodName)) ∈ lw_all := lw_g (lw_at lw_m5 82 rfl) rfl
theorem q1158 : (Jvm.Cond.instanceMethod ({ cls := "java/lang/String", name := "hashCode", desc := "()I" } : Jvm.MethodName)) ∈ lw_all := lw_g (lw_at lw_m5 83 rfl) rfl
theorem q1159 : (Jvm.Cond.code ({ cls := "java/lang/String", name := "hashCode", desc := "()I" } : Jvm.MethodName) prog_35_method_78_code (2 : Nat) (Option.some Jvm.ClassFile.FieldType.int)) ∈ lw_all := lw_g (lw_at lw_m5 84 rfl) rfl
theorem q1160 : (Jvm.Cond.methodLink "java/lang/String" (628 : Nat) ({ cls := "java/lang/StringLatin1", name := "hashCode", desc := "([B)I" } : Jvm.MethodName)) ∈ lw_all := lw_g (lw_at lw_m5 85 rfl) rfl
theorem q1209 : (Jvm.Cond.methodLink "java/lang/String" (632 : Nat) ({ cls := "java/lang/StringUTF16", name := "hashCode", desc := "([B)I" } : Jvm.MethodName)) ∈ lw_all := lw_g (lw_at lw_m5 134 rfl) rfl
theorem q1250 : (Jvm.Cond.selects "java/lang/String" ({ cls := "java/lang/Object", name := "equals", desc := "(Ljava/lang/Object;)Z" } : Jvm.MethodName) ({ cls := "java/lang/String", name := "equals", desc := "(Ljava/lang/Object;)Z" } : Jvm.MethodName)) ∈ lw_all := lw_g (lw_at lw_m5 175 rfl) rfl
theorem q1251 : (Jvm.Cond.instanceMethod ({ cls := "java/lang/String", name := "equals", desc := "(Ljava/lang/Object;)Z" } : Jvm.MethodName)) ∈ lw_all := lw_g (lw_at lw_m5 176 rfl) rfl
theorem q1252 : (Jvm.Cond.code ({ cls := "java/lang/String", name := "equals", desc := "(Ljava/lang/Object;)Z" } : Jvm.MethodName) prog_35_method_66_code (3 : Nat) (Option.some Jvm.ClassFile.FieldType.boolean)) ∈ lw_all := lw_g (lw_at lw_m5 177 rfl) rfl
theorem q1253 : (Jvm.Cond.classLink "java/lang/String" (10 : Nat) "java/lang/String") ∈ lw_all := lw_g (lw_at lw_m5 178 rfl) rfl
theorem q1254 : (Jvm.Cond.methodLink "java/lang/String" (541 : Nat) ({ cls := "java/lang/StringLatin1", name := "equals", desc := "([B[B)Z" } : Jvm.MethodName)) ∈ lw_all := lw_g (lw_at lw_m5 179 rfl) rfl
theorem q1319 : (Jvm.Cond.castable "java/lang/String" "java/lang/Comparable") ∈ lw_tbl := lw_at lw_m6 4 rfl
theorem q1320 : (Jvm.Cond.selects "java/lang/String" ({ cls := "java/lang/Comparable", name := "compareTo", desc := "(Ljava/lang/Object;)I" } : Jvm.MethodName) ({ cls := "java/lang/String", name := "compareTo", desc := "(Ljava/lang/Object;)I" } : Jvm.MethodName)) ∈ lw_all := lw_g (lw_at lw_m6 5 rfl) rfl
theorem q1321 : (Jvm.Cond.unhidden "java/lang/String" "compareTo" "(Ljava/lang/Object;)I") ∈ lw_tbl := lw_at lw_m6 6 rfl
theorem q1322 : (Jvm.Cond.instanceMethod ({ cls := "java/lang/String", name := "compareTo", desc := "(Ljava/lang/Object;)I" } : Jvm.MethodName)) ∈ lw_all := lw_g (lw_at lw_m6 7 rfl) rfl
theorem q1323 : (Jvm.Cond.publicMethod ({ cls := "java/lang/String", name := "compareTo", desc := "(Ljava/lang/Object;)I" } : Jvm.MethodName)) ∈ lw_tbl := lw_at lw_m6 8 rfl
theorem q1324 : (Jvm.Cond.code ({ cls := "java/lang/String", name := "compareTo", desc := "(Ljava/lang/Object;)I" } : Jvm.MethodName) prog_35_method_162_code (2 : Nat) (Option.some Jvm.ClassFile.FieldType.int)) ∈ lw_all := lw_g (lw_at lw_m6 9 rfl) rfl
theorem q1325 : (Jvm.Cond.methodLink "java/lang/String" (1084 : Nat) ({ cls := "java/lang/String", name := "compareTo", desc := "(Ljava/lang/String;)I" } : Jvm.MethodName)) ∈ lw_all := lw_g (lw_at lw_m6 10 rfl) rfl
theorem q1326 : (Jvm.Cond.instanceMethod ({ cls := "java/lang/String", name := "compareTo", desc := "(Ljava/lang/String;)I" } : Jvm.MethodName)) ∈ lw_all := lw_g (lw_at lw_m6 11 rfl) rfl
theorem q1327 : (Jvm.Cond.selects "java/lang/String" ({ cls := "java/lang/String", name := "compareTo", desc := "(Ljava/lang/String;)I" } : Jvm.MethodName) ({ cls := "java/lang/String", name := "compareTo", desc := "(Ljava/lang/String;)I" } : Jvm.MethodName)) ∈ lw_all := lw_g (lw_at lw_m6 12 rfl) rfl
theorem q1328 : (Jvm.Cond.code ({ cls := "java/lang/String", name := "compareTo", desc := "(Ljava/lang/String;)I" } : Jvm.MethodName) prog_35_method_71_code (5 : Nat) (Option.some Jvm.ClassFile.FieldType.int)) ∈ lw_all := lw_g (lw_at lw_m6 13 rfl) rfl
theorem q1329 : (Jvm.Cond.methodLink "java/lang/String" (586 : Nat) ({ cls := "java/lang/StringLatin1", name := "compareTo", desc := "([B[B)I" } : Jvm.MethodName)) ∈ lw_all := lw_g (lw_at lw_m6 14 rfl) rfl
theorem q1442 : (Jvm.Cond.methodLink "java/lang/String" (590 : Nat) ({ cls := "java/lang/StringUTF16", name := "compareTo", desc := "([B[B)I" } : Jvm.MethodName)) ∈ lw_all := lw_g (lw_at lw_m6 127 rfl) rfl
theorem q1448 : (Jvm.Cond.methodLink "java/lang/String" (591 : Nat) ({ cls := "java/lang/StringLatin1", name := "compareToUTF16", desc := "([B[B)I" } : Jvm.MethodName)) ∈ lw_all := lw_g (lw_at lw_m6 133 rfl) rfl
theorem q1459 : (Jvm.Cond.methodLink "java/lang/String" (594 : Nat) ({ cls := "java/lang/StringUTF16", name := "compareToLatin1", desc := "([B[B)I" } : Jvm.MethodName)) ∈ lw_all := lw_g (lw_at lw_m6 144 rfl) rfl
theorem q1485 : (Jvm.Cond.static ({ cls := "java/lang/String", name := "checkOffset", desc := "(II)V" } : Jvm.MethodName)) ∈ lw_all := lw_g (lw_at lw_m6 170 rfl) rfl
theorem q1486 : (Jvm.Cond.code ({ cls := "java/lang/String", name := "checkOffset", desc := "(II)V" } : Jvm.MethodName) prog_35_method_156_code (2 : Nat) (Option.none : Option Jvm.ClassFile.FieldType)) ∈ lw_all := lw_g (lw_at lw_m6 171 rfl) rfl
theorem q2782 : (Jvm.Cond.selects "java/lang/String" ({ cls := "java/lang/String", name := "equals", desc := "(Ljava/lang/Object;)Z" } : Jvm.MethodName) ({ cls := "java/lang/String", name := "equals", desc := "(Ljava/lang/Object;)Z" } : Jvm.MethodName)) ∈ lw_all := lw_g (lw_at lw_m12 27 rfl) rfl
theorem q2791 : (Jvm.Cond.castable "java/lang/String" "java/lang/Object") ∈ lw_tbl := lw_at lw_m12 36 rfl
theorem in_J13 : ∀ w ∈ wsJ130, w ∈ lw_all := lw_in wsJ130 [752, 754, 756, 758] (by decide +kernel) (by decide +kernel)
