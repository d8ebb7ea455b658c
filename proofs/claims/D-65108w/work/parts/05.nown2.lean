/-! ProbeConsole$Machine -/
set_option maxRecDepth 100000
def RX3 : String := "ProbeConsole$Machine"
def TX3 : u_T := fun k => match k with
  | 0 => ("ProbeConsole$Machine", "methods", "Ljava/util/Map;", true)
  | 1 => ("ProbeConsole$Machine", "all", "Ljava/util/List;", true)
  | 2 => ("ProbeConsole$Machine", "jobs", "Ljava/util/TreeMap;", true)
  | 3 => ("ProbeConsole$Machine", "records", "Ljava/util/List;", true)
  | 4 => ("ProbeConsole$Machine", "kept", "Ljava/util/List;", true)
  | 5 => ("ProbeConsole$Machine", "thrown", "Z", false)
  | 6 => ("ProbeConsole$Machine", "ended", "Z", false)
  | 7 => ("ProbeConsole$Machine", "invoked", "I", false)
  | 8 => ("ProbeConsole$Machine", "blind", "Z", false)
  | _ => ("ProbeConsole$Machine", "frames", "[LProbeConsole$Frame;", true)
def tyX3 : Nat → FieldType := fun k => match k with
  | 0 => .object "java/util/Map"
  | 1 => .object "java/util/List"
  | 2 => .object "java/util/TreeMap"
  | 3 => .object "java/util/List"
  | 4 => .object "java/util/List"
  | 5 => .boolean
  | 6 => .boolean
  | 7 => .int
  | 8 => .boolean
  | _ => .array (.object "ProbeConsole$Frame")
abbrev wsX30 : List Cond := u_ws RX3 TX3 10
theorem nmX3 : ∀ a, a < 10 → ∀ b, b < 10 → a ≠ b → (TX3 a).2.1 ≠ (TX3 b).2.1 := by decide +kernel
theorem tyX3_ok : ∀ k, k < 10 → parseFieldDescriptor (TX3 k).2.2.1 = some (tyX3 k) := by decide +kernel
abbrev cX3_init : ByteArray := prog_6_method_1_code
def yX3_init : MethodName := ⟨RX3, "<init>", "()V"⟩
def dkwX3_init_4 : List UInt8 := [132, 1, 1, 167, 255, 231, 177]
abbrev dktX3_init_4 : List UInt8 := dkwX3_init_4 ++ []
def dkwX3_init_3 : List UInt8 := [60, 27, 42, 180, 0, 40, 190, 162, 0, 22, 42, 180, 0, 40, 27, 187, 0, 38, 89, 183, 0, 44, 83]
abbrev dktX3_init_3 : List UInt8 := dkwX3_init_3 ++ dktX3_init_4
def dkwX3_init_2 : List UInt8 := [181, 0, 32, 42, 187, 0, 18, 89, 183, 0, 20, 181, 0, 35, 42, 16, 11, 189, 0, 38, 181, 0, 40, 3]
abbrev dktX3_init_2 : List UInt8 := dkwX3_init_2 ++ dktX3_init_3
def dkwX3_init_1 : List UInt8 := [181, 0, 21, 42, 187, 0, 25, 89, 183, 0, 27, 181, 0, 28, 42, 187, 0, 18, 89, 183, 0, 20]
abbrev dktX3_init_1 : List UInt8 := dkwX3_init_1 ++ dktX3_init_2
def dkwX3_init_0 : List UInt8 := [42, 183, 0, 3, 42, 187, 0, 9, 89, 183, 0, 11, 181, 0, 12, 42, 187, 0, 18, 89, 183, 0, 20]
abbrev dktX3_init_0 : List UInt8 := dkwX3_init_0 ++ dktX3_init_1
theorem dksX3_init_0 : cX3_init.data.toList.drop 0 = dktX3_init_0 := by decide +kernel
theorem dksX3_init_1 : cX3_init.data.toList.drop 23 = dktX3_init_1 := dk_seg dksX3_init_0 23 rfl rfl
theorem dksX3_init_2 : cX3_init.data.toList.drop 45 = dktX3_init_2 := dk_seg dksX3_init_1 22 rfl rfl
theorem dksX3_init_3 : cX3_init.data.toList.drop 69 = dktX3_init_3 := dk_seg dksX3_init_2 24 rfl rfl
theorem dksX3_init_4 : cX3_init.data.toList.drop 92 = dktX3_init_4 := dk_seg dksX3_init_3 23 rfl rfl
theorem dX3_init_0 : decode cX3_init 0 = .ok (.aload_n 0, 1) := dk_42 (dk_at dksX3_init_0 0 rfl rfl)
theorem dX3_init_1 : decode cX3_init 1 = .ok (.invokespecial 3, 3) := dk_183 0 3 (dk_at dksX3_init_0 1 rfl rfl)
theorem dX3_init_4 : decode cX3_init 4 = .ok (.aload_n 0, 1) := dk_42 (dk_at dksX3_init_0 4 rfl rfl)
theorem dX3_init_5 : decode cX3_init 5 = .ok (.new 9, 3) := dk_187 0 9 (dk_at dksX3_init_0 5 rfl rfl)
theorem dX3_init_8 : decode cX3_init 8 = .ok (.dup, 1) := dk_89 (dk_at dksX3_init_0 8 rfl rfl)
theorem dX3_init_9 : decode cX3_init 9 = .ok (.invokespecial 11, 3) := dk_183 0 11 (dk_at dksX3_init_0 9 rfl rfl)
theorem dX3_init_12 : decode cX3_init 12 = .ok (.putfield 12, 3) := dk_181 0 12 (dk_at dksX3_init_0 12 rfl rfl)
theorem dX3_init_15 : decode cX3_init 15 = .ok (.aload_n 0, 1) := dk_42 (dk_at dksX3_init_0 15 rfl rfl)
theorem dX3_init_16 : decode cX3_init 16 = .ok (.new 18, 3) := dk_187 0 18 (dk_at dksX3_init_0 16 rfl rfl)
theorem dX3_init_19 : decode cX3_init 19 = .ok (.dup, 1) := dk_89 (dk_at dksX3_init_0 19 rfl rfl)
theorem dX3_init_20 : decode cX3_init 20 = .ok (.invokespecial 20, 3) := dk_183 0 20 (dk_at dksX3_init_0 20 rfl rfl)
theorem dX3_init_23 : decode cX3_init 23 = .ok (.putfield 21, 3) := dk_181 0 21 (dk_at dksX3_init_1 0 rfl rfl)
theorem dX3_init_26 : decode cX3_init 26 = .ok (.aload_n 0, 1) := dk_42 (dk_at dksX3_init_1 3 rfl rfl)
theorem dX3_init_27 : decode cX3_init 27 = .ok (.new 25, 3) := dk_187 0 25 (dk_at dksX3_init_1 4 rfl rfl)
theorem dX3_init_30 : decode cX3_init 30 = .ok (.dup, 1) := dk_89 (dk_at dksX3_init_1 7 rfl rfl)
theorem dX3_init_31 : decode cX3_init 31 = .ok (.invokespecial 27, 3) := dk_183 0 27 (dk_at dksX3_init_1 8 rfl rfl)
theorem dX3_init_34 : decode cX3_init 34 = .ok (.putfield 28, 3) := dk_181 0 28 (dk_at dksX3_init_1 11 rfl rfl)
theorem dX3_init_37 : decode cX3_init 37 = .ok (.aload_n 0, 1) := dk_42 (dk_at dksX3_init_1 14 rfl rfl)
theorem dX3_init_38 : decode cX3_init 38 = .ok (.new 18, 3) := dk_187 0 18 (dk_at dksX3_init_1 15 rfl rfl)
theorem dX3_init_41 : decode cX3_init 41 = .ok (.dup, 1) := dk_89 (dk_at dksX3_init_1 18 rfl rfl)
theorem dX3_init_42 : decode cX3_init 42 = .ok (.invokespecial 20, 3) := dk_183 0 20 (dk_at dksX3_init_1 19 rfl rfl)
theorem dX3_init_45 : decode cX3_init 45 = .ok (.putfield 32, 3) := dk_181 0 32 (dk_at dksX3_init_2 0 rfl rfl)
theorem dX3_init_48 : decode cX3_init 48 = .ok (.aload_n 0, 1) := dk_42 (dk_at dksX3_init_2 3 rfl rfl)
theorem dX3_init_49 : decode cX3_init 49 = .ok (.new 18, 3) := dk_187 0 18 (dk_at dksX3_init_2 4 rfl rfl)
theorem dX3_init_52 : decode cX3_init 52 = .ok (.dup, 1) := dk_89 (dk_at dksX3_init_2 7 rfl rfl)
theorem dX3_init_53 : decode cX3_init 53 = .ok (.invokespecial 20, 3) := dk_183 0 20 (dk_at dksX3_init_2 8 rfl rfl)
theorem dX3_init_56 : decode cX3_init 56 = .ok (.putfield 35, 3) := dk_181 0 35 (dk_at dksX3_init_2 11 rfl rfl)
theorem dX3_init_59 : decode cX3_init 59 = .ok (.aload_n 0, 1) := dk_42 (dk_at dksX3_init_2 14 rfl rfl)
theorem dX3_init_60 : decode cX3_init 60 = .ok (.bipush 11, 2) := dk_16 11 (dk_at dksX3_init_2 15 rfl rfl)
theorem dX3_init_62 : decode cX3_init 62 = .ok (.anewarray 38, 3) := dk_189 0 38 (dk_at dksX3_init_2 17 rfl rfl)
theorem dX3_init_65 : decode cX3_init 65 = .ok (.putfield 40, 3) := dk_181 0 40 (dk_at dksX3_init_2 20 rfl rfl)
theorem dX3_init_68 : decode cX3_init 68 = .ok (.iconst 0, 1) := dk_3 (dk_at dksX3_init_2 23 rfl rfl)
theorem dX3_init_69 : decode cX3_init 69 = .ok (.istore_n 1, 1) := dk_60 (dk_at dksX3_init_3 0 rfl rfl)
theorem dX3_init_70 : decode cX3_init 70 = .ok (.iload_n 1, 1) := dk_27 (dk_at dksX3_init_3 1 rfl rfl)
theorem dX3_init_71 : decode cX3_init 71 = .ok (.aload_n 0, 1) := dk_42 (dk_at dksX3_init_3 2 rfl rfl)
theorem dX3_init_72 : decode cX3_init 72 = .ok (.getfield 40, 3) := dk_180 0 40 (dk_at dksX3_init_3 3 rfl rfl)
theorem dX3_init_75 : decode cX3_init 75 = .ok (.arraylength, 1) := dk_190 (dk_at dksX3_init_3 6 rfl rfl)
theorem dX3_init_76 : decode cX3_init 76 = .ok (.if_icmp .ge 22, 3) := dk_162 0 22 (dk_at dksX3_init_3 7 rfl rfl)
theorem dX3_init_79 : decode cX3_init 79 = .ok (.aload_n 0, 1) := dk_42 (dk_at dksX3_init_3 10 rfl rfl)
theorem dX3_init_80 : decode cX3_init 80 = .ok (.getfield 40, 3) := dk_180 0 40 (dk_at dksX3_init_3 11 rfl rfl)
theorem dX3_init_83 : decode cX3_init 83 = .ok (.iload_n 1, 1) := dk_27 (dk_at dksX3_init_3 14 rfl rfl)
theorem dX3_init_84 : decode cX3_init 84 = .ok (.new 38, 3) := dk_187 0 38 (dk_at dksX3_init_3 15 rfl rfl)
theorem dX3_init_87 : decode cX3_init 87 = .ok (.dup, 1) := dk_89 (dk_at dksX3_init_3 18 rfl rfl)
theorem dX3_init_88 : decode cX3_init 88 = .ok (.invokespecial 44, 3) := dk_183 0 44 (dk_at dksX3_init_3 19 rfl rfl)
theorem dX3_init_91 : decode cX3_init 91 = .ok (.aastore, 1) := dk_83 (dk_at dksX3_init_3 22 rfl rfl)
theorem dX3_init_92 : decode cX3_init 92 = .ok (.iinc 1 1, 3) := dk_132 1 1 (dk_at dksX3_init_4 0 rfl rfl)
theorem dX3_init_95 : decode cX3_init 95 = .ok (.goto (-25), 3) := dk_167 255 231 (dk_at dksX3_init_4 3 rfl rfl)
theorem dX3_init_98 : decode cX3_init 98 = .ok (.return_, 1) := dk_177 (dk_at dksX3_init_4 6 rfl rfl)
abbrev cX3_key : ByteArray := prog_6_method_2_code
def yX3_key : MethodName := ⟨RX3, "key", "(Ljava/lang/String;I)Ljava/lang/String;"⟩
def dkwX3_key_0 : List UInt8 := [187, 0, 45, 89, 183, 0, 47, 42, 182, 0, 48, 27, 182, 0, 52, 182, 0, 55, 176]
abbrev dktX3_key_0 : List UInt8 := dkwX3_key_0 ++ []
theorem dksX3_key_0 : cX3_key.data.toList.drop 0 = dktX3_key_0 := by decide +kernel
theorem dX3_key_0 : decode cX3_key 0 = .ok (.new 45, 3) := dk_187 0 45 (dk_at dksX3_key_0 0 rfl rfl)
theorem dX3_key_3 : decode cX3_key 3 = .ok (.dup, 1) := dk_89 (dk_at dksX3_key_0 3 rfl rfl)
theorem dX3_key_4 : decode cX3_key 4 = .ok (.invokespecial 47, 3) := dk_183 0 47 (dk_at dksX3_key_0 4 rfl rfl)
theorem dX3_key_7 : decode cX3_key 7 = .ok (.aload_n 0, 1) := dk_42 (dk_at dksX3_key_0 7 rfl rfl)
theorem dX3_key_8 : decode cX3_key 8 = .ok (.invokevirtual 48, 3) := dk_182 0 48 (dk_at dksX3_key_0 8 rfl rfl)
theorem dX3_key_11 : decode cX3_key 11 = .ok (.iload_n 1, 1) := dk_27 (dk_at dksX3_key_0 11 rfl rfl)
theorem dX3_key_12 : decode cX3_key 12 = .ok (.invokevirtual 52, 3) := dk_182 0 52 (dk_at dksX3_key_0 12 rfl rfl)
theorem dX3_key_15 : decode cX3_key 15 = .ok (.invokevirtual 55, 3) := dk_182 0 55 (dk_at dksX3_key_0 15 rfl rfl)
theorem dX3_key_18 : decode cX3_key 18 = .ok (.areturn, 1) := dk_176 (dk_at dksX3_key_0 18 rfl rfl)
abbrev cX3_begin : ByteArray := prog_6_method_14_code
def yX3_begin : MethodName := ⟨RX3, "begin", "(LProbeConsole$Method;IIIZ)I"⟩
def dkwX3_begin_2 : List UInt8 := [43, 180, 0, 71, 5, 164, 0, 8, 21, 4, 167, 0, 4, 3, 4, 182, 0, 126, 172]
abbrev dktX3_begin_2 : List UInt8 := dkwX3_begin_2 ++ []
def dkwX3_begin_1 : List UInt8 := [180, 0, 71, 158, 0, 7, 28, 167, 0, 4, 3, 43, 180, 0, 71, 4, 164, 0, 7, 29, 167, 0, 4, 3]
abbrev dktX3_begin_1 : List UInt8 := dkwX3_begin_1 ++ dktX3_begin_2
def dkwX3_begin_0 : List UInt8 := [42, 3, 181, 0, 85, 42, 3, 181, 0, 118, 42, 3, 181, 0, 214, 42, 21, 5, 181, 0, 184, 42, 43, 43]
abbrev dktX3_begin_0 : List UInt8 := dkwX3_begin_0 ++ dktX3_begin_1
theorem dksX3_begin_0 : cX3_begin.data.toList.drop 0 = dktX3_begin_0 := by decide +kernel
theorem dksX3_begin_1 : cX3_begin.data.toList.drop 24 = dktX3_begin_1 := dk_seg dksX3_begin_0 24 rfl rfl
theorem dksX3_begin_2 : cX3_begin.data.toList.drop 48 = dktX3_begin_2 := dk_seg dksX3_begin_1 24 rfl rfl
theorem dX3_begin_0 : decode cX3_begin 0 = .ok (.aload_n 0, 1) := dk_42 (dk_at dksX3_begin_0 0 rfl rfl)
theorem dX3_begin_1 : decode cX3_begin 1 = .ok (.iconst 0, 1) := dk_3 (dk_at dksX3_begin_0 1 rfl rfl)
theorem dX3_begin_2 : decode cX3_begin 2 = .ok (.putfield 85, 3) := dk_181 0 85 (dk_at dksX3_begin_0 2 rfl rfl)
theorem dX3_begin_5 : decode cX3_begin 5 = .ok (.aload_n 0, 1) := dk_42 (dk_at dksX3_begin_0 5 rfl rfl)
theorem dX3_begin_6 : decode cX3_begin 6 = .ok (.iconst 0, 1) := dk_3 (dk_at dksX3_begin_0 6 rfl rfl)
theorem dX3_begin_7 : decode cX3_begin 7 = .ok (.putfield 118, 3) := dk_181 0 118 (dk_at dksX3_begin_0 7 rfl rfl)
theorem dX3_begin_10 : decode cX3_begin 10 = .ok (.aload_n 0, 1) := dk_42 (dk_at dksX3_begin_0 10 rfl rfl)
theorem dX3_begin_11 : decode cX3_begin 11 = .ok (.iconst 0, 1) := dk_3 (dk_at dksX3_begin_0 11 rfl rfl)
theorem dX3_begin_12 : decode cX3_begin 12 = .ok (.putfield 214, 3) := dk_181 0 214 (dk_at dksX3_begin_0 12 rfl rfl)
theorem dX3_begin_15 : decode cX3_begin 15 = .ok (.aload_n 0, 1) := dk_42 (dk_at dksX3_begin_0 15 rfl rfl)
theorem dX3_begin_16 : decode cX3_begin 16 = .ok (.iload 5, 2) := dk_21 5 (dk_at dksX3_begin_0 16 rfl rfl)
theorem dX3_begin_18 : decode cX3_begin 18 = .ok (.putfield 184, 3) := dk_181 0 184 (dk_at dksX3_begin_0 18 rfl rfl)
theorem dX3_begin_21 : decode cX3_begin 21 = .ok (.aload_n 0, 1) := dk_42 (dk_at dksX3_begin_0 21 rfl rfl)
theorem dX3_begin_22 : decode cX3_begin 22 = .ok (.aload_n 1, 1) := dk_43 (dk_at dksX3_begin_0 22 rfl rfl)
theorem dX3_begin_23 : decode cX3_begin 23 = .ok (.aload_n 1, 1) := dk_43 (dk_at dksX3_begin_0 23 rfl rfl)
theorem dX3_begin_24 : decode cX3_begin 24 = .ok (.getfield 71, 3) := dk_180 0 71 (dk_at dksX3_begin_1 0 rfl rfl)
theorem dX3_begin_27 : decode cX3_begin 27 = .ok (.ifCond .le 7, 3) := dk_158 0 7 (dk_at dksX3_begin_1 3 rfl rfl)
theorem dX3_begin_30 : decode cX3_begin 30 = .ok (.iload_n 2, 1) := dk_28 (dk_at dksX3_begin_1 6 rfl rfl)
theorem dX3_begin_31 : decode cX3_begin 31 = .ok (.goto 4, 3) := dk_167 0 4 (dk_at dksX3_begin_1 7 rfl rfl)
theorem dX3_begin_34 : decode cX3_begin 34 = .ok (.iconst 0, 1) := dk_3 (dk_at dksX3_begin_1 10 rfl rfl)
theorem dX3_begin_35 : decode cX3_begin 35 = .ok (.aload_n 1, 1) := dk_43 (dk_at dksX3_begin_1 11 rfl rfl)
theorem dX3_begin_36 : decode cX3_begin 36 = .ok (.getfield 71, 3) := dk_180 0 71 (dk_at dksX3_begin_1 12 rfl rfl)
theorem dX3_begin_39 : decode cX3_begin 39 = .ok (.iconst 1, 1) := dk_4 (dk_at dksX3_begin_1 15 rfl rfl)
theorem dX3_begin_40 : decode cX3_begin 40 = .ok (.if_icmp .le 7, 3) := dk_164 0 7 (dk_at dksX3_begin_1 16 rfl rfl)
theorem dX3_begin_43 : decode cX3_begin 43 = .ok (.iload_n 3, 1) := dk_29 (dk_at dksX3_begin_1 19 rfl rfl)
theorem dX3_begin_44 : decode cX3_begin 44 = .ok (.goto 4, 3) := dk_167 0 4 (dk_at dksX3_begin_1 20 rfl rfl)
theorem dX3_begin_47 : decode cX3_begin 47 = .ok (.iconst 0, 1) := dk_3 (dk_at dksX3_begin_1 23 rfl rfl)
theorem dX3_begin_48 : decode cX3_begin 48 = .ok (.aload_n 1, 1) := dk_43 (dk_at dksX3_begin_2 0 rfl rfl)
theorem dX3_begin_49 : decode cX3_begin 49 = .ok (.getfield 71, 3) := dk_180 0 71 (dk_at dksX3_begin_2 1 rfl rfl)
theorem dX3_begin_52 : decode cX3_begin 52 = .ok (.iconst 2, 1) := dk_5 (dk_at dksX3_begin_2 4 rfl rfl)
theorem dX3_begin_53 : decode cX3_begin 53 = .ok (.if_icmp .le 8, 3) := dk_164 0 8 (dk_at dksX3_begin_2 5 rfl rfl)
theorem dX3_begin_56 : decode cX3_begin 56 = .ok (.iload 4, 2) := dk_21 4 (dk_at dksX3_begin_2 8 rfl rfl)
theorem dX3_begin_58 : decode cX3_begin 58 = .ok (.goto 4, 3) := dk_167 0 4 (dk_at dksX3_begin_2 10 rfl rfl)
theorem dX3_begin_61 : decode cX3_begin 61 = .ok (.iconst 0, 1) := dk_3 (dk_at dksX3_begin_2 13 rfl rfl)
theorem dX3_begin_62 : decode cX3_begin 62 = .ok (.iconst 1, 1) := dk_4 (dk_at dksX3_begin_2 14 rfl rfl)
theorem dX3_begin_63 : decode cX3_begin 63 = .ok (.invokevirtual 126, 3) := dk_182 0 126 (dk_at dksX3_begin_2 15 rfl rfl)
theorem dX3_begin_66 : decode cX3_begin 66 = .ok (.ireturn, 1) := dk_172 (dk_at dksX3_begin_2 18 rfl rfl)
abbrev cX3_invoke : ByteArray := prog_6_method_13_code
def yX3_invoke : MethodName := ⟨RX3, "invoke", "(LProbeConsole$Method;IIII)I"⟩
def dkwX3_invoke_5 : List UInt8 := [153, 0, 7, 5, 167, 0, 4, 4, 21, 7, 182, 0, 217, 21, 7, 172]
abbrev dktX3_invoke_5 : List UInt8 := dkwX3_invoke_5 ++ []
def dkwX3_invoke_4 : List UInt8 := [180, 0, 221, 25, 6, 21, 5, 182, 0, 104, 54, 7, 42, 43, 25, 6, 21, 5, 42, 180, 0, 85]
abbrev dktX3_invoke_4 : List UInt8 := dkwX3_invoke_4 ++ dktX3_invoke_5
def dkwX3_invoke_3 : List UInt8 := [25, 6, 180, 0, 132, 5, 21, 4, 79, 42, 43, 25, 6, 21, 5, 3, 3, 182, 0, 217, 42, 43]
abbrev dktX3_invoke_3 : List UInt8 := dkwX3_invoke_3 ++ dktX3_invoke_4
def dkwX3_invoke_2 : List UInt8 := [180, 0, 40, 21, 5, 50, 58, 6, 25, 6, 180, 0, 132, 3, 28, 79, 25, 6, 180, 0, 132, 4, 29, 79]
abbrev dktX3_invoke_2 : List UInt8 := dkwX3_invoke_2 ++ dktX3_invoke_3
def dkwX3_invoke_1 : List UInt8 := [42, 4, 181, 0, 118, 42, 16, 253, 182, 0, 89, 172, 42, 89, 180, 0, 214, 4, 96, 181, 0, 214, 42]
abbrev dktX3_invoke_1 : List UInt8 := dkwX3_invoke_1 ++ dktX3_invoke_2
def dkwX3_invoke_0 : List UInt8 := [21, 5, 16, 10, 164, 0, 10, 42, 16, 254, 182, 0, 89, 172, 42, 180, 0, 214, 17, 3, 232, 160, 0, 15]
abbrev dktX3_invoke_0 : List UInt8 := dkwX3_invoke_0 ++ dktX3_invoke_1
theorem dksX3_invoke_0 : cX3_invoke.data.toList.drop 0 = dktX3_invoke_0 := by decide +kernel
theorem dksX3_invoke_1 : cX3_invoke.data.toList.drop 24 = dktX3_invoke_1 := dk_seg dksX3_invoke_0 24 rfl rfl
theorem dksX3_invoke_2 : cX3_invoke.data.toList.drop 47 = dktX3_invoke_2 := dk_seg dksX3_invoke_1 23 rfl rfl
theorem dksX3_invoke_3 : cX3_invoke.data.toList.drop 71 = dktX3_invoke_3 := dk_seg dksX3_invoke_2 24 rfl rfl
theorem dksX3_invoke_4 : cX3_invoke.data.toList.drop 93 = dktX3_invoke_4 := dk_seg dksX3_invoke_3 22 rfl rfl
theorem dksX3_invoke_5 : cX3_invoke.data.toList.drop 115 = dktX3_invoke_5 := dk_seg dksX3_invoke_4 22 rfl rfl
theorem dX3_invoke_0 : decode cX3_invoke 0 = .ok (.iload 5, 2) := dk_21 5 (dk_at dksX3_invoke_0 0 rfl rfl)
theorem dX3_invoke_2 : decode cX3_invoke 2 = .ok (.bipush 10, 2) := dk_16 10 (dk_at dksX3_invoke_0 2 rfl rfl)
theorem dX3_invoke_4 : decode cX3_invoke 4 = .ok (.if_icmp .le 10, 3) := dk_164 0 10 (dk_at dksX3_invoke_0 4 rfl rfl)
theorem dX3_invoke_7 : decode cX3_invoke 7 = .ok (.aload_n 0, 1) := dk_42 (dk_at dksX3_invoke_0 7 rfl rfl)
theorem dX3_invoke_8 : decode cX3_invoke 8 = .ok (.bipush (-2), 2) := dk_16 254 (dk_at dksX3_invoke_0 8 rfl rfl)
theorem dX3_invoke_10 : decode cX3_invoke 10 = .ok (.invokevirtual 89, 3) := dk_182 0 89 (dk_at dksX3_invoke_0 10 rfl rfl)
theorem dX3_invoke_13 : decode cX3_invoke 13 = .ok (.ireturn, 1) := dk_172 (dk_at dksX3_invoke_0 13 rfl rfl)
theorem dX3_invoke_14 : decode cX3_invoke 14 = .ok (.aload_n 0, 1) := dk_42 (dk_at dksX3_invoke_0 14 rfl rfl)
theorem dX3_invoke_15 : decode cX3_invoke 15 = .ok (.getfield 214, 3) := dk_180 0 214 (dk_at dksX3_invoke_0 15 rfl rfl)
theorem dX3_invoke_18 : decode cX3_invoke 18 = .ok (.sipush 1000, 3) := dk_17 3 232 (dk_at dksX3_invoke_0 18 rfl rfl)
theorem dX3_invoke_21 : decode cX3_invoke 21 = .ok (.if_icmp .ne 15, 3) := dk_160 0 15 (dk_at dksX3_invoke_0 21 rfl rfl)
theorem dX3_invoke_24 : decode cX3_invoke 24 = .ok (.aload_n 0, 1) := dk_42 (dk_at dksX3_invoke_1 0 rfl rfl)
theorem dX3_invoke_25 : decode cX3_invoke 25 = .ok (.iconst 1, 1) := dk_4 (dk_at dksX3_invoke_1 1 rfl rfl)
theorem dX3_invoke_26 : decode cX3_invoke 26 = .ok (.putfield 118, 3) := dk_181 0 118 (dk_at dksX3_invoke_1 2 rfl rfl)
theorem dX3_invoke_29 : decode cX3_invoke 29 = .ok (.aload_n 0, 1) := dk_42 (dk_at dksX3_invoke_1 5 rfl rfl)
theorem dX3_invoke_30 : decode cX3_invoke 30 = .ok (.bipush (-3), 2) := dk_16 253 (dk_at dksX3_invoke_1 6 rfl rfl)
theorem dX3_invoke_32 : decode cX3_invoke 32 = .ok (.invokevirtual 89, 3) := dk_182 0 89 (dk_at dksX3_invoke_1 8 rfl rfl)
theorem dX3_invoke_35 : decode cX3_invoke 35 = .ok (.ireturn, 1) := dk_172 (dk_at dksX3_invoke_1 11 rfl rfl)
theorem dX3_invoke_36 : decode cX3_invoke 36 = .ok (.aload_n 0, 1) := dk_42 (dk_at dksX3_invoke_1 12 rfl rfl)
theorem dX3_invoke_37 : decode cX3_invoke 37 = .ok (.dup, 1) := dk_89 (dk_at dksX3_invoke_1 13 rfl rfl)
theorem dX3_invoke_38 : decode cX3_invoke 38 = .ok (.getfield 214, 3) := dk_180 0 214 (dk_at dksX3_invoke_1 14 rfl rfl)
theorem dX3_invoke_41 : decode cX3_invoke 41 = .ok (.iconst 1, 1) := dk_4 (dk_at dksX3_invoke_1 17 rfl rfl)
theorem dX3_invoke_42 : decode cX3_invoke 42 = .ok (.iadd, 1) := dk_96 (dk_at dksX3_invoke_1 18 rfl rfl)
theorem dX3_invoke_43 : decode cX3_invoke 43 = .ok (.putfield 214, 3) := dk_181 0 214 (dk_at dksX3_invoke_1 19 rfl rfl)
theorem dX3_invoke_46 : decode cX3_invoke 46 = .ok (.aload_n 0, 1) := dk_42 (dk_at dksX3_invoke_1 22 rfl rfl)
theorem dX3_invoke_47 : decode cX3_invoke 47 = .ok (.getfield 40, 3) := dk_180 0 40 (dk_at dksX3_invoke_2 0 rfl rfl)
theorem dX3_invoke_50 : decode cX3_invoke 50 = .ok (.iload 5, 2) := dk_21 5 (dk_at dksX3_invoke_2 3 rfl rfl)
theorem dX3_invoke_52 : decode cX3_invoke 52 = .ok (.aaload, 1) := dk_50 (dk_at dksX3_invoke_2 5 rfl rfl)
theorem dX3_invoke_53 : decode cX3_invoke 53 = .ok (.astore 6, 2) := dk_58 6 (dk_at dksX3_invoke_2 6 rfl rfl)
theorem dX3_invoke_55 : decode cX3_invoke 55 = .ok (.aload 6, 2) := dk_25 6 (dk_at dksX3_invoke_2 8 rfl rfl)
theorem dX3_invoke_57 : decode cX3_invoke 57 = .ok (.getfield 132, 3) := dk_180 0 132 (dk_at dksX3_invoke_2 10 rfl rfl)
theorem dX3_invoke_60 : decode cX3_invoke 60 = .ok (.iconst 0, 1) := dk_3 (dk_at dksX3_invoke_2 13 rfl rfl)
theorem dX3_invoke_61 : decode cX3_invoke 61 = .ok (.iload_n 2, 1) := dk_28 (dk_at dksX3_invoke_2 14 rfl rfl)
theorem dX3_invoke_62 : decode cX3_invoke 62 = .ok (.iastore, 1) := dk_79 (dk_at dksX3_invoke_2 15 rfl rfl)
theorem dX3_invoke_63 : decode cX3_invoke 63 = .ok (.aload 6, 2) := dk_25 6 (dk_at dksX3_invoke_2 16 rfl rfl)
theorem dX3_invoke_65 : decode cX3_invoke 65 = .ok (.getfield 132, 3) := dk_180 0 132 (dk_at dksX3_invoke_2 18 rfl rfl)
theorem dX3_invoke_68 : decode cX3_invoke 68 = .ok (.iconst 1, 1) := dk_4 (dk_at dksX3_invoke_2 21 rfl rfl)
theorem dX3_invoke_69 : decode cX3_invoke 69 = .ok (.iload_n 3, 1) := dk_29 (dk_at dksX3_invoke_2 22 rfl rfl)
theorem dX3_invoke_70 : decode cX3_invoke 70 = .ok (.iastore, 1) := dk_79 (dk_at dksX3_invoke_2 23 rfl rfl)
theorem dX3_invoke_71 : decode cX3_invoke 71 = .ok (.aload 6, 2) := dk_25 6 (dk_at dksX3_invoke_3 0 rfl rfl)
theorem dX3_invoke_73 : decode cX3_invoke 73 = .ok (.getfield 132, 3) := dk_180 0 132 (dk_at dksX3_invoke_3 2 rfl rfl)
theorem dX3_invoke_76 : decode cX3_invoke 76 = .ok (.iconst 2, 1) := dk_5 (dk_at dksX3_invoke_3 5 rfl rfl)
theorem dX3_invoke_77 : decode cX3_invoke 77 = .ok (.iload 4, 2) := dk_21 4 (dk_at dksX3_invoke_3 6 rfl rfl)
theorem dX3_invoke_79 : decode cX3_invoke 79 = .ok (.iastore, 1) := dk_79 (dk_at dksX3_invoke_3 8 rfl rfl)
theorem dX3_invoke_80 : decode cX3_invoke 80 = .ok (.aload_n 0, 1) := dk_42 (dk_at dksX3_invoke_3 9 rfl rfl)
theorem dX3_invoke_81 : decode cX3_invoke 81 = .ok (.aload_n 1, 1) := dk_43 (dk_at dksX3_invoke_3 10 rfl rfl)
theorem dX3_invoke_82 : decode cX3_invoke 82 = .ok (.aload 6, 2) := dk_25 6 (dk_at dksX3_invoke_3 11 rfl rfl)
theorem dX3_invoke_84 : decode cX3_invoke 84 = .ok (.iload 5, 2) := dk_21 5 (dk_at dksX3_invoke_3 13 rfl rfl)
theorem dX3_invoke_86 : decode cX3_invoke 86 = .ok (.iconst 0, 1) := dk_3 (dk_at dksX3_invoke_3 15 rfl rfl)
theorem dX3_invoke_87 : decode cX3_invoke 87 = .ok (.iconst 0, 1) := dk_3 (dk_at dksX3_invoke_3 16 rfl rfl)
theorem dX3_invoke_88 : decode cX3_invoke 88 = .ok (.invokevirtual 217, 3) := dk_182 0 217 (dk_at dksX3_invoke_3 17 rfl rfl)
theorem dX3_invoke_91 : decode cX3_invoke 91 = .ok (.aload_n 0, 1) := dk_42 (dk_at dksX3_invoke_3 20 rfl rfl)
theorem dX3_invoke_92 : decode cX3_invoke 92 = .ok (.aload_n 1, 1) := dk_43 (dk_at dksX3_invoke_3 21 rfl rfl)
theorem dX3_invoke_93 : decode cX3_invoke 93 = .ok (.getfield 221, 3) := dk_180 0 221 (dk_at dksX3_invoke_4 0 rfl rfl)
theorem dX3_invoke_96 : decode cX3_invoke 96 = .ok (.aload 6, 2) := dk_25 6 (dk_at dksX3_invoke_4 3 rfl rfl)
theorem dX3_invoke_98 : decode cX3_invoke 98 = .ok (.iload 5, 2) := dk_21 5 (dk_at dksX3_invoke_4 5 rfl rfl)
theorem dX3_invoke_100 : decode cX3_invoke 100 = .ok (.invokevirtual 104, 3) := dk_182 0 104 (dk_at dksX3_invoke_4 7 rfl rfl)
theorem dX3_invoke_103 : decode cX3_invoke 103 = .ok (.istore 7, 2) := dk_54 7 (dk_at dksX3_invoke_4 10 rfl rfl)
theorem dX3_invoke_105 : decode cX3_invoke 105 = .ok (.aload_n 0, 1) := dk_42 (dk_at dksX3_invoke_4 12 rfl rfl)
theorem dX3_invoke_106 : decode cX3_invoke 106 = .ok (.aload_n 1, 1) := dk_43 (dk_at dksX3_invoke_4 13 rfl rfl)
theorem dX3_invoke_107 : decode cX3_invoke 107 = .ok (.aload 6, 2) := dk_25 6 (dk_at dksX3_invoke_4 14 rfl rfl)
theorem dX3_invoke_109 : decode cX3_invoke 109 = .ok (.iload 5, 2) := dk_21 5 (dk_at dksX3_invoke_4 16 rfl rfl)
theorem dX3_invoke_111 : decode cX3_invoke 111 = .ok (.aload_n 0, 1) := dk_42 (dk_at dksX3_invoke_4 18 rfl rfl)
theorem dX3_invoke_112 : decode cX3_invoke 112 = .ok (.getfield 85, 3) := dk_180 0 85 (dk_at dksX3_invoke_4 19 rfl rfl)
theorem dX3_invoke_115 : decode cX3_invoke 115 = .ok (.ifCond .eq 7, 3) := dk_153 0 7 (dk_at dksX3_invoke_5 0 rfl rfl)
theorem dX3_invoke_118 : decode cX3_invoke 118 = .ok (.iconst 2, 1) := dk_5 (dk_at dksX3_invoke_5 3 rfl rfl)
theorem dX3_invoke_119 : decode cX3_invoke 119 = .ok (.goto 4, 3) := dk_167 0 4 (dk_at dksX3_invoke_5 4 rfl rfl)
theorem dX3_invoke_122 : decode cX3_invoke 122 = .ok (.iconst 1, 1) := dk_4 (dk_at dksX3_invoke_5 7 rfl rfl)
theorem dX3_invoke_123 : decode cX3_invoke 123 = .ok (.iload 7, 2) := dk_21 7 (dk_at dksX3_invoke_5 8 rfl rfl)
theorem dX3_invoke_125 : decode cX3_invoke 125 = .ok (.invokevirtual 217, 3) := dk_182 0 217 (dk_at dksX3_invoke_5 10 rfl rfl)
theorem dX3_invoke_128 : decode cX3_invoke 128 = .ok (.iload 7, 2) := dk_21 7 (dk_at dksX3_invoke_5 13 rfl rfl)
theorem dX3_invoke_130 : decode cX3_invoke 130 = .ok (.ireturn, 1) := dk_172 (dk_at dksX3_invoke_5 15 rfl rfl)
abbrev cX3_fail : ByteArray := prog_6_method_4_code
def yX3_fail : MethodName := ⟨RX3, "fail", "(I)I"⟩
def dkwX3_fail_0 : List UInt8 := [42, 4, 181, 0, 85, 27, 172]
abbrev dktX3_fail_0 : List UInt8 := dkwX3_fail_0 ++ []
theorem dksX3_fail_0 : cX3_fail.data.toList.drop 0 = dktX3_fail_0 := by decide +kernel
theorem dX3_fail_0 : decode cX3_fail 0 = .ok (.aload_n 0, 1) := dk_42 (dk_at dksX3_fail_0 0 rfl rfl)
theorem dX3_fail_1 : decode cX3_fail 1 = .ok (.iconst 1, 1) := dk_4 (dk_at dksX3_fail_0 1 rfl rfl)
theorem dX3_fail_2 : decode cX3_fail 2 = .ok (.putfield 85, 3) := dk_181 0 85 (dk_at dksX3_fail_0 2 rfl rfl)
theorem dX3_fail_5 : decode cX3_fail 5 = .ok (.iload_n 1, 1) := dk_27 (dk_at dksX3_fail_0 5 rfl rfl)
theorem dX3_fail_6 : decode cX3_fail 6 = .ok (.ireturn, 1) := dk_172 (dk_at dksX3_fail_0 6 rfl rfl)
abbrev cX3_probe : ByteArray := prog_6_method_12_code
def yX3_probe : MethodName := ⟨RX3, "probe", "(LProbeConsole$Method;LProbeConsole$Frame;III)V"⟩
def dkwX3_probe_8 : List UInt8 := [181, 0, 85, 42, 21, 7, 181, 0, 118, 177]
abbrev dktX3_probe_8 : List UInt8 := dkwX3_probe_8 ++ []
def dkwX3_probe_7 : List UInt8 := [42, 180, 0, 28, 21, 8, 184, 0, 187, 182, 0, 211, 87, 132, 8, 1, 167, 255, 146, 42, 21, 6]
abbrev dktX3_probe_7 : List UInt8 := dkwX3_probe_7 ++ dktX3_probe_8
def dkwX3_probe_6 : List UInt8 := [25, 9, 180, 0, 204, 21, 4, 160, 0, 30, 42, 21, 8, 25, 9, 43, 44, 29, 182, 0, 207, 153, 0, 16]
abbrev dktX3_probe_6 : List UInt8 := dkwX3_probe_6 ++ dktX3_probe_7
def dkwX3_probe_5 : List UInt8 := [180, 0, 174, 4, 159, 0, 20, 42, 21, 8, 25, 9, 43, 44, 21, 4, 21, 5, 182, 0, 200, 167, 0, 40]
abbrev dktX3_probe_5 : List UInt8 := dkwX3_probe_5 ++ dktX3_probe_6
def dkwX3_probe_4 : List UInt8 := [25, 9, 198, 0, 81, 25, 9, 43, 180, 0, 75, 182, 0, 196, 154, 0, 6, 167, 0, 66, 25, 9]
abbrev dktX3_probe_4 : List UInt8 := dkwX3_probe_4 ++ dktX3_probe_5
def dkwX3_probe_3 : List UInt8 := [21, 8, 16, 8, 162, 0, 109, 42, 180, 0, 28, 21, 8, 184, 0, 187, 182, 0, 193, 192, 0, 149, 58, 9]
abbrev dktX3_probe_3 : List UInt8 := dkwX3_probe_3 ++ dktX3_probe_4
def dkwX3_probe_2 : List UInt8 := [3, 79, 44, 180, 0, 132, 7, 21, 4, 5, 160, 0, 8, 21, 5, 167, 0, 4, 3, 79, 3, 54, 8]
abbrev dktX3_probe_2 : List UInt8 := dkwX3_probe_2 ++ dktX3_probe_3
def dkwX3_probe_1 : List UInt8 := [181, 0, 85, 42, 3, 181, 0, 118, 44, 180, 0, 132, 6, 21, 4, 4, 160, 0, 8, 21, 5, 167, 0, 4]
abbrev dktX3_probe_1 : List UInt8 := dkwX3_probe_1 ++ dktX3_probe_2
def dkwX3_probe_0 : List UInt8 := [42, 180, 0, 184, 153, 0, 4, 177, 42, 180, 0, 85, 54, 6, 42, 180, 0, 118, 54, 7, 42, 3]
abbrev dktX3_probe_0 : List UInt8 := dkwX3_probe_0 ++ dktX3_probe_1
theorem dksX3_probe_0 : cX3_probe.data.toList.drop 0 = dktX3_probe_0 := by decide +kernel
theorem dksX3_probe_1 : cX3_probe.data.toList.drop 22 = dktX3_probe_1 := dk_seg dksX3_probe_0 22 rfl rfl
theorem dksX3_probe_2 : cX3_probe.data.toList.drop 46 = dktX3_probe_2 := dk_seg dksX3_probe_1 24 rfl rfl
theorem dksX3_probe_3 : cX3_probe.data.toList.drop 69 = dktX3_probe_3 := dk_seg dksX3_probe_2 23 rfl rfl
theorem dksX3_probe_4 : cX3_probe.data.toList.drop 93 = dktX3_probe_4 := dk_seg dksX3_probe_3 24 rfl rfl
theorem dksX3_probe_5 : cX3_probe.data.toList.drop 115 = dktX3_probe_5 := dk_seg dksX3_probe_4 22 rfl rfl
theorem dksX3_probe_6 : cX3_probe.data.toList.drop 139 = dktX3_probe_6 := dk_seg dksX3_probe_5 24 rfl rfl
theorem dksX3_probe_7 : cX3_probe.data.toList.drop 163 = dktX3_probe_7 := dk_seg dksX3_probe_6 24 rfl rfl
theorem dksX3_probe_8 : cX3_probe.data.toList.drop 185 = dktX3_probe_8 := dk_seg dksX3_probe_7 22 rfl rfl
theorem dX3_probe_0 : decode cX3_probe 0 = .ok (.aload_n 0, 1) := dk_42 (dk_at dksX3_probe_0 0 rfl rfl)
theorem dX3_probe_1 : decode cX3_probe 1 = .ok (.getfield 184, 3) := dk_180 0 184 (dk_at dksX3_probe_0 1 rfl rfl)
theorem dX3_probe_4 : decode cX3_probe 4 = .ok (.ifCond .eq 4, 3) := dk_153 0 4 (dk_at dksX3_probe_0 4 rfl rfl)
theorem dX3_probe_7 : decode cX3_probe 7 = .ok (.return_, 1) := dk_177 (dk_at dksX3_probe_0 7 rfl rfl)
theorem dX3_probe_8 : decode cX3_probe 8 = .ok (.aload_n 0, 1) := dk_42 (dk_at dksX3_probe_0 8 rfl rfl)
theorem dX3_probe_9 : decode cX3_probe 9 = .ok (.getfield 85, 3) := dk_180 0 85 (dk_at dksX3_probe_0 9 rfl rfl)
theorem dX3_probe_12 : decode cX3_probe 12 = .ok (.istore 6, 2) := dk_54 6 (dk_at dksX3_probe_0 12 rfl rfl)
theorem dX3_probe_14 : decode cX3_probe 14 = .ok (.aload_n 0, 1) := dk_42 (dk_at dksX3_probe_0 14 rfl rfl)
theorem dX3_probe_15 : decode cX3_probe 15 = .ok (.getfield 118, 3) := dk_180 0 118 (dk_at dksX3_probe_0 15 rfl rfl)
theorem dX3_probe_18 : decode cX3_probe 18 = .ok (.istore 7, 2) := dk_54 7 (dk_at dksX3_probe_0 18 rfl rfl)
theorem dX3_probe_20 : decode cX3_probe 20 = .ok (.aload_n 0, 1) := dk_42 (dk_at dksX3_probe_0 20 rfl rfl)
theorem dX3_probe_21 : decode cX3_probe 21 = .ok (.iconst 0, 1) := dk_3 (dk_at dksX3_probe_0 21 rfl rfl)
theorem dX3_probe_22 : decode cX3_probe 22 = .ok (.putfield 85, 3) := dk_181 0 85 (dk_at dksX3_probe_1 0 rfl rfl)
theorem dX3_probe_25 : decode cX3_probe 25 = .ok (.aload_n 0, 1) := dk_42 (dk_at dksX3_probe_1 3 rfl rfl)
theorem dX3_probe_26 : decode cX3_probe 26 = .ok (.iconst 0, 1) := dk_3 (dk_at dksX3_probe_1 4 rfl rfl)
theorem dX3_probe_27 : decode cX3_probe 27 = .ok (.putfield 118, 3) := dk_181 0 118 (dk_at dksX3_probe_1 5 rfl rfl)
theorem dX3_probe_30 : decode cX3_probe 30 = .ok (.aload_n 2, 1) := dk_44 (dk_at dksX3_probe_1 8 rfl rfl)
theorem dX3_probe_31 : decode cX3_probe 31 = .ok (.getfield 132, 3) := dk_180 0 132 (dk_at dksX3_probe_1 9 rfl rfl)
theorem dX3_probe_34 : decode cX3_probe 34 = .ok (.iconst 3, 1) := dk_6 (dk_at dksX3_probe_1 12 rfl rfl)
theorem dX3_probe_35 : decode cX3_probe 35 = .ok (.iload 4, 2) := dk_21 4 (dk_at dksX3_probe_1 13 rfl rfl)
theorem dX3_probe_37 : decode cX3_probe 37 = .ok (.iconst 1, 1) := dk_4 (dk_at dksX3_probe_1 15 rfl rfl)
theorem dX3_probe_38 : decode cX3_probe 38 = .ok (.if_icmp .ne 8, 3) := dk_160 0 8 (dk_at dksX3_probe_1 16 rfl rfl)
theorem dX3_probe_41 : decode cX3_probe 41 = .ok (.iload 5, 2) := dk_21 5 (dk_at dksX3_probe_1 19 rfl rfl)
theorem dX3_probe_43 : decode cX3_probe 43 = .ok (.goto 4, 3) := dk_167 0 4 (dk_at dksX3_probe_1 21 rfl rfl)
theorem dX3_probe_46 : decode cX3_probe 46 = .ok (.iconst 0, 1) := dk_3 (dk_at dksX3_probe_2 0 rfl rfl)
theorem dX3_probe_47 : decode cX3_probe 47 = .ok (.iastore, 1) := dk_79 (dk_at dksX3_probe_2 1 rfl rfl)
theorem dX3_probe_48 : decode cX3_probe 48 = .ok (.aload_n 2, 1) := dk_44 (dk_at dksX3_probe_2 2 rfl rfl)
theorem dX3_probe_49 : decode cX3_probe 49 = .ok (.getfield 132, 3) := dk_180 0 132 (dk_at dksX3_probe_2 3 rfl rfl)
theorem dX3_probe_52 : decode cX3_probe 52 = .ok (.iconst 4, 1) := dk_7 (dk_at dksX3_probe_2 6 rfl rfl)
theorem dX3_probe_53 : decode cX3_probe 53 = .ok (.iload 4, 2) := dk_21 4 (dk_at dksX3_probe_2 7 rfl rfl)
theorem dX3_probe_55 : decode cX3_probe 55 = .ok (.iconst 2, 1) := dk_5 (dk_at dksX3_probe_2 9 rfl rfl)
theorem dX3_probe_56 : decode cX3_probe 56 = .ok (.if_icmp .ne 8, 3) := dk_160 0 8 (dk_at dksX3_probe_2 10 rfl rfl)
theorem dX3_probe_59 : decode cX3_probe 59 = .ok (.iload 5, 2) := dk_21 5 (dk_at dksX3_probe_2 13 rfl rfl)
theorem dX3_probe_61 : decode cX3_probe 61 = .ok (.goto 4, 3) := dk_167 0 4 (dk_at dksX3_probe_2 15 rfl rfl)
theorem dX3_probe_64 : decode cX3_probe 64 = .ok (.iconst 0, 1) := dk_3 (dk_at dksX3_probe_2 18 rfl rfl)
theorem dX3_probe_65 : decode cX3_probe 65 = .ok (.iastore, 1) := dk_79 (dk_at dksX3_probe_2 19 rfl rfl)
theorem dX3_probe_66 : decode cX3_probe 66 = .ok (.iconst 0, 1) := dk_3 (dk_at dksX3_probe_2 20 rfl rfl)
theorem dX3_probe_67 : decode cX3_probe 67 = .ok (.istore 8, 2) := dk_54 8 (dk_at dksX3_probe_2 21 rfl rfl)
theorem dX3_probe_69 : decode cX3_probe 69 = .ok (.iload 8, 2) := dk_21 8 (dk_at dksX3_probe_3 0 rfl rfl)
theorem dX3_probe_71 : decode cX3_probe 71 = .ok (.bipush 8, 2) := dk_16 8 (dk_at dksX3_probe_3 2 rfl rfl)
theorem dX3_probe_73 : decode cX3_probe 73 = .ok (.if_icmp .ge 109, 3) := dk_162 0 109 (dk_at dksX3_probe_3 4 rfl rfl)
theorem dX3_probe_76 : decode cX3_probe 76 = .ok (.aload_n 0, 1) := dk_42 (dk_at dksX3_probe_3 7 rfl rfl)
theorem dX3_probe_77 : decode cX3_probe 77 = .ok (.getfield 28, 3) := dk_180 0 28 (dk_at dksX3_probe_3 8 rfl rfl)
theorem dX3_probe_80 : decode cX3_probe 80 = .ok (.iload 8, 2) := dk_21 8 (dk_at dksX3_probe_3 11 rfl rfl)
theorem dX3_probe_82 : decode cX3_probe 82 = .ok (.invokestatic 187, 3) := dk_184 0 187 (dk_at dksX3_probe_3 13 rfl rfl)
theorem dX3_probe_85 : decode cX3_probe 85 = .ok (.invokevirtual 193, 3) := dk_182 0 193 (dk_at dksX3_probe_3 16 rfl rfl)
theorem dX3_probe_88 : decode cX3_probe 88 = .ok (.checkcast 149, 3) := dk_192 0 149 (dk_at dksX3_probe_3 19 rfl rfl)
theorem dX3_probe_91 : decode cX3_probe 91 = .ok (.astore 9, 2) := dk_58 9 (dk_at dksX3_probe_3 22 rfl rfl)
theorem dX3_probe_93 : decode cX3_probe 93 = .ok (.aload 9, 2) := dk_25 9 (dk_at dksX3_probe_4 0 rfl rfl)
theorem dX3_probe_95 : decode cX3_probe 95 = .ok (.ifnull 81, 3) := dk_198 0 81 (dk_at dksX3_probe_4 2 rfl rfl)
theorem dX3_probe_98 : decode cX3_probe 98 = .ok (.aload 9, 2) := dk_25 9 (dk_at dksX3_probe_4 5 rfl rfl)
theorem dX3_probe_100 : decode cX3_probe 100 = .ok (.aload_n 1, 1) := dk_43 (dk_at dksX3_probe_4 7 rfl rfl)
theorem dX3_probe_101 : decode cX3_probe 101 = .ok (.getfield 75, 3) := dk_180 0 75 (dk_at dksX3_probe_4 8 rfl rfl)
theorem dX3_probe_104 : decode cX3_probe 104 = .ok (.invokevirtual 196, 3) := dk_182 0 196 (dk_at dksX3_probe_4 11 rfl rfl)
theorem dX3_probe_107 : decode cX3_probe 107 = .ok (.ifCond .ne 6, 3) := dk_154 0 6 (dk_at dksX3_probe_4 14 rfl rfl)
theorem dX3_probe_110 : decode cX3_probe 110 = .ok (.goto 66, 3) := dk_167 0 66 (dk_at dksX3_probe_4 17 rfl rfl)
theorem dX3_probe_113 : decode cX3_probe 113 = .ok (.aload 9, 2) := dk_25 9 (dk_at dksX3_probe_4 20 rfl rfl)
theorem dX3_probe_115 : decode cX3_probe 115 = .ok (.getfield 174, 3) := dk_180 0 174 (dk_at dksX3_probe_5 0 rfl rfl)
theorem dX3_probe_118 : decode cX3_probe 118 = .ok (.iconst 1, 1) := dk_4 (dk_at dksX3_probe_5 3 rfl rfl)
theorem dX3_probe_119 : decode cX3_probe 119 = .ok (.if_icmp .eq 20, 3) := dk_159 0 20 (dk_at dksX3_probe_5 4 rfl rfl)
theorem dX3_probe_122 : decode cX3_probe 122 = .ok (.aload_n 0, 1) := dk_42 (dk_at dksX3_probe_5 7 rfl rfl)
theorem dX3_probe_123 : decode cX3_probe 123 = .ok (.iload 8, 2) := dk_21 8 (dk_at dksX3_probe_5 8 rfl rfl)
theorem dX3_probe_125 : decode cX3_probe 125 = .ok (.aload 9, 2) := dk_25 9 (dk_at dksX3_probe_5 10 rfl rfl)
theorem dX3_probe_127 : decode cX3_probe 127 = .ok (.aload_n 1, 1) := dk_43 (dk_at dksX3_probe_5 12 rfl rfl)
theorem dX3_probe_128 : decode cX3_probe 128 = .ok (.aload_n 2, 1) := dk_44 (dk_at dksX3_probe_5 13 rfl rfl)
theorem dX3_probe_129 : decode cX3_probe 129 = .ok (.iload 4, 2) := dk_21 4 (dk_at dksX3_probe_5 14 rfl rfl)
theorem dX3_probe_131 : decode cX3_probe 131 = .ok (.iload 5, 2) := dk_21 5 (dk_at dksX3_probe_5 16 rfl rfl)
theorem dX3_probe_133 : decode cX3_probe 133 = .ok (.invokevirtual 200, 3) := dk_182 0 200 (dk_at dksX3_probe_5 18 rfl rfl)
theorem dX3_probe_136 : decode cX3_probe 136 = .ok (.goto 40, 3) := dk_167 0 40 (dk_at dksX3_probe_5 21 rfl rfl)
theorem dX3_probe_139 : decode cX3_probe 139 = .ok (.aload 9, 2) := dk_25 9 (dk_at dksX3_probe_6 0 rfl rfl)
theorem dX3_probe_141 : decode cX3_probe 141 = .ok (.getfield 204, 3) := dk_180 0 204 (dk_at dksX3_probe_6 2 rfl rfl)
theorem dX3_probe_144 : decode cX3_probe 144 = .ok (.iload 4, 2) := dk_21 4 (dk_at dksX3_probe_6 5 rfl rfl)
theorem dX3_probe_146 : decode cX3_probe 146 = .ok (.if_icmp .ne 30, 3) := dk_160 0 30 (dk_at dksX3_probe_6 7 rfl rfl)
theorem dX3_probe_149 : decode cX3_probe 149 = .ok (.aload_n 0, 1) := dk_42 (dk_at dksX3_probe_6 10 rfl rfl)
theorem dX3_probe_150 : decode cX3_probe 150 = .ok (.iload 8, 2) := dk_21 8 (dk_at dksX3_probe_6 11 rfl rfl)
theorem dX3_probe_152 : decode cX3_probe 152 = .ok (.aload 9, 2) := dk_25 9 (dk_at dksX3_probe_6 13 rfl rfl)
theorem dX3_probe_154 : decode cX3_probe 154 = .ok (.aload_n 1, 1) := dk_43 (dk_at dksX3_probe_6 15 rfl rfl)
theorem dX3_probe_155 : decode cX3_probe 155 = .ok (.aload_n 2, 1) := dk_44 (dk_at dksX3_probe_6 16 rfl rfl)
theorem dX3_probe_156 : decode cX3_probe 156 = .ok (.iload_n 3, 1) := dk_29 (dk_at dksX3_probe_6 17 rfl rfl)
theorem dX3_probe_157 : decode cX3_probe 157 = .ok (.invokevirtual 207, 3) := dk_182 0 207 (dk_at dksX3_probe_6 18 rfl rfl)
theorem dX3_probe_160 : decode cX3_probe 160 = .ok (.ifCond .eq 16, 3) := dk_153 0 16 (dk_at dksX3_probe_6 21 rfl rfl)
theorem dX3_probe_163 : decode cX3_probe 163 = .ok (.aload_n 0, 1) := dk_42 (dk_at dksX3_probe_7 0 rfl rfl)
theorem dX3_probe_164 : decode cX3_probe 164 = .ok (.getfield 28, 3) := dk_180 0 28 (dk_at dksX3_probe_7 1 rfl rfl)
theorem dX3_probe_167 : decode cX3_probe 167 = .ok (.iload 8, 2) := dk_21 8 (dk_at dksX3_probe_7 4 rfl rfl)
theorem dX3_probe_169 : decode cX3_probe 169 = .ok (.invokestatic 187, 3) := dk_184 0 187 (dk_at dksX3_probe_7 6 rfl rfl)
theorem dX3_probe_172 : decode cX3_probe 172 = .ok (.invokevirtual 211, 3) := dk_182 0 211 (dk_at dksX3_probe_7 9 rfl rfl)
theorem dX3_probe_175 : decode cX3_probe 175 = .ok (.pop, 1) := dk_87 (dk_at dksX3_probe_7 12 rfl rfl)
theorem dX3_probe_176 : decode cX3_probe 176 = .ok (.iinc 8 1, 3) := dk_132 8 1 (dk_at dksX3_probe_7 13 rfl rfl)
theorem dX3_probe_179 : decode cX3_probe 179 = .ok (.goto (-110), 3) := dk_167 255 146 (dk_at dksX3_probe_7 16 rfl rfl)
theorem dX3_probe_182 : decode cX3_probe 182 = .ok (.aload_n 0, 1) := dk_42 (dk_at dksX3_probe_7 19 rfl rfl)
theorem dX3_probe_183 : decode cX3_probe 183 = .ok (.iload 6, 2) := dk_21 6 (dk_at dksX3_probe_7 20 rfl rfl)
theorem dX3_probe_185 : decode cX3_probe 185 = .ok (.putfield 85, 3) := dk_181 0 85 (dk_at dksX3_probe_8 0 rfl rfl)
theorem dX3_probe_188 : decode cX3_probe 188 = .ok (.aload_n 0, 1) := dk_42 (dk_at dksX3_probe_8 3 rfl rfl)
theorem dX3_probe_189 : decode cX3_probe 189 = .ok (.iload 7, 2) := dk_21 7 (dk_at dksX3_probe_8 4 rfl rfl)
theorem dX3_probe_191 : decode cX3_probe 191 = .ok (.putfield 118, 3) := dk_181 0 118 (dk_at dksX3_probe_8 6 rfl rfl)
theorem dX3_probe_194 : decode cX3_probe 194 = .ok (.return_, 1) := dk_177 (dk_at dksX3_probe_8 9 rfl rfl)
abbrev cX3_see : ByteArray := prog_6_method_11_code
def yX3_see : MethodName := ⟨RX3, "see", "(ILProbeConsole$Job;LProbeConsole$Method;LProbeConsole$Frame;II)V"⟩
def dkwX3_see_4 : List UInt8 := [21, 6, 183, 0, 181, 185, 0, 168, 2, 0, 87, 177]
abbrev dktX3_see_4 : List UInt8 := dkwX3_see_4 ++ []
def dkwX3_see_3 : List UInt8 := [180, 0, 132, 4, 46, 25, 4, 180, 0, 132, 5, 46, 21, 5, 5, 160, 0, 7, 4, 167, 0, 4, 3]
abbrev dktX3_see_3 : List UInt8 := dkwX3_see_3 ++ dktX3_see_4
def dkwX3_see_2 : List UInt8 := [42, 180, 0, 35, 187, 0, 179, 89, 27, 45, 180, 0, 162, 25, 4, 180, 0, 132, 3, 46, 25, 4]
abbrev dktX3_see_2 : List UInt8 := dkwX3_see_2 ++ dktX3_see_3
def dkwX3_see_1 : List UInt8 := [96, 79, 167, 0, 78, 21, 5, 158, 0, 73, 42, 180, 0, 35, 185, 0, 59, 1, 0, 16, 40, 162, 0, 59]
abbrev dktX3_see_1 : List UInt8 := dkwX3_see_1 ++ dktX3_see_2
def dkwX3_see_0 : List UInt8 := [44, 180, 0, 174, 5, 160, 0, 24, 44, 180, 0, 176, 6, 45, 180, 0, 162, 104, 21, 5, 96, 92, 46, 4]
abbrev dktX3_see_0 : List UInt8 := dkwX3_see_0 ++ dktX3_see_1
theorem dksX3_see_0 : cX3_see.data.toList.drop 0 = dktX3_see_0 := by decide +kernel
theorem dksX3_see_1 : cX3_see.data.toList.drop 24 = dktX3_see_1 := dk_seg dksX3_see_0 24 rfl rfl
theorem dksX3_see_2 : cX3_see.data.toList.drop 48 = dktX3_see_2 := dk_seg dksX3_see_1 24 rfl rfl
theorem dksX3_see_3 : cX3_see.data.toList.drop 70 = dktX3_see_3 := dk_seg dksX3_see_2 22 rfl rfl
theorem dksX3_see_4 : cX3_see.data.toList.drop 93 = dktX3_see_4 := dk_seg dksX3_see_3 23 rfl rfl
theorem dX3_see_0 : decode cX3_see 0 = .ok (.aload_n 2, 1) := dk_44 (dk_at dksX3_see_0 0 rfl rfl)
theorem dX3_see_1 : decode cX3_see 1 = .ok (.getfield 174, 3) := dk_180 0 174 (dk_at dksX3_see_0 1 rfl rfl)
theorem dX3_see_4 : decode cX3_see 4 = .ok (.iconst 2, 1) := dk_5 (dk_at dksX3_see_0 4 rfl rfl)
theorem dX3_see_5 : decode cX3_see 5 = .ok (.if_icmp .ne 24, 3) := dk_160 0 24 (dk_at dksX3_see_0 5 rfl rfl)
theorem dX3_see_8 : decode cX3_see 8 = .ok (.aload_n 2, 1) := dk_44 (dk_at dksX3_see_0 8 rfl rfl)
theorem dX3_see_9 : decode cX3_see 9 = .ok (.getfield 176, 3) := dk_180 0 176 (dk_at dksX3_see_0 9 rfl rfl)
theorem dX3_see_12 : decode cX3_see 12 = .ok (.iconst 3, 1) := dk_6 (dk_at dksX3_see_0 12 rfl rfl)
theorem dX3_see_13 : decode cX3_see 13 = .ok (.aload_n 3, 1) := dk_45 (dk_at dksX3_see_0 13 rfl rfl)
theorem dX3_see_14 : decode cX3_see 14 = .ok (.getfield 162, 3) := dk_180 0 162 (dk_at dksX3_see_0 14 rfl rfl)
theorem dX3_see_17 : decode cX3_see 17 = .ok (.imul, 1) := dk_104 (dk_at dksX3_see_0 17 rfl rfl)
theorem dX3_see_18 : decode cX3_see 18 = .ok (.iload 5, 2) := dk_21 5 (dk_at dksX3_see_0 18 rfl rfl)
theorem dX3_see_20 : decode cX3_see 20 = .ok (.iadd, 1) := dk_96 (dk_at dksX3_see_0 20 rfl rfl)
theorem dX3_see_21 : decode cX3_see 21 = .ok (.dup2, 1) := dk_92 (dk_at dksX3_see_0 21 rfl rfl)
theorem dX3_see_22 : decode cX3_see 22 = .ok (.iaload, 1) := dk_46 (dk_at dksX3_see_0 22 rfl rfl)
theorem dX3_see_23 : decode cX3_see 23 = .ok (.iconst 1, 1) := dk_4 (dk_at dksX3_see_0 23 rfl rfl)
theorem dX3_see_24 : decode cX3_see 24 = .ok (.iadd, 1) := dk_96 (dk_at dksX3_see_1 0 rfl rfl)
theorem dX3_see_25 : decode cX3_see 25 = .ok (.iastore, 1) := dk_79 (dk_at dksX3_see_1 1 rfl rfl)
theorem dX3_see_26 : decode cX3_see 26 = .ok (.goto 78, 3) := dk_167 0 78 (dk_at dksX3_see_1 2 rfl rfl)
theorem dX3_see_29 : decode cX3_see 29 = .ok (.iload 5, 2) := dk_21 5 (dk_at dksX3_see_1 5 rfl rfl)
theorem dX3_see_31 : decode cX3_see 31 = .ok (.ifCond .le 73, 3) := dk_158 0 73 (dk_at dksX3_see_1 7 rfl rfl)
theorem dX3_see_34 : decode cX3_see 34 = .ok (.aload_n 0, 1) := dk_42 (dk_at dksX3_see_1 10 rfl rfl)
theorem dX3_see_35 : decode cX3_see 35 = .ok (.getfield 35, 3) := dk_180 0 35 (dk_at dksX3_see_1 11 rfl rfl)
theorem dX3_see_38 : decode cX3_see 38 = .ok (.invokeinterface 59 1, 5) := by decide +kernel
theorem dX3_see_43 : decode cX3_see 43 = .ok (.bipush 40, 2) := dk_16 40 (dk_at dksX3_see_1 19 rfl rfl)
theorem dX3_see_45 : decode cX3_see 45 = .ok (.if_icmp .ge 59, 3) := dk_162 0 59 (dk_at dksX3_see_1 21 rfl rfl)
theorem dX3_see_48 : decode cX3_see 48 = .ok (.aload_n 0, 1) := dk_42 (dk_at dksX3_see_2 0 rfl rfl)
theorem dX3_see_49 : decode cX3_see 49 = .ok (.getfield 35, 3) := dk_180 0 35 (dk_at dksX3_see_2 1 rfl rfl)
theorem dX3_see_52 : decode cX3_see 52 = .ok (.new 179, 3) := dk_187 0 179 (dk_at dksX3_see_2 4 rfl rfl)
theorem dX3_see_55 : decode cX3_see 55 = .ok (.dup, 1) := dk_89 (dk_at dksX3_see_2 7 rfl rfl)
theorem dX3_see_56 : decode cX3_see 56 = .ok (.iload_n 1, 1) := dk_27 (dk_at dksX3_see_2 8 rfl rfl)
theorem dX3_see_57 : decode cX3_see 57 = .ok (.aload_n 3, 1) := dk_45 (dk_at dksX3_see_2 9 rfl rfl)
theorem dX3_see_58 : decode cX3_see 58 = .ok (.getfield 162, 3) := dk_180 0 162 (dk_at dksX3_see_2 10 rfl rfl)
theorem dX3_see_61 : decode cX3_see 61 = .ok (.aload 4, 2) := dk_25 4 (dk_at dksX3_see_2 13 rfl rfl)
theorem dX3_see_63 : decode cX3_see 63 = .ok (.getfield 132, 3) := dk_180 0 132 (dk_at dksX3_see_2 15 rfl rfl)
theorem dX3_see_66 : decode cX3_see 66 = .ok (.iconst 0, 1) := dk_3 (dk_at dksX3_see_2 18 rfl rfl)
theorem dX3_see_67 : decode cX3_see 67 = .ok (.iaload, 1) := dk_46 (dk_at dksX3_see_2 19 rfl rfl)
theorem dX3_see_68 : decode cX3_see 68 = .ok (.aload 4, 2) := dk_25 4 (dk_at dksX3_see_2 20 rfl rfl)
theorem dX3_see_70 : decode cX3_see 70 = .ok (.getfield 132, 3) := dk_180 0 132 (dk_at dksX3_see_3 0 rfl rfl)
theorem dX3_see_73 : decode cX3_see 73 = .ok (.iconst 1, 1) := dk_4 (dk_at dksX3_see_3 3 rfl rfl)
theorem dX3_see_74 : decode cX3_see 74 = .ok (.iaload, 1) := dk_46 (dk_at dksX3_see_3 4 rfl rfl)
theorem dX3_see_75 : decode cX3_see 75 = .ok (.aload 4, 2) := dk_25 4 (dk_at dksX3_see_3 5 rfl rfl)
theorem dX3_see_77 : decode cX3_see 77 = .ok (.getfield 132, 3) := dk_180 0 132 (dk_at dksX3_see_3 7 rfl rfl)
theorem dX3_see_80 : decode cX3_see 80 = .ok (.iconst 2, 1) := dk_5 (dk_at dksX3_see_3 10 rfl rfl)
theorem dX3_see_81 : decode cX3_see 81 = .ok (.iaload, 1) := dk_46 (dk_at dksX3_see_3 11 rfl rfl)
theorem dX3_see_82 : decode cX3_see 82 = .ok (.iload 5, 2) := dk_21 5 (dk_at dksX3_see_3 12 rfl rfl)
theorem dX3_see_84 : decode cX3_see 84 = .ok (.iconst 2, 1) := dk_5 (dk_at dksX3_see_3 14 rfl rfl)
theorem dX3_see_85 : decode cX3_see 85 = .ok (.if_icmp .ne 7, 3) := dk_160 0 7 (dk_at dksX3_see_3 15 rfl rfl)
theorem dX3_see_88 : decode cX3_see 88 = .ok (.iconst 1, 1) := dk_4 (dk_at dksX3_see_3 18 rfl rfl)
theorem dX3_see_89 : decode cX3_see 89 = .ok (.goto 4, 3) := dk_167 0 4 (dk_at dksX3_see_3 19 rfl rfl)
theorem dX3_see_92 : decode cX3_see 92 = .ok (.iconst 0, 1) := dk_3 (dk_at dksX3_see_3 22 rfl rfl)
theorem dX3_see_93 : decode cX3_see 93 = .ok (.iload 6, 2) := dk_21 6 (dk_at dksX3_see_4 0 rfl rfl)
theorem dX3_see_95 : decode cX3_see 95 = .ok (.invokespecial 181, 3) := dk_183 0 181 (dk_at dksX3_see_4 2 rfl rfl)
theorem dX3_see_98 : decode cX3_see 98 = .ok (.invokeinterface 168 2, 5) := by decide +kernel
theorem dX3_see_103 : decode cX3_see 103 = .ok (.pop, 1) := dk_87 (dk_at dksX3_see_4 10 rfl rfl)
theorem dX3_see_104 : decode cX3_see 104 = .ok (.return_, 1) := dk_177 (dk_at dksX3_see_4 11 rfl rfl)
abbrev cX3_watches : ByteArray := prog_6_method_10_code
def yX3_watches : MethodName := ⟨RX3, "watches", "(ILProbeConsole$Job;LProbeConsole$Method;LProbeConsole$Frame;I)Z"⟩
def dkwX3_watches_6 : List UInt8 := [4, 96, 181, 0, 148, 44, 180, 0, 148, 44, 180, 0, 171, 160, 0, 7, 4, 167, 0, 4, 3, 172]
abbrev dktX3_watches_6 : List UInt8 := dkwX3_watches_6 ++ []
def dkwX3_watches_5 : List UInt8 := [180, 0, 85, 21, 5, 183, 0, 165, 185, 0, 168, 2, 0, 87, 42, 3, 181, 0, 85, 44, 89, 180, 0, 148]
abbrev dktX3_watches_5 : List UInt8 := dkwX3_watches_5 ++ dktX3_watches_6
def dkwX3_watches_4 : List UInt8 := [17, 1, 44, 162, 0, 33, 42, 180, 0, 32, 187, 0, 160, 89, 27, 45, 180, 0, 162, 21, 6, 42]
abbrev dktX3_watches_4 : List UInt8 := dkwX3_watches_4 ++ dktX3_watches_5
def dkwX3_watches_3 : List UInt8 := [54, 6, 167, 0, 12, 42, 180, 0, 85, 154, 0, 5, 3, 172, 42, 180, 0, 32, 185, 0, 59, 1, 0]
abbrev dktX3_watches_3 : List UInt8 := dkwX3_watches_3 ++ dktX3_watches_4
def dkwX3_watches_2 : List UInt8 := [42, 180, 0, 85, 154, 0, 25, 21, 6, 153, 0, 20, 42, 44, 180, 0, 157, 25, 4, 21, 5, 182, 0, 104]
abbrev dktX3_watches_2 : List UInt8 := dkwX3_watches_2 ++ dktX3_watches_3
def dkwX3_watches_1 : List UInt8 := [180, 0, 153, 199, 0, 7, 4, 167, 0, 15, 42, 44, 180, 0, 153, 25, 4, 21, 5, 182, 0, 104, 54, 6]
abbrev dktX3_watches_1 : List UInt8 := dkwX3_watches_1 ++ dktX3_watches_2
def dkwX3_watches_0 : List UInt8 := [25, 4, 180, 0, 132, 16, 6, 44, 180, 0, 148, 79, 25, 4, 180, 0, 132, 8, 21, 5, 79, 44]
abbrev dktX3_watches_0 : List UInt8 := dkwX3_watches_0 ++ dktX3_watches_1
theorem dksX3_watches_0 : cX3_watches.data.toList.drop 0 = dktX3_watches_0 := by decide +kernel
theorem dksX3_watches_1 : cX3_watches.data.toList.drop 22 = dktX3_watches_1 := dk_seg dksX3_watches_0 22 rfl rfl
theorem dksX3_watches_2 : cX3_watches.data.toList.drop 46 = dktX3_watches_2 := dk_seg dksX3_watches_1 24 rfl rfl
theorem dksX3_watches_3 : cX3_watches.data.toList.drop 70 = dktX3_watches_3 := dk_seg dksX3_watches_2 24 rfl rfl
theorem dksX3_watches_4 : cX3_watches.data.toList.drop 93 = dktX3_watches_4 := dk_seg dksX3_watches_3 23 rfl rfl
theorem dksX3_watches_5 : cX3_watches.data.toList.drop 115 = dktX3_watches_5 := dk_seg dksX3_watches_4 22 rfl rfl
theorem dksX3_watches_6 : cX3_watches.data.toList.drop 139 = dktX3_watches_6 := dk_seg dksX3_watches_5 24 rfl rfl
theorem dX3_watches_0 : decode cX3_watches 0 = .ok (.aload 4, 2) := dk_25 4 (dk_at dksX3_watches_0 0 rfl rfl)
theorem dX3_watches_2 : decode cX3_watches 2 = .ok (.getfield 132, 3) := dk_180 0 132 (dk_at dksX3_watches_0 2 rfl rfl)
theorem dX3_watches_5 : decode cX3_watches 5 = .ok (.bipush 6, 2) := dk_16 6 (dk_at dksX3_watches_0 5 rfl rfl)
theorem dX3_watches_7 : decode cX3_watches 7 = .ok (.aload_n 2, 1) := dk_44 (dk_at dksX3_watches_0 7 rfl rfl)
theorem dX3_watches_8 : decode cX3_watches 8 = .ok (.getfield 148, 3) := dk_180 0 148 (dk_at dksX3_watches_0 8 rfl rfl)
theorem dX3_watches_11 : decode cX3_watches 11 = .ok (.iastore, 1) := dk_79 (dk_at dksX3_watches_0 11 rfl rfl)
theorem dX3_watches_12 : decode cX3_watches 12 = .ok (.aload 4, 2) := dk_25 4 (dk_at dksX3_watches_0 12 rfl rfl)
theorem dX3_watches_14 : decode cX3_watches 14 = .ok (.getfield 132, 3) := dk_180 0 132 (dk_at dksX3_watches_0 14 rfl rfl)
theorem dX3_watches_17 : decode cX3_watches 17 = .ok (.iconst 5, 1) := dk_8 (dk_at dksX3_watches_0 17 rfl rfl)
theorem dX3_watches_18 : decode cX3_watches 18 = .ok (.iload 5, 2) := dk_21 5 (dk_at dksX3_watches_0 18 rfl rfl)
theorem dX3_watches_20 : decode cX3_watches 20 = .ok (.iastore, 1) := dk_79 (dk_at dksX3_watches_0 20 rfl rfl)
theorem dX3_watches_21 : decode cX3_watches 21 = .ok (.aload_n 2, 1) := dk_44 (dk_at dksX3_watches_0 21 rfl rfl)
theorem dX3_watches_22 : decode cX3_watches 22 = .ok (.getfield 153, 3) := dk_180 0 153 (dk_at dksX3_watches_1 0 rfl rfl)
theorem dX3_watches_25 : decode cX3_watches 25 = .ok (.ifnonnull 7, 3) := dk_199 0 7 (dk_at dksX3_watches_1 3 rfl rfl)
theorem dX3_watches_28 : decode cX3_watches 28 = .ok (.iconst 1, 1) := dk_4 (dk_at dksX3_watches_1 6 rfl rfl)
theorem dX3_watches_29 : decode cX3_watches 29 = .ok (.goto 15, 3) := dk_167 0 15 (dk_at dksX3_watches_1 7 rfl rfl)
theorem dX3_watches_32 : decode cX3_watches 32 = .ok (.aload_n 0, 1) := dk_42 (dk_at dksX3_watches_1 10 rfl rfl)
theorem dX3_watches_33 : decode cX3_watches 33 = .ok (.aload_n 2, 1) := dk_44 (dk_at dksX3_watches_1 11 rfl rfl)
theorem dX3_watches_34 : decode cX3_watches 34 = .ok (.getfield 153, 3) := dk_180 0 153 (dk_at dksX3_watches_1 12 rfl rfl)
theorem dX3_watches_37 : decode cX3_watches 37 = .ok (.aload 4, 2) := dk_25 4 (dk_at dksX3_watches_1 15 rfl rfl)
theorem dX3_watches_39 : decode cX3_watches 39 = .ok (.iload 5, 2) := dk_21 5 (dk_at dksX3_watches_1 17 rfl rfl)
theorem dX3_watches_41 : decode cX3_watches 41 = .ok (.invokevirtual 104, 3) := dk_182 0 104 (dk_at dksX3_watches_1 19 rfl rfl)
theorem dX3_watches_44 : decode cX3_watches 44 = .ok (.istore 6, 2) := dk_54 6 (dk_at dksX3_watches_1 22 rfl rfl)
theorem dX3_watches_46 : decode cX3_watches 46 = .ok (.aload_n 0, 1) := dk_42 (dk_at dksX3_watches_2 0 rfl rfl)
theorem dX3_watches_47 : decode cX3_watches 47 = .ok (.getfield 85, 3) := dk_180 0 85 (dk_at dksX3_watches_2 1 rfl rfl)
theorem dX3_watches_50 : decode cX3_watches 50 = .ok (.ifCond .ne 25, 3) := dk_154 0 25 (dk_at dksX3_watches_2 4 rfl rfl)
theorem dX3_watches_53 : decode cX3_watches 53 = .ok (.iload 6, 2) := dk_21 6 (dk_at dksX3_watches_2 7 rfl rfl)
theorem dX3_watches_55 : decode cX3_watches 55 = .ok (.ifCond .eq 20, 3) := dk_153 0 20 (dk_at dksX3_watches_2 9 rfl rfl)
theorem dX3_watches_58 : decode cX3_watches 58 = .ok (.aload_n 0, 1) := dk_42 (dk_at dksX3_watches_2 12 rfl rfl)
theorem dX3_watches_59 : decode cX3_watches 59 = .ok (.aload_n 2, 1) := dk_44 (dk_at dksX3_watches_2 13 rfl rfl)
theorem dX3_watches_60 : decode cX3_watches 60 = .ok (.getfield 157, 3) := dk_180 0 157 (dk_at dksX3_watches_2 14 rfl rfl)
theorem dX3_watches_63 : decode cX3_watches 63 = .ok (.aload 4, 2) := dk_25 4 (dk_at dksX3_watches_2 17 rfl rfl)
theorem dX3_watches_65 : decode cX3_watches 65 = .ok (.iload 5, 2) := dk_21 5 (dk_at dksX3_watches_2 19 rfl rfl)
theorem dX3_watches_67 : decode cX3_watches 67 = .ok (.invokevirtual 104, 3) := dk_182 0 104 (dk_at dksX3_watches_2 21 rfl rfl)
theorem dX3_watches_70 : decode cX3_watches 70 = .ok (.istore 6, 2) := dk_54 6 (dk_at dksX3_watches_3 0 rfl rfl)
theorem dX3_watches_72 : decode cX3_watches 72 = .ok (.goto 12, 3) := dk_167 0 12 (dk_at dksX3_watches_3 2 rfl rfl)
theorem dX3_watches_75 : decode cX3_watches 75 = .ok (.aload_n 0, 1) := dk_42 (dk_at dksX3_watches_3 5 rfl rfl)
theorem dX3_watches_76 : decode cX3_watches 76 = .ok (.getfield 85, 3) := dk_180 0 85 (dk_at dksX3_watches_3 6 rfl rfl)
theorem dX3_watches_79 : decode cX3_watches 79 = .ok (.ifCond .ne 5, 3) := dk_154 0 5 (dk_at dksX3_watches_3 9 rfl rfl)
theorem dX3_watches_82 : decode cX3_watches 82 = .ok (.iconst 0, 1) := dk_3 (dk_at dksX3_watches_3 12 rfl rfl)
theorem dX3_watches_83 : decode cX3_watches 83 = .ok (.ireturn, 1) := dk_172 (dk_at dksX3_watches_3 13 rfl rfl)
theorem dX3_watches_84 : decode cX3_watches 84 = .ok (.aload_n 0, 1) := dk_42 (dk_at dksX3_watches_3 14 rfl rfl)
theorem dX3_watches_85 : decode cX3_watches 85 = .ok (.getfield 32, 3) := dk_180 0 32 (dk_at dksX3_watches_3 15 rfl rfl)
theorem dX3_watches_88 : decode cX3_watches 88 = .ok (.invokeinterface 59 1, 5) := by decide +kernel
theorem dX3_watches_93 : decode cX3_watches 93 = .ok (.sipush 300, 3) := dk_17 1 44 (dk_at dksX3_watches_4 0 rfl rfl)
theorem dX3_watches_96 : decode cX3_watches 96 = .ok (.if_icmp .ge 33, 3) := dk_162 0 33 (dk_at dksX3_watches_4 3 rfl rfl)
theorem dX3_watches_99 : decode cX3_watches 99 = .ok (.aload_n 0, 1) := dk_42 (dk_at dksX3_watches_4 6 rfl rfl)
theorem dX3_watches_100 : decode cX3_watches 100 = .ok (.getfield 32, 3) := dk_180 0 32 (dk_at dksX3_watches_4 7 rfl rfl)
theorem dX3_watches_103 : decode cX3_watches 103 = .ok (.new 160, 3) := dk_187 0 160 (dk_at dksX3_watches_4 10 rfl rfl)
theorem dX3_watches_106 : decode cX3_watches 106 = .ok (.dup, 1) := dk_89 (dk_at dksX3_watches_4 13 rfl rfl)
theorem dX3_watches_107 : decode cX3_watches 107 = .ok (.iload_n 1, 1) := dk_27 (dk_at dksX3_watches_4 14 rfl rfl)
theorem dX3_watches_108 : decode cX3_watches 108 = .ok (.aload_n 3, 1) := dk_45 (dk_at dksX3_watches_4 15 rfl rfl)
theorem dX3_watches_109 : decode cX3_watches 109 = .ok (.getfield 162, 3) := dk_180 0 162 (dk_at dksX3_watches_4 16 rfl rfl)
theorem dX3_watches_112 : decode cX3_watches 112 = .ok (.iload 6, 2) := dk_21 6 (dk_at dksX3_watches_4 19 rfl rfl)
theorem dX3_watches_114 : decode cX3_watches 114 = .ok (.aload_n 0, 1) := dk_42 (dk_at dksX3_watches_4 21 rfl rfl)
theorem dX3_watches_115 : decode cX3_watches 115 = .ok (.getfield 85, 3) := dk_180 0 85 (dk_at dksX3_watches_5 0 rfl rfl)
theorem dX3_watches_118 : decode cX3_watches 118 = .ok (.iload 5, 2) := dk_21 5 (dk_at dksX3_watches_5 3 rfl rfl)
theorem dX3_watches_120 : decode cX3_watches 120 = .ok (.invokespecial 165, 3) := dk_183 0 165 (dk_at dksX3_watches_5 5 rfl rfl)
theorem dX3_watches_123 : decode cX3_watches 123 = .ok (.invokeinterface 168 2, 5) := by decide +kernel
theorem dX3_watches_128 : decode cX3_watches 128 = .ok (.pop, 1) := dk_87 (dk_at dksX3_watches_5 13 rfl rfl)
theorem dX3_watches_129 : decode cX3_watches 129 = .ok (.aload_n 0, 1) := dk_42 (dk_at dksX3_watches_5 14 rfl rfl)
theorem dX3_watches_130 : decode cX3_watches 130 = .ok (.iconst 0, 1) := dk_3 (dk_at dksX3_watches_5 15 rfl rfl)
theorem dX3_watches_131 : decode cX3_watches 131 = .ok (.putfield 85, 3) := dk_181 0 85 (dk_at dksX3_watches_5 16 rfl rfl)
theorem dX3_watches_134 : decode cX3_watches 134 = .ok (.aload_n 2, 1) := dk_44 (dk_at dksX3_watches_5 19 rfl rfl)
theorem dX3_watches_135 : decode cX3_watches 135 = .ok (.dup, 1) := dk_89 (dk_at dksX3_watches_5 20 rfl rfl)
theorem dX3_watches_136 : decode cX3_watches 136 = .ok (.getfield 148, 3) := dk_180 0 148 (dk_at dksX3_watches_5 21 rfl rfl)
theorem dX3_watches_139 : decode cX3_watches 139 = .ok (.iconst 1, 1) := dk_4 (dk_at dksX3_watches_6 0 rfl rfl)
theorem dX3_watches_140 : decode cX3_watches 140 = .ok (.iadd, 1) := dk_96 (dk_at dksX3_watches_6 1 rfl rfl)
theorem dX3_watches_141 : decode cX3_watches 141 = .ok (.putfield 148, 3) := dk_181 0 148 (dk_at dksX3_watches_6 2 rfl rfl)
theorem dX3_watches_144 : decode cX3_watches 144 = .ok (.aload_n 2, 1) := dk_44 (dk_at dksX3_watches_6 5 rfl rfl)
theorem dX3_watches_145 : decode cX3_watches 145 = .ok (.getfield 148, 3) := dk_180 0 148 (dk_at dksX3_watches_6 6 rfl rfl)
theorem dX3_watches_148 : decode cX3_watches 148 = .ok (.aload_n 2, 1) := dk_44 (dk_at dksX3_watches_6 9 rfl rfl)
theorem dX3_watches_149 : decode cX3_watches 149 = .ok (.getfield 171, 3) := dk_180 0 171 (dk_at dksX3_watches_6 10 rfl rfl)
theorem dX3_watches_152 : decode cX3_watches 152 = .ok (.if_icmp .ne 7, 3) := dk_160 0 7 (dk_at dksX3_watches_6 13 rfl rfl)
theorem dX3_watches_155 : decode cX3_watches 155 = .ok (.iconst 1, 1) := dk_4 (dk_at dksX3_watches_6 16 rfl rfl)
theorem dX3_watches_156 : decode cX3_watches 156 = .ok (.goto 4, 3) := dk_167 0 4 (dk_at dksX3_watches_6 17 rfl rfl)
theorem dX3_watches_159 : decode cX3_watches 159 = .ok (.iconst 0, 1) := dk_3 (dk_at dksX3_watches_6 20 rfl rfl)
theorem dX3_watches_160 : decode cX3_watches 160 = .ok (.ireturn, 1) := dk_172 (dk_at dksX3_watches_6 21 rfl rfl)
abbrev cX3_value : ByteArray := prog_6_method_9_code
def yX3_value : MethodName := ⟨RX3, "value", "(LProbeConsole$Node;LProbeConsole$Frame;I)I"⟩
def dkwX3_value_8 : List UInt8 := [192, 0, 100, 44, 29, 182, 0, 104, 172, 42, 43, 44, 29, 182, 0, 145, 172]
abbrev dktX3_value_8 : List UInt8 := dkwX3_value_8 ++ []
def dkwX3_value_7 : List UInt8 := [167, 0, 31, 42, 43, 180, 0, 99, 21, 4, 153, 0, 7, 4, 167, 0, 4, 5, 185, 0, 65, 2, 0]
abbrev dktX3_value_7 : List UInt8 := dkwX3_value_7 ++ dktX3_value_8
def dkwX3_value_6 : List UInt8 := [185, 0, 65, 2, 0, 192, 0, 100, 44, 29, 182, 0, 104, 54, 4, 42, 180, 0, 85, 153, 0, 8, 21, 4]
abbrev dktX3_value_6 : List UInt8 := dkwX3_value_6 ++ dktX3_value_7
def dkwX3_value_5 : List UInt8 := [166, 0, 12, 42, 21, 4, 182, 0, 89, 167, 0, 6, 21, 4, 116, 172, 42, 43, 180, 0, 99, 3]
abbrev dktX3_value_5 : List UInt8 := dkwX3_value_5 ++ dktX3_value_6
def dkwX3_value_4 : List UInt8 := [182, 0, 104, 54, 4, 42, 180, 0, 85, 153, 0, 8, 21, 4, 167, 0, 25, 43, 180, 0, 108, 178, 0, 142]
abbrev dktX3_value_4 : List UInt8 := dkwX3_value_4 ++ dktX3_value_5
def dkwX3_value_3 : List UInt8 := [43, 44, 29, 182, 0, 139, 172, 42, 43, 180, 0, 99, 3, 185, 0, 65, 2, 0, 192, 0, 100, 44, 29]
abbrev dktX3_value_3 : List UInt8 := dkwX3_value_3 ++ dktX3_value_4
def dkwX3_value_2 : List UInt8 := [43, 180, 0, 130, 172, 44, 180, 0, 132, 43, 180, 0, 130, 46, 172, 42, 43, 44, 29, 182, 0, 136, 172, 42]
abbrev dktX3_value_2 : List UInt8 := dkwX3_value_2 ++ dktX3_value_3
def dkwX3_value_1 : List UInt8 := [170, 0, 0, 0, 190, 0, 0, 0, 0, 0, 0, 0, 6, 0, 0, 0, 41, 0, 0, 0, 46, 0, 0, 0, 56, 0, 0, 0, 72, 0, 0, 0, 72, 0, 0, 0, 128, 0, 0, 0, 64]
abbrev dktX3_value_1 : List UInt8 := dkwX3_value_1 ++ dktX3_value_2
def dkwX3_value_0 : List UInt8 := [43, 180, 0, 108, 182, 0, 111]
abbrev dktX3_value_0 : List UInt8 := dkwX3_value_0 ++ dktX3_value_1
theorem dksX3_value_0 : cX3_value.data.toList.drop 0 = dktX3_value_0 := by decide +kernel
theorem dksX3_value_1 : cX3_value.data.toList.drop 7 = dktX3_value_1 := dk_seg dksX3_value_0 7 rfl rfl
theorem dksX3_value_2 : cX3_value.data.toList.drop 48 = dktX3_value_2 := dk_seg dksX3_value_1 41 rfl rfl
theorem dksX3_value_3 : cX3_value.data.toList.drop 72 = dktX3_value_3 := dk_seg dksX3_value_2 24 rfl rfl
theorem dksX3_value_4 : cX3_value.data.toList.drop 95 = dktX3_value_4 := dk_seg dksX3_value_3 23 rfl rfl
theorem dksX3_value_5 : cX3_value.data.toList.drop 119 = dktX3_value_5 := dk_seg dksX3_value_4 24 rfl rfl
theorem dksX3_value_6 : cX3_value.data.toList.drop 141 = dktX3_value_6 := dk_seg dksX3_value_5 22 rfl rfl
theorem dksX3_value_7 : cX3_value.data.toList.drop 165 = dktX3_value_7 := dk_seg dksX3_value_6 24 rfl rfl
theorem dksX3_value_8 : cX3_value.data.toList.drop 188 = dktX3_value_8 := dk_seg dksX3_value_7 23 rfl rfl
theorem dX3_value_0 : decode cX3_value 0 = .ok (.aload_n 1, 1) := dk_43 (dk_at dksX3_value_0 0 rfl rfl)
theorem dX3_value_1 : decode cX3_value 1 = .ok (.getfield 108, 3) := dk_180 0 108 (dk_at dksX3_value_0 1 rfl rfl)
theorem dX3_value_4 : decode cX3_value 4 = .ok (.invokevirtual 111, 3) := dk_182 0 111 (dk_at dksX3_value_0 4 rfl rfl)
theorem dX3_value_7 : decode cX3_value 7 = .ok (.tableswitch 190 0 6 #[41, 46, 56, 72, 72, 128, 64], 41) := by decide +kernel
theorem dX3_value_48 : decode cX3_value 48 = .ok (.aload_n 1, 1) := dk_43 (dk_at dksX3_value_2 0 rfl rfl)
theorem dX3_value_49 : decode cX3_value 49 = .ok (.getfield 130, 3) := dk_180 0 130 (dk_at dksX3_value_2 1 rfl rfl)
theorem dX3_value_52 : decode cX3_value 52 = .ok (.ireturn, 1) := dk_172 (dk_at dksX3_value_2 4 rfl rfl)
theorem dX3_value_53 : decode cX3_value 53 = .ok (.aload_n 2, 1) := dk_44 (dk_at dksX3_value_2 5 rfl rfl)
theorem dX3_value_54 : decode cX3_value 54 = .ok (.getfield 132, 3) := dk_180 0 132 (dk_at dksX3_value_2 6 rfl rfl)
theorem dX3_value_57 : decode cX3_value 57 = .ok (.aload_n 1, 1) := dk_43 (dk_at dksX3_value_2 9 rfl rfl)
theorem dX3_value_58 : decode cX3_value 58 = .ok (.getfield 130, 3) := dk_180 0 130 (dk_at dksX3_value_2 10 rfl rfl)
theorem dX3_value_61 : decode cX3_value 61 = .ok (.iaload, 1) := dk_46 (dk_at dksX3_value_2 13 rfl rfl)
theorem dX3_value_62 : decode cX3_value 62 = .ok (.ireturn, 1) := dk_172 (dk_at dksX3_value_2 14 rfl rfl)
theorem dX3_value_63 : decode cX3_value 63 = .ok (.aload_n 0, 1) := dk_42 (dk_at dksX3_value_2 15 rfl rfl)
theorem dX3_value_64 : decode cX3_value 64 = .ok (.aload_n 1, 1) := dk_43 (dk_at dksX3_value_2 16 rfl rfl)
theorem dX3_value_65 : decode cX3_value 65 = .ok (.aload_n 2, 1) := dk_44 (dk_at dksX3_value_2 17 rfl rfl)
theorem dX3_value_66 : decode cX3_value 66 = .ok (.iload_n 3, 1) := dk_29 (dk_at dksX3_value_2 18 rfl rfl)
theorem dX3_value_67 : decode cX3_value 67 = .ok (.invokevirtual 136, 3) := dk_182 0 136 (dk_at dksX3_value_2 19 rfl rfl)
theorem dX3_value_70 : decode cX3_value 70 = .ok (.ireturn, 1) := dk_172 (dk_at dksX3_value_2 22 rfl rfl)
theorem dX3_value_71 : decode cX3_value 71 = .ok (.aload_n 0, 1) := dk_42 (dk_at dksX3_value_2 23 rfl rfl)
theorem dX3_value_72 : decode cX3_value 72 = .ok (.aload_n 1, 1) := dk_43 (dk_at dksX3_value_3 0 rfl rfl)
theorem dX3_value_73 : decode cX3_value 73 = .ok (.aload_n 2, 1) := dk_44 (dk_at dksX3_value_3 1 rfl rfl)
theorem dX3_value_74 : decode cX3_value 74 = .ok (.iload_n 3, 1) := dk_29 (dk_at dksX3_value_3 2 rfl rfl)
theorem dX3_value_75 : decode cX3_value 75 = .ok (.invokevirtual 139, 3) := dk_182 0 139 (dk_at dksX3_value_3 3 rfl rfl)
theorem dX3_value_78 : decode cX3_value 78 = .ok (.ireturn, 1) := dk_172 (dk_at dksX3_value_3 6 rfl rfl)
theorem dX3_value_79 : decode cX3_value 79 = .ok (.aload_n 0, 1) := dk_42 (dk_at dksX3_value_3 7 rfl rfl)
theorem dX3_value_80 : decode cX3_value 80 = .ok (.aload_n 1, 1) := dk_43 (dk_at dksX3_value_3 8 rfl rfl)
theorem dX3_value_81 : decode cX3_value 81 = .ok (.getfield 99, 3) := dk_180 0 99 (dk_at dksX3_value_3 9 rfl rfl)
theorem dX3_value_84 : decode cX3_value 84 = .ok (.iconst 0, 1) := dk_3 (dk_at dksX3_value_3 12 rfl rfl)
theorem dX3_value_85 : decode cX3_value 85 = .ok (.invokeinterface 65 2, 5) := by decide +kernel
theorem dX3_value_90 : decode cX3_value 90 = .ok (.checkcast 100, 3) := dk_192 0 100 (dk_at dksX3_value_3 18 rfl rfl)
theorem dX3_value_93 : decode cX3_value 93 = .ok (.aload_n 2, 1) := dk_44 (dk_at dksX3_value_3 21 rfl rfl)
theorem dX3_value_94 : decode cX3_value 94 = .ok (.iload_n 3, 1) := dk_29 (dk_at dksX3_value_3 22 rfl rfl)
theorem dX3_value_95 : decode cX3_value 95 = .ok (.invokevirtual 104, 3) := dk_182 0 104 (dk_at dksX3_value_4 0 rfl rfl)
theorem dX3_value_98 : decode cX3_value 98 = .ok (.istore 4, 2) := dk_54 4 (dk_at dksX3_value_4 3 rfl rfl)
theorem dX3_value_100 : decode cX3_value 100 = .ok (.aload_n 0, 1) := dk_42 (dk_at dksX3_value_4 5 rfl rfl)
theorem dX3_value_101 : decode cX3_value 101 = .ok (.getfield 85, 3) := dk_180 0 85 (dk_at dksX3_value_4 6 rfl rfl)
theorem dX3_value_104 : decode cX3_value 104 = .ok (.ifCond .eq 8, 3) := dk_153 0 8 (dk_at dksX3_value_4 9 rfl rfl)
theorem dX3_value_107 : decode cX3_value 107 = .ok (.iload 4, 2) := dk_21 4 (dk_at dksX3_value_4 12 rfl rfl)
theorem dX3_value_109 : decode cX3_value 109 = .ok (.goto 25, 3) := dk_167 0 25 (dk_at dksX3_value_4 14 rfl rfl)
theorem dX3_value_112 : decode cX3_value 112 = .ok (.aload_n 1, 1) := dk_43 (dk_at dksX3_value_4 17 rfl rfl)
theorem dX3_value_113 : decode cX3_value 113 = .ok (.getfield 108, 3) := dk_180 0 108 (dk_at dksX3_value_4 18 rfl rfl)
theorem dX3_value_116 : decode cX3_value 116 = .ok (.getstatic 142, 3) := dk_178 0 142 (dk_at dksX3_value_4 21 rfl rfl)
theorem dX3_value_119 : decode cX3_value 119 = .ok (.if_acmp .ne 12, 3) := dk_166 0 12 (dk_at dksX3_value_5 0 rfl rfl)
theorem dX3_value_122 : decode cX3_value 122 = .ok (.aload_n 0, 1) := dk_42 (dk_at dksX3_value_5 3 rfl rfl)
theorem dX3_value_123 : decode cX3_value 123 = .ok (.iload 4, 2) := dk_21 4 (dk_at dksX3_value_5 4 rfl rfl)
theorem dX3_value_125 : decode cX3_value 125 = .ok (.invokevirtual 89, 3) := dk_182 0 89 (dk_at dksX3_value_5 6 rfl rfl)
theorem dX3_value_128 : decode cX3_value 128 = .ok (.goto 6, 3) := dk_167 0 6 (dk_at dksX3_value_5 9 rfl rfl)
theorem dX3_value_131 : decode cX3_value 131 = .ok (.iload 4, 2) := dk_21 4 (dk_at dksX3_value_5 12 rfl rfl)
theorem dX3_value_133 : decode cX3_value 133 = .ok (.ineg, 1) := dk_116 (dk_at dksX3_value_5 14 rfl rfl)
theorem dX3_value_134 : decode cX3_value 134 = .ok (.ireturn, 1) := dk_172 (dk_at dksX3_value_5 15 rfl rfl)
theorem dX3_value_135 : decode cX3_value 135 = .ok (.aload_n 0, 1) := dk_42 (dk_at dksX3_value_5 16 rfl rfl)
theorem dX3_value_136 : decode cX3_value 136 = .ok (.aload_n 1, 1) := dk_43 (dk_at dksX3_value_5 17 rfl rfl)
theorem dX3_value_137 : decode cX3_value 137 = .ok (.getfield 99, 3) := dk_180 0 99 (dk_at dksX3_value_5 18 rfl rfl)
theorem dX3_value_140 : decode cX3_value 140 = .ok (.iconst 0, 1) := dk_3 (dk_at dksX3_value_5 21 rfl rfl)
theorem dX3_value_141 : decode cX3_value 141 = .ok (.invokeinterface 65 2, 5) := by decide +kernel
theorem dX3_value_146 : decode cX3_value 146 = .ok (.checkcast 100, 3) := dk_192 0 100 (dk_at dksX3_value_6 5 rfl rfl)
theorem dX3_value_149 : decode cX3_value 149 = .ok (.aload_n 2, 1) := dk_44 (dk_at dksX3_value_6 8 rfl rfl)
theorem dX3_value_150 : decode cX3_value 150 = .ok (.iload_n 3, 1) := dk_29 (dk_at dksX3_value_6 9 rfl rfl)
theorem dX3_value_151 : decode cX3_value 151 = .ok (.invokevirtual 104, 3) := dk_182 0 104 (dk_at dksX3_value_6 10 rfl rfl)
theorem dX3_value_154 : decode cX3_value 154 = .ok (.istore 4, 2) := dk_54 4 (dk_at dksX3_value_6 13 rfl rfl)
theorem dX3_value_156 : decode cX3_value 156 = .ok (.aload_n 0, 1) := dk_42 (dk_at dksX3_value_6 15 rfl rfl)
theorem dX3_value_157 : decode cX3_value 157 = .ok (.getfield 85, 3) := dk_180 0 85 (dk_at dksX3_value_6 16 rfl rfl)
theorem dX3_value_160 : decode cX3_value 160 = .ok (.ifCond .eq 8, 3) := dk_153 0 8 (dk_at dksX3_value_6 19 rfl rfl)
theorem dX3_value_163 : decode cX3_value 163 = .ok (.iload 4, 2) := dk_21 4 (dk_at dksX3_value_6 22 rfl rfl)
theorem dX3_value_165 : decode cX3_value 165 = .ok (.goto 31, 3) := dk_167 0 31 (dk_at dksX3_value_7 0 rfl rfl)
theorem dX3_value_168 : decode cX3_value 168 = .ok (.aload_n 0, 1) := dk_42 (dk_at dksX3_value_7 3 rfl rfl)
theorem dX3_value_169 : decode cX3_value 169 = .ok (.aload_n 1, 1) := dk_43 (dk_at dksX3_value_7 4 rfl rfl)
theorem dX3_value_170 : decode cX3_value 170 = .ok (.getfield 99, 3) := dk_180 0 99 (dk_at dksX3_value_7 5 rfl rfl)
theorem dX3_value_173 : decode cX3_value 173 = .ok (.iload 4, 2) := dk_21 4 (dk_at dksX3_value_7 8 rfl rfl)
theorem dX3_value_175 : decode cX3_value 175 = .ok (.ifCond .eq 7, 3) := dk_153 0 7 (dk_at dksX3_value_7 10 rfl rfl)
theorem dX3_value_178 : decode cX3_value 178 = .ok (.iconst 1, 1) := dk_4 (dk_at dksX3_value_7 13 rfl rfl)
theorem dX3_value_179 : decode cX3_value 179 = .ok (.goto 4, 3) := dk_167 0 4 (dk_at dksX3_value_7 14 rfl rfl)
theorem dX3_value_182 : decode cX3_value 182 = .ok (.iconst 2, 1) := dk_5 (dk_at dksX3_value_7 17 rfl rfl)
theorem dX3_value_183 : decode cX3_value 183 = .ok (.invokeinterface 65 2, 5) := by decide +kernel
theorem dX3_value_188 : decode cX3_value 188 = .ok (.checkcast 100, 3) := dk_192 0 100 (dk_at dksX3_value_8 0 rfl rfl)
theorem dX3_value_191 : decode cX3_value 191 = .ok (.aload_n 2, 1) := dk_44 (dk_at dksX3_value_8 3 rfl rfl)
theorem dX3_value_192 : decode cX3_value 192 = .ok (.iload_n 3, 1) := dk_29 (dk_at dksX3_value_8 4 rfl rfl)
theorem dX3_value_193 : decode cX3_value 193 = .ok (.invokevirtual 104, 3) := dk_182 0 104 (dk_at dksX3_value_8 5 rfl rfl)
theorem dX3_value_196 : decode cX3_value 196 = .ok (.ireturn, 1) := dk_172 (dk_at dksX3_value_8 8 rfl rfl)
theorem dX3_value_197 : decode cX3_value 197 = .ok (.aload_n 0, 1) := dk_42 (dk_at dksX3_value_8 9 rfl rfl)
theorem dX3_value_198 : decode cX3_value 198 = .ok (.aload_n 1, 1) := dk_43 (dk_at dksX3_value_8 10 rfl rfl)
theorem dX3_value_199 : decode cX3_value 199 = .ok (.aload_n 2, 1) := dk_44 (dk_at dksX3_value_8 11 rfl rfl)
theorem dX3_value_200 : decode cX3_value 200 = .ok (.iload_n 3, 1) := dk_29 (dk_at dksX3_value_8 12 rfl rfl)
theorem dX3_value_201 : decode cX3_value 201 = .ok (.invokevirtual 145, 3) := dk_182 0 145 (dk_at dksX3_value_8 13 rfl rfl)
theorem dX3_value_204 : decode cX3_value 204 = .ok (.ireturn, 1) := dk_172 (dk_at dksX3_value_8 16 rfl rfl)
abbrev cX3_invocation : ByteArray := prog_6_method_8_code
def yX3_invocation : MethodName := ⟨RX3, "invocation", "(LProbeConsole$Node;LProbeConsole$Frame;I)I"⟩
def dkwX3_invocation_7 : List UInt8 := [21, 5, 21, 6, 21, 7, 29, 4, 96, 182, 0, 126, 172]
abbrev dktX3_invocation_7 : List UInt8 := dkwX3_invocation_7 ++ []
def dkwX3_invocation_6 : List UInt8 := [21, 4, 182, 0, 122, 58, 8, 25, 8, 199, 0, 12, 42, 16, 252, 182, 0, 89, 167, 0, 18, 42, 25, 8]
abbrev dktX3_invocation_6 : List UInt8 := dkwX3_invocation_6 ++ dktX3_invocation_7
def dkwX3_invocation_5 : List UInt8 := [182, 0, 104, 167, 0, 4, 3, 54, 7, 42, 180, 0, 85, 153, 0, 6, 21, 7, 172, 42, 43, 180, 0, 121]
abbrev dktX3_invocation_5 : List UInt8 := dkwX3_invocation_5 ++ dktX3_invocation_6
def dkwX3_invocation_4 : List UInt8 := [21, 4, 5, 164, 0, 25, 42, 43, 180, 0, 99, 5, 185, 0, 65, 2, 0, 192, 0, 100, 44, 29]
abbrev dktX3_invocation_4 : List UInt8 := dkwX3_invocation_4 ++ dktX3_invocation_5
def dkwX3_invocation_3 : List UInt8 := [192, 0, 100, 44, 29, 182, 0, 104, 167, 0, 4, 3, 54, 6, 42, 180, 0, 85, 153, 0, 6, 21, 6, 172]
abbrev dktX3_invocation_3 : List UInt8 := dkwX3_invocation_3 ++ dktX3_invocation_4
def dkwX3_invocation_2 : List UInt8 := [153, 0, 6, 21, 5, 172, 21, 4, 4, 164, 0, 25, 42, 43, 180, 0, 99, 4, 185, 0, 65, 2, 0]
abbrev dktX3_invocation_2 : List UInt8 := dkwX3_invocation_2 ++ dktX3_invocation_3
def dkwX3_invocation_1 : List UInt8 := [185, 0, 65, 2, 0, 192, 0, 100, 44, 29, 182, 0, 104, 167, 0, 4, 3, 54, 5, 42, 180, 0, 85]
abbrev dktX3_invocation_1 : List UInt8 := dkwX3_invocation_1 ++ dktX3_invocation_2
def dkwX3_invocation_0 : List UInt8 := [43, 180, 0, 99, 185, 0, 59, 1, 0, 54, 4, 21, 4, 158, 0, 25, 42, 43, 180, 0, 99, 3]
abbrev dktX3_invocation_0 : List UInt8 := dkwX3_invocation_0 ++ dktX3_invocation_1
theorem dksX3_invocation_0 : cX3_invocation.data.toList.drop 0 = dktX3_invocation_0 := by decide +kernel
theorem dksX3_invocation_1 : cX3_invocation.data.toList.drop 22 = dktX3_invocation_1 := dk_seg dksX3_invocation_0 22 rfl rfl
theorem dksX3_invocation_2 : cX3_invocation.data.toList.drop 45 = dktX3_invocation_2 := dk_seg dksX3_invocation_1 23 rfl rfl
theorem dksX3_invocation_3 : cX3_invocation.data.toList.drop 68 = dktX3_invocation_3 := dk_seg dksX3_invocation_2 23 rfl rfl
theorem dksX3_invocation_4 : cX3_invocation.data.toList.drop 92 = dktX3_invocation_4 := dk_seg dksX3_invocation_3 24 rfl rfl
theorem dksX3_invocation_5 : cX3_invocation.data.toList.drop 114 = dktX3_invocation_5 := dk_seg dksX3_invocation_4 22 rfl rfl
theorem dksX3_invocation_6 : cX3_invocation.data.toList.drop 138 = dktX3_invocation_6 := dk_seg dksX3_invocation_5 24 rfl rfl
theorem dksX3_invocation_7 : cX3_invocation.data.toList.drop 162 = dktX3_invocation_7 := dk_seg dksX3_invocation_6 24 rfl rfl
theorem dX3_invocation_0 : decode cX3_invocation 0 = .ok (.aload_n 1, 1) := dk_43 (dk_at dksX3_invocation_0 0 rfl rfl)
theorem dX3_invocation_1 : decode cX3_invocation 1 = .ok (.getfield 99, 3) := dk_180 0 99 (dk_at dksX3_invocation_0 1 rfl rfl)
theorem dX3_invocation_4 : decode cX3_invocation 4 = .ok (.invokeinterface 59 1, 5) := by decide +kernel
theorem dX3_invocation_9 : decode cX3_invocation 9 = .ok (.istore 4, 2) := dk_54 4 (dk_at dksX3_invocation_0 9 rfl rfl)
theorem dX3_invocation_11 : decode cX3_invocation 11 = .ok (.iload 4, 2) := dk_21 4 (dk_at dksX3_invocation_0 11 rfl rfl)
theorem dX3_invocation_13 : decode cX3_invocation 13 = .ok (.ifCond .le 25, 3) := dk_158 0 25 (dk_at dksX3_invocation_0 13 rfl rfl)
theorem dX3_invocation_16 : decode cX3_invocation 16 = .ok (.aload_n 0, 1) := dk_42 (dk_at dksX3_invocation_0 16 rfl rfl)
theorem dX3_invocation_17 : decode cX3_invocation 17 = .ok (.aload_n 1, 1) := dk_43 (dk_at dksX3_invocation_0 17 rfl rfl)
theorem dX3_invocation_18 : decode cX3_invocation 18 = .ok (.getfield 99, 3) := dk_180 0 99 (dk_at dksX3_invocation_0 18 rfl rfl)
theorem dX3_invocation_21 : decode cX3_invocation 21 = .ok (.iconst 0, 1) := dk_3 (dk_at dksX3_invocation_0 21 rfl rfl)
theorem dX3_invocation_22 : decode cX3_invocation 22 = .ok (.invokeinterface 65 2, 5) := by decide +kernel
theorem dX3_invocation_27 : decode cX3_invocation 27 = .ok (.checkcast 100, 3) := dk_192 0 100 (dk_at dksX3_invocation_1 5 rfl rfl)
theorem dX3_invocation_30 : decode cX3_invocation 30 = .ok (.aload_n 2, 1) := dk_44 (dk_at dksX3_invocation_1 8 rfl rfl)
theorem dX3_invocation_31 : decode cX3_invocation 31 = .ok (.iload_n 3, 1) := dk_29 (dk_at dksX3_invocation_1 9 rfl rfl)
theorem dX3_invocation_32 : decode cX3_invocation 32 = .ok (.invokevirtual 104, 3) := dk_182 0 104 (dk_at dksX3_invocation_1 10 rfl rfl)
theorem dX3_invocation_35 : decode cX3_invocation 35 = .ok (.goto 4, 3) := dk_167 0 4 (dk_at dksX3_invocation_1 13 rfl rfl)
theorem dX3_invocation_38 : decode cX3_invocation 38 = .ok (.iconst 0, 1) := dk_3 (dk_at dksX3_invocation_1 16 rfl rfl)
theorem dX3_invocation_39 : decode cX3_invocation 39 = .ok (.istore 5, 2) := dk_54 5 (dk_at dksX3_invocation_1 17 rfl rfl)
theorem dX3_invocation_41 : decode cX3_invocation 41 = .ok (.aload_n 0, 1) := dk_42 (dk_at dksX3_invocation_1 19 rfl rfl)
theorem dX3_invocation_42 : decode cX3_invocation 42 = .ok (.getfield 85, 3) := dk_180 0 85 (dk_at dksX3_invocation_1 20 rfl rfl)
theorem dX3_invocation_45 : decode cX3_invocation 45 = .ok (.ifCond .eq 6, 3) := dk_153 0 6 (dk_at dksX3_invocation_2 0 rfl rfl)
theorem dX3_invocation_48 : decode cX3_invocation 48 = .ok (.iload 5, 2) := dk_21 5 (dk_at dksX3_invocation_2 3 rfl rfl)
theorem dX3_invocation_50 : decode cX3_invocation 50 = .ok (.ireturn, 1) := dk_172 (dk_at dksX3_invocation_2 5 rfl rfl)
theorem dX3_invocation_51 : decode cX3_invocation 51 = .ok (.iload 4, 2) := dk_21 4 (dk_at dksX3_invocation_2 6 rfl rfl)
theorem dX3_invocation_53 : decode cX3_invocation 53 = .ok (.iconst 1, 1) := dk_4 (dk_at dksX3_invocation_2 8 rfl rfl)
theorem dX3_invocation_54 : decode cX3_invocation 54 = .ok (.if_icmp .le 25, 3) := dk_164 0 25 (dk_at dksX3_invocation_2 9 rfl rfl)
theorem dX3_invocation_57 : decode cX3_invocation 57 = .ok (.aload_n 0, 1) := dk_42 (dk_at dksX3_invocation_2 12 rfl rfl)
theorem dX3_invocation_58 : decode cX3_invocation 58 = .ok (.aload_n 1, 1) := dk_43 (dk_at dksX3_invocation_2 13 rfl rfl)
theorem dX3_invocation_59 : decode cX3_invocation 59 = .ok (.getfield 99, 3) := dk_180 0 99 (dk_at dksX3_invocation_2 14 rfl rfl)
theorem dX3_invocation_62 : decode cX3_invocation 62 = .ok (.iconst 1, 1) := dk_4 (dk_at dksX3_invocation_2 17 rfl rfl)
theorem dX3_invocation_63 : decode cX3_invocation 63 = .ok (.invokeinterface 65 2, 5) := by decide +kernel
theorem dX3_invocation_68 : decode cX3_invocation 68 = .ok (.checkcast 100, 3) := dk_192 0 100 (dk_at dksX3_invocation_3 0 rfl rfl)
theorem dX3_invocation_71 : decode cX3_invocation 71 = .ok (.aload_n 2, 1) := dk_44 (dk_at dksX3_invocation_3 3 rfl rfl)
theorem dX3_invocation_72 : decode cX3_invocation 72 = .ok (.iload_n 3, 1) := dk_29 (dk_at dksX3_invocation_3 4 rfl rfl)
theorem dX3_invocation_73 : decode cX3_invocation 73 = .ok (.invokevirtual 104, 3) := dk_182 0 104 (dk_at dksX3_invocation_3 5 rfl rfl)
theorem dX3_invocation_76 : decode cX3_invocation 76 = .ok (.goto 4, 3) := dk_167 0 4 (dk_at dksX3_invocation_3 8 rfl rfl)
theorem dX3_invocation_79 : decode cX3_invocation 79 = .ok (.iconst 0, 1) := dk_3 (dk_at dksX3_invocation_3 11 rfl rfl)
theorem dX3_invocation_80 : decode cX3_invocation 80 = .ok (.istore 6, 2) := dk_54 6 (dk_at dksX3_invocation_3 12 rfl rfl)
theorem dX3_invocation_82 : decode cX3_invocation 82 = .ok (.aload_n 0, 1) := dk_42 (dk_at dksX3_invocation_3 14 rfl rfl)
theorem dX3_invocation_83 : decode cX3_invocation 83 = .ok (.getfield 85, 3) := dk_180 0 85 (dk_at dksX3_invocation_3 15 rfl rfl)
theorem dX3_invocation_86 : decode cX3_invocation 86 = .ok (.ifCond .eq 6, 3) := dk_153 0 6 (dk_at dksX3_invocation_3 18 rfl rfl)
theorem dX3_invocation_89 : decode cX3_invocation 89 = .ok (.iload 6, 2) := dk_21 6 (dk_at dksX3_invocation_3 21 rfl rfl)
theorem dX3_invocation_91 : decode cX3_invocation 91 = .ok (.ireturn, 1) := dk_172 (dk_at dksX3_invocation_3 23 rfl rfl)
theorem dX3_invocation_92 : decode cX3_invocation 92 = .ok (.iload 4, 2) := dk_21 4 (dk_at dksX3_invocation_4 0 rfl rfl)
theorem dX3_invocation_94 : decode cX3_invocation 94 = .ok (.iconst 2, 1) := dk_5 (dk_at dksX3_invocation_4 2 rfl rfl)
theorem dX3_invocation_95 : decode cX3_invocation 95 = .ok (.if_icmp .le 25, 3) := dk_164 0 25 (dk_at dksX3_invocation_4 3 rfl rfl)
theorem dX3_invocation_98 : decode cX3_invocation 98 = .ok (.aload_n 0, 1) := dk_42 (dk_at dksX3_invocation_4 6 rfl rfl)
theorem dX3_invocation_99 : decode cX3_invocation 99 = .ok (.aload_n 1, 1) := dk_43 (dk_at dksX3_invocation_4 7 rfl rfl)
theorem dX3_invocation_100 : decode cX3_invocation 100 = .ok (.getfield 99, 3) := dk_180 0 99 (dk_at dksX3_invocation_4 8 rfl rfl)
theorem dX3_invocation_103 : decode cX3_invocation 103 = .ok (.iconst 2, 1) := dk_5 (dk_at dksX3_invocation_4 11 rfl rfl)
theorem dX3_invocation_104 : decode cX3_invocation 104 = .ok (.invokeinterface 65 2, 5) := by decide +kernel
theorem dX3_invocation_109 : decode cX3_invocation 109 = .ok (.checkcast 100, 3) := dk_192 0 100 (dk_at dksX3_invocation_4 17 rfl rfl)
theorem dX3_invocation_112 : decode cX3_invocation 112 = .ok (.aload_n 2, 1) := dk_44 (dk_at dksX3_invocation_4 20 rfl rfl)
theorem dX3_invocation_113 : decode cX3_invocation 113 = .ok (.iload_n 3, 1) := dk_29 (dk_at dksX3_invocation_4 21 rfl rfl)
theorem dX3_invocation_114 : decode cX3_invocation 114 = .ok (.invokevirtual 104, 3) := dk_182 0 104 (dk_at dksX3_invocation_5 0 rfl rfl)
theorem dX3_invocation_117 : decode cX3_invocation 117 = .ok (.goto 4, 3) := dk_167 0 4 (dk_at dksX3_invocation_5 3 rfl rfl)
theorem dX3_invocation_120 : decode cX3_invocation 120 = .ok (.iconst 0, 1) := dk_3 (dk_at dksX3_invocation_5 6 rfl rfl)
theorem dX3_invocation_121 : decode cX3_invocation 121 = .ok (.istore 7, 2) := dk_54 7 (dk_at dksX3_invocation_5 7 rfl rfl)
theorem dX3_invocation_123 : decode cX3_invocation 123 = .ok (.aload_n 0, 1) := dk_42 (dk_at dksX3_invocation_5 9 rfl rfl)
theorem dX3_invocation_124 : decode cX3_invocation 124 = .ok (.getfield 85, 3) := dk_180 0 85 (dk_at dksX3_invocation_5 10 rfl rfl)
theorem dX3_invocation_127 : decode cX3_invocation 127 = .ok (.ifCond .eq 6, 3) := dk_153 0 6 (dk_at dksX3_invocation_5 13 rfl rfl)
theorem dX3_invocation_130 : decode cX3_invocation 130 = .ok (.iload 7, 2) := dk_21 7 (dk_at dksX3_invocation_5 16 rfl rfl)
theorem dX3_invocation_132 : decode cX3_invocation 132 = .ok (.ireturn, 1) := dk_172 (dk_at dksX3_invocation_5 18 rfl rfl)
theorem dX3_invocation_133 : decode cX3_invocation 133 = .ok (.aload_n 0, 1) := dk_42 (dk_at dksX3_invocation_5 19 rfl rfl)
theorem dX3_invocation_134 : decode cX3_invocation 134 = .ok (.aload_n 1, 1) := dk_43 (dk_at dksX3_invocation_5 20 rfl rfl)
theorem dX3_invocation_135 : decode cX3_invocation 135 = .ok (.getfield 121, 3) := dk_180 0 121 (dk_at dksX3_invocation_5 21 rfl rfl)
theorem dX3_invocation_138 : decode cX3_invocation 138 = .ok (.iload 4, 2) := dk_21 4 (dk_at dksX3_invocation_6 0 rfl rfl)
theorem dX3_invocation_140 : decode cX3_invocation 140 = .ok (.invokevirtual 122, 3) := dk_182 0 122 (dk_at dksX3_invocation_6 2 rfl rfl)
theorem dX3_invocation_143 : decode cX3_invocation 143 = .ok (.astore 8, 2) := dk_58 8 (dk_at dksX3_invocation_6 5 rfl rfl)
theorem dX3_invocation_145 : decode cX3_invocation 145 = .ok (.aload 8, 2) := dk_25 8 (dk_at dksX3_invocation_6 7 rfl rfl)
theorem dX3_invocation_147 : decode cX3_invocation 147 = .ok (.ifnonnull 12, 3) := dk_199 0 12 (dk_at dksX3_invocation_6 9 rfl rfl)
theorem dX3_invocation_150 : decode cX3_invocation 150 = .ok (.aload_n 0, 1) := dk_42 (dk_at dksX3_invocation_6 12 rfl rfl)
theorem dX3_invocation_151 : decode cX3_invocation 151 = .ok (.bipush (-4), 2) := dk_16 252 (dk_at dksX3_invocation_6 13 rfl rfl)
theorem dX3_invocation_153 : decode cX3_invocation 153 = .ok (.invokevirtual 89, 3) := dk_182 0 89 (dk_at dksX3_invocation_6 15 rfl rfl)
theorem dX3_invocation_156 : decode cX3_invocation 156 = .ok (.goto 18, 3) := dk_167 0 18 (dk_at dksX3_invocation_6 18 rfl rfl)
theorem dX3_invocation_159 : decode cX3_invocation 159 = .ok (.aload_n 0, 1) := dk_42 (dk_at dksX3_invocation_6 21 rfl rfl)
theorem dX3_invocation_160 : decode cX3_invocation 160 = .ok (.aload 8, 2) := dk_25 8 (dk_at dksX3_invocation_6 22 rfl rfl)
theorem dX3_invocation_162 : decode cX3_invocation 162 = .ok (.iload 5, 2) := dk_21 5 (dk_at dksX3_invocation_7 0 rfl rfl)
theorem dX3_invocation_164 : decode cX3_invocation 164 = .ok (.iload 6, 2) := dk_21 6 (dk_at dksX3_invocation_7 2 rfl rfl)
theorem dX3_invocation_166 : decode cX3_invocation 166 = .ok (.iload 7, 2) := dk_21 7 (dk_at dksX3_invocation_7 4 rfl rfl)
theorem dX3_invocation_168 : decode cX3_invocation 168 = .ok (.iload_n 3, 1) := dk_29 (dk_at dksX3_invocation_7 6 rfl rfl)
theorem dX3_invocation_169 : decode cX3_invocation 169 = .ok (.iconst 1, 1) := dk_4 (dk_at dksX3_invocation_7 7 rfl rfl)
theorem dX3_invocation_170 : decode cX3_invocation 170 = .ok (.iadd, 1) := dk_96 (dk_at dksX3_invocation_7 8 rfl rfl)
theorem dX3_invocation_171 : decode cX3_invocation 171 = .ok (.invokevirtual 126, 3) := dk_182 0 126 (dk_at dksX3_invocation_7 9 rfl rfl)
theorem dX3_invocation_174 : decode cX3_invocation 174 = .ok (.ireturn, 1) := dk_172 (dk_at dksX3_invocation_7 12 rfl rfl)
abbrev cX3_find : ByteArray := prog_6_method_3_code
def yX3_find : MethodName := ⟨RX3, "find", "(Ljava/lang/String;I)LProbeConsole$Method;"⟩
def dkwX3_find_2 : List UInt8 := [43, 182, 0, 79, 153, 0, 6, 25, 4, 176, 132, 3, 1, 167, 255, 201, 1, 176]
abbrev dktX3_find_2 : List UInt8 := dkwX3_find_2 ++ []
def dkwX3_find_1 : List UInt8 := [185, 0, 65, 2, 0, 192, 0, 69, 58, 4, 25, 4, 180, 0, 71, 28, 160, 0, 18, 25, 4, 180, 0, 75]
abbrev dktX3_find_1 : List UInt8 := dkwX3_find_1 ++ dktX3_find_2
def dkwX3_find_0 : List UInt8 := [3, 62, 29, 42, 180, 0, 21, 185, 0, 59, 1, 0, 162, 0, 48, 42, 180, 0, 21, 29]
abbrev dktX3_find_0 : List UInt8 := dkwX3_find_0 ++ dktX3_find_1
theorem dksX3_find_0 : cX3_find.data.toList.drop 0 = dktX3_find_0 := by decide +kernel
theorem dksX3_find_1 : cX3_find.data.toList.drop 20 = dktX3_find_1 := dk_seg dksX3_find_0 20 rfl rfl
theorem dksX3_find_2 : cX3_find.data.toList.drop 44 = dktX3_find_2 := dk_seg dksX3_find_1 24 rfl rfl
theorem dX3_find_0 : decode cX3_find 0 = .ok (.iconst 0, 1) := dk_3 (dk_at dksX3_find_0 0 rfl rfl)
theorem dX3_find_1 : decode cX3_find 1 = .ok (.istore_n 3, 1) := dk_62 (dk_at dksX3_find_0 1 rfl rfl)
theorem dX3_find_2 : decode cX3_find 2 = .ok (.iload_n 3, 1) := dk_29 (dk_at dksX3_find_0 2 rfl rfl)
theorem dX3_find_3 : decode cX3_find 3 = .ok (.aload_n 0, 1) := dk_42 (dk_at dksX3_find_0 3 rfl rfl)
theorem dX3_find_4 : decode cX3_find 4 = .ok (.getfield 21, 3) := dk_180 0 21 (dk_at dksX3_find_0 4 rfl rfl)
theorem dX3_find_7 : decode cX3_find 7 = .ok (.invokeinterface 59 1, 5) := by decide +kernel
theorem dX3_find_12 : decode cX3_find 12 = .ok (.if_icmp .ge 48, 3) := dk_162 0 48 (dk_at dksX3_find_0 12 rfl rfl)
theorem dX3_find_15 : decode cX3_find 15 = .ok (.aload_n 0, 1) := dk_42 (dk_at dksX3_find_0 15 rfl rfl)
theorem dX3_find_16 : decode cX3_find 16 = .ok (.getfield 21, 3) := dk_180 0 21 (dk_at dksX3_find_0 16 rfl rfl)
theorem dX3_find_19 : decode cX3_find 19 = .ok (.iload_n 3, 1) := dk_29 (dk_at dksX3_find_0 19 rfl rfl)
theorem dX3_find_20 : decode cX3_find 20 = .ok (.invokeinterface 65 2, 5) := by decide +kernel
theorem dX3_find_25 : decode cX3_find 25 = .ok (.checkcast 69, 3) := dk_192 0 69 (dk_at dksX3_find_1 5 rfl rfl)
theorem dX3_find_28 : decode cX3_find 28 = .ok (.astore 4, 2) := dk_58 4 (dk_at dksX3_find_1 8 rfl rfl)
theorem dX3_find_30 : decode cX3_find 30 = .ok (.aload 4, 2) := dk_25 4 (dk_at dksX3_find_1 10 rfl rfl)
theorem dX3_find_32 : decode cX3_find 32 = .ok (.getfield 71, 3) := dk_180 0 71 (dk_at dksX3_find_1 12 rfl rfl)
theorem dX3_find_35 : decode cX3_find 35 = .ok (.iload_n 2, 1) := dk_28 (dk_at dksX3_find_1 15 rfl rfl)
theorem dX3_find_36 : decode cX3_find 36 = .ok (.if_icmp .ne 18, 3) := dk_160 0 18 (dk_at dksX3_find_1 16 rfl rfl)
theorem dX3_find_39 : decode cX3_find 39 = .ok (.aload 4, 2) := dk_25 4 (dk_at dksX3_find_1 19 rfl rfl)
theorem dX3_find_41 : decode cX3_find 41 = .ok (.getfield 75, 3) := dk_180 0 75 (dk_at dksX3_find_1 21 rfl rfl)
theorem dX3_find_44 : decode cX3_find 44 = .ok (.aload_n 1, 1) := dk_43 (dk_at dksX3_find_2 0 rfl rfl)
theorem dX3_find_45 : decode cX3_find 45 = .ok (.invokevirtual 79, 3) := dk_182 0 79 (dk_at dksX3_find_2 1 rfl rfl)
theorem dX3_find_48 : decode cX3_find 48 = .ok (.ifCond .eq 6, 3) := dk_153 0 6 (dk_at dksX3_find_2 4 rfl rfl)
theorem dX3_find_51 : decode cX3_find 51 = .ok (.aload 4, 2) := dk_25 4 (dk_at dksX3_find_2 7 rfl rfl)
theorem dX3_find_53 : decode cX3_find 53 = .ok (.areturn, 1) := dk_176 (dk_at dksX3_find_2 9 rfl rfl)
theorem dX3_find_54 : decode cX3_find 54 = .ok (.iinc 3 1, 3) := dk_132 3 1 (dk_at dksX3_find_2 10 rfl rfl)
theorem dX3_find_57 : decode cX3_find 57 = .ok (.goto (-55), 3) := dk_167 255 201 (dk_at dksX3_find_2 13 rfl rfl)
theorem dX3_find_60 : decode cX3_find 60 = .ok (.aconst_null, 1) := dk_1 (dk_at dksX3_find_2 16 rfl rfl)
theorem dX3_find_61 : decode cX3_find 61 = .ok (.areturn, 1) := dk_176 (dk_at dksX3_find_2 17 rfl rfl)
abbrev cX3_held : ByteArray := prog_6_method_7_code
def yX3_held : MethodName := ⟨RX3, "held", "(LProbeConsole$Node;LProbeConsole$Frame;I)I"⟩
def dkwX3_held_2 : List UInt8 := [180, 0, 99, 4, 185, 0, 65, 2, 0, 192, 0, 100, 44, 29, 182, 0, 104, 172]
abbrev dktX3_held_2 : List UInt8 := dkwX3_held_2 ++ []
def dkwX3_held_1 : List UInt8 := [180, 0, 85, 153, 0, 10, 42, 180, 0, 118, 153, 0, 6, 21, 4, 172, 42, 3, 181, 0, 85, 42, 43]
abbrev dktX3_held_1 : List UInt8 := dkwX3_held_1 ++ dktX3_held_2
def dkwX3_held_0 : List UInt8 := [42, 43, 180, 0, 99, 3, 185, 0, 65, 2, 0, 192, 0, 100, 44, 29, 182, 0, 104, 54, 4, 42]
abbrev dktX3_held_0 : List UInt8 := dkwX3_held_0 ++ dktX3_held_1
theorem dksX3_held_0 : cX3_held.data.toList.drop 0 = dktX3_held_0 := by decide +kernel
theorem dksX3_held_1 : cX3_held.data.toList.drop 22 = dktX3_held_1 := dk_seg dksX3_held_0 22 rfl rfl
theorem dksX3_held_2 : cX3_held.data.toList.drop 45 = dktX3_held_2 := dk_seg dksX3_held_1 23 rfl rfl
theorem dX3_held_0 : decode cX3_held 0 = .ok (.aload_n 0, 1) := dk_42 (dk_at dksX3_held_0 0 rfl rfl)
theorem dX3_held_1 : decode cX3_held 1 = .ok (.aload_n 1, 1) := dk_43 (dk_at dksX3_held_0 1 rfl rfl)
theorem dX3_held_2 : decode cX3_held 2 = .ok (.getfield 99, 3) := dk_180 0 99 (dk_at dksX3_held_0 2 rfl rfl)
theorem dX3_held_5 : decode cX3_held 5 = .ok (.iconst 0, 1) := dk_3 (dk_at dksX3_held_0 5 rfl rfl)
theorem dX3_held_6 : decode cX3_held 6 = .ok (.invokeinterface 65 2, 5) := by decide +kernel
theorem dX3_held_11 : decode cX3_held 11 = .ok (.checkcast 100, 3) := dk_192 0 100 (dk_at dksX3_held_0 11 rfl rfl)
theorem dX3_held_14 : decode cX3_held 14 = .ok (.aload_n 2, 1) := dk_44 (dk_at dksX3_held_0 14 rfl rfl)
theorem dX3_held_15 : decode cX3_held 15 = .ok (.iload_n 3, 1) := dk_29 (dk_at dksX3_held_0 15 rfl rfl)
theorem dX3_held_16 : decode cX3_held 16 = .ok (.invokevirtual 104, 3) := dk_182 0 104 (dk_at dksX3_held_0 16 rfl rfl)
theorem dX3_held_19 : decode cX3_held 19 = .ok (.istore 4, 2) := dk_54 4 (dk_at dksX3_held_0 19 rfl rfl)
theorem dX3_held_21 : decode cX3_held 21 = .ok (.aload_n 0, 1) := dk_42 (dk_at dksX3_held_0 21 rfl rfl)
theorem dX3_held_22 : decode cX3_held 22 = .ok (.getfield 85, 3) := dk_180 0 85 (dk_at dksX3_held_1 0 rfl rfl)
theorem dX3_held_25 : decode cX3_held 25 = .ok (.ifCond .eq 10, 3) := dk_153 0 10 (dk_at dksX3_held_1 3 rfl rfl)
theorem dX3_held_28 : decode cX3_held 28 = .ok (.aload_n 0, 1) := dk_42 (dk_at dksX3_held_1 6 rfl rfl)
theorem dX3_held_29 : decode cX3_held 29 = .ok (.getfield 118, 3) := dk_180 0 118 (dk_at dksX3_held_1 7 rfl rfl)
theorem dX3_held_32 : decode cX3_held 32 = .ok (.ifCond .eq 6, 3) := dk_153 0 6 (dk_at dksX3_held_1 10 rfl rfl)
theorem dX3_held_35 : decode cX3_held 35 = .ok (.iload 4, 2) := dk_21 4 (dk_at dksX3_held_1 13 rfl rfl)
theorem dX3_held_37 : decode cX3_held 37 = .ok (.ireturn, 1) := dk_172 (dk_at dksX3_held_1 15 rfl rfl)
theorem dX3_held_38 : decode cX3_held 38 = .ok (.aload_n 0, 1) := dk_42 (dk_at dksX3_held_1 16 rfl rfl)
theorem dX3_held_39 : decode cX3_held 39 = .ok (.iconst 0, 1) := dk_3 (dk_at dksX3_held_1 17 rfl rfl)
theorem dX3_held_40 : decode cX3_held 40 = .ok (.putfield 85, 3) := dk_181 0 85 (dk_at dksX3_held_1 18 rfl rfl)
theorem dX3_held_43 : decode cX3_held 43 = .ok (.aload_n 0, 1) := dk_42 (dk_at dksX3_held_1 21 rfl rfl)
theorem dX3_held_44 : decode cX3_held 44 = .ok (.aload_n 1, 1) := dk_43 (dk_at dksX3_held_1 22 rfl rfl)
theorem dX3_held_45 : decode cX3_held 45 = .ok (.getfield 99, 3) := dk_180 0 99 (dk_at dksX3_held_2 0 rfl rfl)
theorem dX3_held_48 : decode cX3_held 48 = .ok (.iconst 1, 1) := dk_4 (dk_at dksX3_held_2 3 rfl rfl)
theorem dX3_held_49 : decode cX3_held 49 = .ok (.invokeinterface 65 2, 5) := by decide +kernel
theorem dX3_held_54 : decode cX3_held 54 = .ok (.checkcast 100, 3) := dk_192 0 100 (dk_at dksX3_held_2 9 rfl rfl)
theorem dX3_held_57 : decode cX3_held 57 = .ok (.aload_n 2, 1) := dk_44 (dk_at dksX3_held_2 12 rfl rfl)
theorem dX3_held_58 : decode cX3_held 58 = .ok (.iload_n 3, 1) := dk_29 (dk_at dksX3_held_2 13 rfl rfl)
theorem dX3_held_59 : decode cX3_held 59 = .ok (.invokevirtual 104, 3) := dk_182 0 104 (dk_at dksX3_held_2 14 rfl rfl)
theorem dX3_held_62 : decode cX3_held 62 = .ok (.ireturn, 1) := dk_172 (dk_at dksX3_held_2 17 rfl rfl)
abbrev cX3_two : ByteArray := prog_6_method_6_code
def yX3_two : MethodName := ⟨RX3, "two", "(LProbeConsole$Node;LProbeConsole$Frame;I)I"⟩
def dkwX3_two_8 : List UInt8 := [180, 0, 108, 21, 4, 21, 5, 182, 0, 114, 172]
abbrev dktX3_two_8 : List UInt8 := dkwX3_two_8 ++ []
def dkwX3_two_7 : List UInt8 := [167, 0, 34, 3, 167, 0, 30, 21, 4, 21, 5, 164, 0, 7, 4, 167, 0, 19, 3, 167, 0, 15, 42, 43]
abbrev dktX3_two_7 : List UInt8 := dkwX3_two_7 ++ dktX3_two_8
def dkwX3_two_6 : List UInt8 := [21, 4, 21, 5, 162, 0, 7, 4, 167, 0, 49, 3, 167, 0, 45, 21, 4, 21, 5, 160, 0, 7, 4]
abbrev dktX3_two_6 : List UInt8 := dkwX3_two_6 ++ dktX3_two_7
def dkwX3_two_5 : List UInt8 := [21, 4, 21, 5, 96, 167, 0, 76, 21, 4, 21, 5, 100, 167, 0, 68, 21, 4, 21, 5, 104, 167, 0, 60]
abbrev dktX3_two_5 : List UInt8 := dkwX3_two_5 ++ dktX3_two_6
def dkwX3_two_4 : List UInt8 := [170, 0, 0, 0, 114, 0, 0, 0, 7, 0, 0, 0, 14, 0, 0, 0, 45, 0, 0, 0, 53, 0, 0, 0, 61, 0, 0, 0, 114, 0, 0, 0, 114, 0, 0, 0, 69, 0, 0, 0, 84, 0, 0, 0, 99]
abbrev dktX3_two_4 : List UInt8 := dkwX3_two_4 ++ dktX3_two_5
def dkwX3_two_3 : List UInt8 := [182, 0, 111]
abbrev dktX3_two_3 : List UInt8 := dkwX3_two_3 ++ dktX3_two_4
def dkwX3_two_2 : List UInt8 := [192, 0, 100, 44, 29, 182, 0, 104, 54, 5, 42, 180, 0, 85, 153, 0, 6, 21, 5, 172, 43, 180, 0, 108]
abbrev dktX3_two_2 : List UInt8 := dkwX3_two_2 ++ dktX3_two_3
def dkwX3_two_1 : List UInt8 := [180, 0, 85, 153, 0, 8, 21, 4, 167, 0, 22, 42, 43, 180, 0, 99, 4, 185, 0, 65, 2, 0]
abbrev dktX3_two_1 : List UInt8 := dkwX3_two_1 ++ dktX3_two_2
def dkwX3_two_0 : List UInt8 := [42, 43, 180, 0, 99, 3, 185, 0, 65, 2, 0, 192, 0, 100, 44, 29, 182, 0, 104, 54, 4, 42]
abbrev dktX3_two_0 : List UInt8 := dkwX3_two_0 ++ dktX3_two_1
theorem dksX3_two_0 : cX3_two.data.toList.drop 0 = dktX3_two_0 := by decide +kernel
theorem dksX3_two_1 : cX3_two.data.toList.drop 22 = dktX3_two_1 := dk_seg dksX3_two_0 22 rfl rfl
theorem dksX3_two_2 : cX3_two.data.toList.drop 44 = dktX3_two_2 := dk_seg dksX3_two_1 22 rfl rfl
theorem dksX3_two_3 : cX3_two.data.toList.drop 68 = dktX3_two_3 := dk_seg dksX3_two_2 24 rfl rfl
theorem dksX3_two_4 : cX3_two.data.toList.drop 71 = dktX3_two_4 := dk_seg dksX3_two_3 3 rfl rfl
theorem dksX3_two_5 : cX3_two.data.toList.drop 116 = dktX3_two_5 := dk_seg dksX3_two_4 45 rfl rfl
theorem dksX3_two_6 : cX3_two.data.toList.drop 140 = dktX3_two_6 := dk_seg dksX3_two_5 24 rfl rfl
theorem dksX3_two_7 : cX3_two.data.toList.drop 163 = dktX3_two_7 := dk_seg dksX3_two_6 23 rfl rfl
theorem dksX3_two_8 : cX3_two.data.toList.drop 187 = dktX3_two_8 := dk_seg dksX3_two_7 24 rfl rfl
theorem dX3_two_0 : decode cX3_two 0 = .ok (.aload_n 0, 1) := dk_42 (dk_at dksX3_two_0 0 rfl rfl)
theorem dX3_two_1 : decode cX3_two 1 = .ok (.aload_n 1, 1) := dk_43 (dk_at dksX3_two_0 1 rfl rfl)
theorem dX3_two_2 : decode cX3_two 2 = .ok (.getfield 99, 3) := dk_180 0 99 (dk_at dksX3_two_0 2 rfl rfl)
theorem dX3_two_5 : decode cX3_two 5 = .ok (.iconst 0, 1) := dk_3 (dk_at dksX3_two_0 5 rfl rfl)
theorem dX3_two_6 : decode cX3_two 6 = .ok (.invokeinterface 65 2, 5) := by decide +kernel
theorem dX3_two_11 : decode cX3_two 11 = .ok (.checkcast 100, 3) := dk_192 0 100 (dk_at dksX3_two_0 11 rfl rfl)
theorem dX3_two_14 : decode cX3_two 14 = .ok (.aload_n 2, 1) := dk_44 (dk_at dksX3_two_0 14 rfl rfl)
theorem dX3_two_15 : decode cX3_two 15 = .ok (.iload_n 3, 1) := dk_29 (dk_at dksX3_two_0 15 rfl rfl)
theorem dX3_two_16 : decode cX3_two 16 = .ok (.invokevirtual 104, 3) := dk_182 0 104 (dk_at dksX3_two_0 16 rfl rfl)
theorem dX3_two_19 : decode cX3_two 19 = .ok (.istore 4, 2) := dk_54 4 (dk_at dksX3_two_0 19 rfl rfl)
theorem dX3_two_21 : decode cX3_two 21 = .ok (.aload_n 0, 1) := dk_42 (dk_at dksX3_two_0 21 rfl rfl)
theorem dX3_two_22 : decode cX3_two 22 = .ok (.getfield 85, 3) := dk_180 0 85 (dk_at dksX3_two_1 0 rfl rfl)
theorem dX3_two_25 : decode cX3_two 25 = .ok (.ifCond .eq 8, 3) := dk_153 0 8 (dk_at dksX3_two_1 3 rfl rfl)
theorem dX3_two_28 : decode cX3_two 28 = .ok (.iload 4, 2) := dk_21 4 (dk_at dksX3_two_1 6 rfl rfl)
theorem dX3_two_30 : decode cX3_two 30 = .ok (.goto 22, 3) := dk_167 0 22 (dk_at dksX3_two_1 8 rfl rfl)
theorem dX3_two_33 : decode cX3_two 33 = .ok (.aload_n 0, 1) := dk_42 (dk_at dksX3_two_1 11 rfl rfl)
theorem dX3_two_34 : decode cX3_two 34 = .ok (.aload_n 1, 1) := dk_43 (dk_at dksX3_two_1 12 rfl rfl)
theorem dX3_two_35 : decode cX3_two 35 = .ok (.getfield 99, 3) := dk_180 0 99 (dk_at dksX3_two_1 13 rfl rfl)
theorem dX3_two_38 : decode cX3_two 38 = .ok (.iconst 1, 1) := dk_4 (dk_at dksX3_two_1 16 rfl rfl)
theorem dX3_two_39 : decode cX3_two 39 = .ok (.invokeinterface 65 2, 5) := by decide +kernel
theorem dX3_two_44 : decode cX3_two 44 = .ok (.checkcast 100, 3) := dk_192 0 100 (dk_at dksX3_two_2 0 rfl rfl)
theorem dX3_two_47 : decode cX3_two 47 = .ok (.aload_n 2, 1) := dk_44 (dk_at dksX3_two_2 3 rfl rfl)
theorem dX3_two_48 : decode cX3_two 48 = .ok (.iload_n 3, 1) := dk_29 (dk_at dksX3_two_2 4 rfl rfl)
theorem dX3_two_49 : decode cX3_two 49 = .ok (.invokevirtual 104, 3) := dk_182 0 104 (dk_at dksX3_two_2 5 rfl rfl)
theorem dX3_two_52 : decode cX3_two 52 = .ok (.istore 5, 2) := dk_54 5 (dk_at dksX3_two_2 8 rfl rfl)
theorem dX3_two_54 : decode cX3_two 54 = .ok (.aload_n 0, 1) := dk_42 (dk_at dksX3_two_2 10 rfl rfl)
theorem dX3_two_55 : decode cX3_two 55 = .ok (.getfield 85, 3) := dk_180 0 85 (dk_at dksX3_two_2 11 rfl rfl)
theorem dX3_two_58 : decode cX3_two 58 = .ok (.ifCond .eq 6, 3) := dk_153 0 6 (dk_at dksX3_two_2 14 rfl rfl)
theorem dX3_two_61 : decode cX3_two 61 = .ok (.iload 5, 2) := dk_21 5 (dk_at dksX3_two_2 17 rfl rfl)
theorem dX3_two_63 : decode cX3_two 63 = .ok (.ireturn, 1) := dk_172 (dk_at dksX3_two_2 19 rfl rfl)
theorem dX3_two_64 : decode cX3_two 64 = .ok (.aload_n 1, 1) := dk_43 (dk_at dksX3_two_2 20 rfl rfl)
theorem dX3_two_65 : decode cX3_two 65 = .ok (.getfield 108, 3) := dk_180 0 108 (dk_at dksX3_two_2 21 rfl rfl)
theorem dX3_two_68 : decode cX3_two 68 = .ok (.invokevirtual 111, 3) := dk_182 0 111 (dk_at dksX3_two_3 0 rfl rfl)
theorem dX3_two_71 : decode cX3_two 71 = .ok (.tableswitch 114 7 14 #[45, 53, 61, 114, 114, 69, 84, 99], 45) := by decide +kernel
theorem dX3_two_116 : decode cX3_two 116 = .ok (.iload 4, 2) := dk_21 4 (dk_at dksX3_two_5 0 rfl rfl)
theorem dX3_two_118 : decode cX3_two 118 = .ok (.iload 5, 2) := dk_21 5 (dk_at dksX3_two_5 2 rfl rfl)
theorem dX3_two_120 : decode cX3_two 120 = .ok (.iadd, 1) := dk_96 (dk_at dksX3_two_5 4 rfl rfl)
theorem dX3_two_121 : decode cX3_two 121 = .ok (.goto 76, 3) := dk_167 0 76 (dk_at dksX3_two_5 5 rfl rfl)
theorem dX3_two_124 : decode cX3_two 124 = .ok (.iload 4, 2) := dk_21 4 (dk_at dksX3_two_5 8 rfl rfl)
theorem dX3_two_126 : decode cX3_two 126 = .ok (.iload 5, 2) := dk_21 5 (dk_at dksX3_two_5 10 rfl rfl)
theorem dX3_two_128 : decode cX3_two 128 = .ok (.isub, 1) := dk_100 (dk_at dksX3_two_5 12 rfl rfl)
theorem dX3_two_129 : decode cX3_two 129 = .ok (.goto 68, 3) := dk_167 0 68 (dk_at dksX3_two_5 13 rfl rfl)
theorem dX3_two_132 : decode cX3_two 132 = .ok (.iload 4, 2) := dk_21 4 (dk_at dksX3_two_5 16 rfl rfl)
theorem dX3_two_134 : decode cX3_two 134 = .ok (.iload 5, 2) := dk_21 5 (dk_at dksX3_two_5 18 rfl rfl)
theorem dX3_two_136 : decode cX3_two 136 = .ok (.imul, 1) := dk_104 (dk_at dksX3_two_5 20 rfl rfl)
theorem dX3_two_137 : decode cX3_two 137 = .ok (.goto 60, 3) := dk_167 0 60 (dk_at dksX3_two_5 21 rfl rfl)
theorem dX3_two_140 : decode cX3_two 140 = .ok (.iload 4, 2) := dk_21 4 (dk_at dksX3_two_6 0 rfl rfl)
theorem dX3_two_142 : decode cX3_two 142 = .ok (.iload 5, 2) := dk_21 5 (dk_at dksX3_two_6 2 rfl rfl)
theorem dX3_two_144 : decode cX3_two 144 = .ok (.if_icmp .ge 7, 3) := dk_162 0 7 (dk_at dksX3_two_6 4 rfl rfl)
theorem dX3_two_147 : decode cX3_two 147 = .ok (.iconst 1, 1) := dk_4 (dk_at dksX3_two_6 7 rfl rfl)
theorem dX3_two_148 : decode cX3_two 148 = .ok (.goto 49, 3) := dk_167 0 49 (dk_at dksX3_two_6 8 rfl rfl)
theorem dX3_two_151 : decode cX3_two 151 = .ok (.iconst 0, 1) := dk_3 (dk_at dksX3_two_6 11 rfl rfl)
theorem dX3_two_152 : decode cX3_two 152 = .ok (.goto 45, 3) := dk_167 0 45 (dk_at dksX3_two_6 12 rfl rfl)
theorem dX3_two_155 : decode cX3_two 155 = .ok (.iload 4, 2) := dk_21 4 (dk_at dksX3_two_6 15 rfl rfl)
theorem dX3_two_157 : decode cX3_two 157 = .ok (.iload 5, 2) := dk_21 5 (dk_at dksX3_two_6 17 rfl rfl)
theorem dX3_two_159 : decode cX3_two 159 = .ok (.if_icmp .ne 7, 3) := dk_160 0 7 (dk_at dksX3_two_6 19 rfl rfl)
theorem dX3_two_162 : decode cX3_two 162 = .ok (.iconst 1, 1) := dk_4 (dk_at dksX3_two_6 22 rfl rfl)
theorem dX3_two_163 : decode cX3_two 163 = .ok (.goto 34, 3) := dk_167 0 34 (dk_at dksX3_two_7 0 rfl rfl)
theorem dX3_two_166 : decode cX3_two 166 = .ok (.iconst 0, 1) := dk_3 (dk_at dksX3_two_7 3 rfl rfl)
theorem dX3_two_167 : decode cX3_two 167 = .ok (.goto 30, 3) := dk_167 0 30 (dk_at dksX3_two_7 4 rfl rfl)
theorem dX3_two_170 : decode cX3_two 170 = .ok (.iload 4, 2) := dk_21 4 (dk_at dksX3_two_7 7 rfl rfl)
theorem dX3_two_172 : decode cX3_two 172 = .ok (.iload 5, 2) := dk_21 5 (dk_at dksX3_two_7 9 rfl rfl)
theorem dX3_two_174 : decode cX3_two 174 = .ok (.if_icmp .le 7, 3) := dk_164 0 7 (dk_at dksX3_two_7 11 rfl rfl)
theorem dX3_two_177 : decode cX3_two 177 = .ok (.iconst 1, 1) := dk_4 (dk_at dksX3_two_7 14 rfl rfl)
theorem dX3_two_178 : decode cX3_two 178 = .ok (.goto 19, 3) := dk_167 0 19 (dk_at dksX3_two_7 15 rfl rfl)
theorem dX3_two_181 : decode cX3_two 181 = .ok (.iconst 0, 1) := dk_3 (dk_at dksX3_two_7 18 rfl rfl)
theorem dX3_two_182 : decode cX3_two 182 = .ok (.goto 15, 3) := dk_167 0 15 (dk_at dksX3_two_7 19 rfl rfl)
theorem dX3_two_185 : decode cX3_two 185 = .ok (.aload_n 0, 1) := dk_42 (dk_at dksX3_two_7 22 rfl rfl)
theorem dX3_two_186 : decode cX3_two 186 = .ok (.aload_n 1, 1) := dk_43 (dk_at dksX3_two_7 23 rfl rfl)
theorem dX3_two_187 : decode cX3_two 187 = .ok (.getfield 108, 3) := dk_180 0 108 (dk_at dksX3_two_8 0 rfl rfl)
theorem dX3_two_190 : decode cX3_two 190 = .ok (.iload 4, 2) := dk_21 4 (dk_at dksX3_two_8 3 rfl rfl)
theorem dX3_two_192 : decode cX3_two 192 = .ok (.iload 5, 2) := dk_21 5 (dk_at dksX3_two_8 5 rfl rfl)
theorem dX3_two_194 : decode cX3_two 194 = .ok (.invokevirtual 114, 3) := dk_182 0 114 (dk_at dksX3_two_8 7 rfl rfl)
theorem dX3_two_197 : decode cX3_two 197 = .ok (.ireturn, 1) := dk_172 (dk_at dksX3_two_8 10 rfl rfl)
abbrev cX3_divide : ByteArray := prog_6_method_5_code
def yX3_divide : MethodName := ⟨RX3, "divide", "(LProbeConsole$Kind;II)I"⟩
def dkwX3_divide_1 : List UInt8 := [29, 112, 172]
abbrev dktX3_divide_1 : List UInt8 := dkwX3_divide_1 ++ []
def dkwX3_divide_0 : List UInt8 := [29, 154, 0, 9, 42, 2, 182, 0, 89, 172, 43, 178, 0, 93, 166, 0, 9, 28, 29, 108, 167, 0, 6, 28]
abbrev dktX3_divide_0 : List UInt8 := dkwX3_divide_0 ++ dktX3_divide_1
theorem dksX3_divide_0 : cX3_divide.data.toList.drop 0 = dktX3_divide_0 := by decide +kernel
theorem dksX3_divide_1 : cX3_divide.data.toList.drop 24 = dktX3_divide_1 := dk_seg dksX3_divide_0 24 rfl rfl
theorem dX3_divide_0 : decode cX3_divide 0 = .ok (.iload_n 3, 1) := dk_29 (dk_at dksX3_divide_0 0 rfl rfl)
theorem dX3_divide_1 : decode cX3_divide 1 = .ok (.ifCond .ne 9, 3) := dk_154 0 9 (dk_at dksX3_divide_0 1 rfl rfl)
theorem dX3_divide_4 : decode cX3_divide 4 = .ok (.aload_n 0, 1) := dk_42 (dk_at dksX3_divide_0 4 rfl rfl)
theorem dX3_divide_5 : decode cX3_divide 5 = .ok (.iconst (-1), 1) := dk_2 (dk_at dksX3_divide_0 5 rfl rfl)
theorem dX3_divide_6 : decode cX3_divide 6 = .ok (.invokevirtual 89, 3) := dk_182 0 89 (dk_at dksX3_divide_0 6 rfl rfl)
theorem dX3_divide_9 : decode cX3_divide 9 = .ok (.ireturn, 1) := dk_172 (dk_at dksX3_divide_0 9 rfl rfl)
theorem dX3_divide_10 : decode cX3_divide 10 = .ok (.aload_n 1, 1) := dk_43 (dk_at dksX3_divide_0 10 rfl rfl)
theorem dX3_divide_11 : decode cX3_divide 11 = .ok (.getstatic 93, 3) := dk_178 0 93 (dk_at dksX3_divide_0 11 rfl rfl)
theorem dX3_divide_14 : decode cX3_divide 14 = .ok (.if_acmp .ne 9, 3) := dk_166 0 9 (dk_at dksX3_divide_0 14 rfl rfl)
theorem dX3_divide_17 : decode cX3_divide 17 = .ok (.iload_n 2, 1) := dk_28 (dk_at dksX3_divide_0 17 rfl rfl)
theorem dX3_divide_18 : decode cX3_divide 18 = .ok (.iload_n 3, 1) := dk_29 (dk_at dksX3_divide_0 18 rfl rfl)
theorem dX3_divide_19 : decode cX3_divide 19 = .ok (.idiv, 1) := dk_108 (dk_at dksX3_divide_0 19 rfl rfl)
theorem dX3_divide_20 : decode cX3_divide 20 = .ok (.goto 6, 3) := dk_167 0 6 (dk_at dksX3_divide_0 20 rfl rfl)
theorem dX3_divide_23 : decode cX3_divide 23 = .ok (.iload_n 2, 1) := dk_28 (dk_at dksX3_divide_0 23 rfl rfl)
theorem dX3_divide_24 : decode cX3_divide 24 = .ok (.iload_n 3, 1) := dk_29 (dk_at dksX3_divide_1 0 rfl rfl)
theorem dX3_divide_25 : decode cX3_divide 25 = .ok (.irem, 1) := dk_112 (dk_at dksX3_divide_1 1 rfl rfl)
theorem dX3_divide_26 : decode cX3_divide 26 = .ok (.ireturn, 1) := dk_172 (dk_at dksX3_divide_1 2 rfl rfl)
theorem q118 : (Jvm.Cond.initialized "ProbeConsole$Machine") ∈ lw_all := lw_g (lw_at lw_m1 3 rfl) rfl
theorem q212 : (Jvm.Cond.instantiable "ProbeConsole$Machine" (10 : Nat)) ∈ lw_all := lw_g (lw_at lw_m1 97 rfl) rfl
theorem q214 : (Jvm.Cond.instanceMethod ({ cls := "ProbeConsole$Machine", name := "<init>", desc := "()V" } : Jvm.MethodName)) ∈ lw_all := lw_g (lw_at lw_m1 99 rfl) rfl
theorem q215 : (Jvm.Cond.code ({ cls := "ProbeConsole$Machine", name := "<init>", desc := "()V" } : Jvm.MethodName) prog_6_method_1_code (2 : Nat) (Option.none : Option Jvm.ClassFile.FieldType)) ∈ lw_all := lw_g (lw_at lw_m1 100 rfl) rfl
theorem q216 : (Jvm.Cond.methodLink "ProbeConsole$Machine" (3 : Nat) ({ cls := "java/lang/Object", name := "<init>", desc := "()V" } : Jvm.MethodName)) ∈ lw_all := lw_g (lw_at lw_m1 101 rfl) rfl
theorem q217 : (Jvm.Cond.classLink "ProbeConsole$Machine" (9 : Nat) "java/util/HashMap") ∈ lw_all := lw_g (lw_at lw_m1 102 rfl) rfl
theorem q219 : (Jvm.Cond.methodLink "ProbeConsole$Machine" (11 : Nat) ({ cls := "java/util/HashMap", name := "<init>", desc := "()V" } : Jvm.MethodName)) ∈ lw_all := lw_g (lw_at lw_m1 104 rfl) rfl
theorem q249 : (Jvm.Cond.classLink "ProbeConsole$Machine" (18 : Nat) "java/util/ArrayList") ∈ lw_all := lw_g (lw_at lw_m1 134 rfl) rfl
theorem q251 : (Jvm.Cond.methodLink "ProbeConsole$Machine" (20 : Nat) ({ cls := "java/util/ArrayList", name := "<init>", desc := "()V" } : Jvm.MethodName)) ∈ lw_all := lw_g (lw_at lw_m1 136 rfl) rfl
theorem q275 : (Jvm.Cond.classLink "ProbeConsole$Machine" (25 : Nat) "java/util/TreeMap") ∈ lw_all := lw_g (lw_at lw_m1 160 rfl) rfl
theorem q277 : (Jvm.Cond.methodLink "ProbeConsole$Machine" (27 : Nat) ({ cls := "java/util/TreeMap", name := "<init>", desc := "()V" } : Jvm.MethodName)) ∈ lw_all := lw_g (lw_at lw_m1 162 rfl) rfl
theorem q302 : (Jvm.Cond.classLink "ProbeConsole$Machine" (38 : Nat) "ProbeConsole$Frame") ∈ lw_all := lw_g (lw_at lw_m1 187 rfl) rfl
theorem q305 : (Jvm.Cond.methodLinkNest "ProbeConsole$Machine" (44 : Nat) ({ cls := "ProbeConsole$Frame", name := "<init>", desc := "()V" } : Jvm.MethodName) "ProbeConsole") ∈ lw_tbl := lw_at lw_m1 190 rfl
theorem q310 : (Jvm.Cond.fieldLinkNest "ProbeConsole$Machine" (132 : Nat) "ProbeConsole$Frame" "values" "[I" "ProbeConsole") ∈ lw_tbl := lw_at lw_m1 195 rfl
theorem q315 : (Jvm.Cond.fieldLink "ProbeConsole$Machine" (12 : Nat) "ProbeConsole$Machine" "methods" "Ljava/util/Map;") ∈ lw_all := lw_g (lw_at lw_m1 200 rfl) rfl
theorem q317 : (Jvm.Cond.fieldLink "ProbeConsole$Machine" (21 : Nat) "ProbeConsole$Machine" "all" "Ljava/util/List;") ∈ lw_all := lw_g (lw_at lw_m1 202 rfl) rfl
theorem q319 : (Jvm.Cond.fieldLink "ProbeConsole$Machine" (28 : Nat) "ProbeConsole$Machine" "jobs" "Ljava/util/TreeMap;") ∈ lw_all := lw_g (lw_at lw_m1 204 rfl) rfl
theorem q321 : (Jvm.Cond.fieldLink "ProbeConsole$Machine" (32 : Nat) "ProbeConsole$Machine" "records" "Ljava/util/List;") ∈ lw_all := lw_g (lw_at lw_m1 206 rfl) rfl
theorem q323 : (Jvm.Cond.fieldLink "ProbeConsole$Machine" (35 : Nat) "ProbeConsole$Machine" "kept" "Ljava/util/List;") ∈ lw_all := lw_g (lw_at lw_m1 208 rfl) rfl
theorem q325 : (Jvm.Cond.fieldLink "ProbeConsole$Machine" (85 : Nat) "ProbeConsole$Machine" "thrown" "Z") ∈ lw_all := lw_g (lw_at lw_m1 210 rfl) rfl
theorem q327 : (Jvm.Cond.fieldLink "ProbeConsole$Machine" (118 : Nat) "ProbeConsole$Machine" "ended" "Z") ∈ lw_all := lw_g (lw_at lw_m1 212 rfl) rfl
theorem q328 : (Jvm.Cond.fieldLink "ProbeConsole$Machine" (214 : Nat) "ProbeConsole$Machine" "invoked" "I") ∈ lw_all := lw_g (lw_at lw_m1 213 rfl) rfl
theorem q330 : (Jvm.Cond.fieldLink "ProbeConsole$Machine" (184 : Nat) "ProbeConsole$Machine" "blind" "Z") ∈ lw_all := lw_g (lw_at lw_m1 215 rfl) rfl
theorem q331 : (Jvm.Cond.fieldLink "ProbeConsole$Machine" (40 : Nat) "ProbeConsole$Machine" "frames" "[LProbeConsole$Frame;") ∈ lw_all := lw_g (lw_at lw_m1 216 rfl) rfl
theorem q332 : (Jvm.Cond.laysFinal "ProbeConsole$Machine" "ProbeConsole$Machine" "methods" "Ljava/util/Map;") ∈ lw_all := lw_g (lw_at lw_m1 217 rfl) rfl
theorem q333 : (Jvm.Cond.soleField "ProbeConsole$Machine" "methods") ∈ lw_all := lw_g (lw_at lw_m1 218 rfl) rfl
theorem q334 : (Jvm.Cond.laysFinal "ProbeConsole$Machine" "ProbeConsole$Machine" "all" "Ljava/util/List;") ∈ lw_all := lw_g (lw_at lw_m1 219 rfl) rfl
theorem q335 : (Jvm.Cond.soleField "ProbeConsole$Machine" "all") ∈ lw_all := lw_g (lw_at lw_m1 220 rfl) rfl
theorem q336 : (Jvm.Cond.laysFinal "ProbeConsole$Machine" "ProbeConsole$Machine" "jobs" "Ljava/util/TreeMap;") ∈ lw_all := lw_g (lw_at lw_m1 221 rfl) rfl
theorem q337 : (Jvm.Cond.soleField "ProbeConsole$Machine" "jobs") ∈ lw_all := lw_g (lw_at lw_m1 222 rfl) rfl
theorem q338 : (Jvm.Cond.laysFinal "ProbeConsole$Machine" "ProbeConsole$Machine" "records" "Ljava/util/List;") ∈ lw_all := lw_g (lw_at lw_m1 223 rfl) rfl
theorem q339 : (Jvm.Cond.soleField "ProbeConsole$Machine" "records") ∈ lw_all := lw_g (lw_at lw_m1 224 rfl) rfl
theorem q340 : (Jvm.Cond.laysFinal "ProbeConsole$Machine" "ProbeConsole$Machine" "kept" "Ljava/util/List;") ∈ lw_all := lw_g (lw_at lw_m1 225 rfl) rfl
theorem q341 : (Jvm.Cond.soleField "ProbeConsole$Machine" "kept") ∈ lw_all := lw_g (lw_at lw_m1 226 rfl) rfl
theorem q342 : (Jvm.Cond.lays "ProbeConsole$Machine" "ProbeConsole$Machine" "thrown" "Z") ∈ lw_all := lw_g (lw_at lw_m1 227 rfl) rfl
theorem q343 : (Jvm.Cond.soleField "ProbeConsole$Machine" "thrown") ∈ lw_all := lw_g (lw_at lw_m1 228 rfl) rfl
theorem q344 : (Jvm.Cond.lays "ProbeConsole$Machine" "ProbeConsole$Machine" "ended" "Z") ∈ lw_all := lw_g (lw_at lw_m1 229 rfl) rfl
theorem q345 : (Jvm.Cond.soleField "ProbeConsole$Machine" "ended") ∈ lw_all := lw_g (lw_at lw_m1 230 rfl) rfl
theorem q346 : (Jvm.Cond.lays "ProbeConsole$Machine" "ProbeConsole$Machine" "invoked" "I") ∈ lw_all := lw_g (lw_at lw_m1 231 rfl) rfl
theorem q347 : (Jvm.Cond.soleField "ProbeConsole$Machine" "invoked") ∈ lw_all := lw_g (lw_at lw_m1 232 rfl) rfl
theorem q348 : (Jvm.Cond.lays "ProbeConsole$Machine" "ProbeConsole$Machine" "blind" "Z") ∈ lw_all := lw_g (lw_at lw_m1 233 rfl) rfl
theorem q349 : (Jvm.Cond.soleField "ProbeConsole$Machine" "blind") ∈ lw_all := lw_g (lw_at lw_m1 234 rfl) rfl
theorem q350 : (Jvm.Cond.laysFinal "ProbeConsole$Machine" "ProbeConsole$Machine" "frames" "[LProbeConsole$Frame;") ∈ lw_all := lw_g (lw_at lw_m1 235 rfl) rfl
theorem q351 : (Jvm.Cond.soleField "ProbeConsole$Machine" "frames") ∈ lw_all := lw_g (lw_at lw_m1 236 rfl) rfl
theorem q352 : (Jvm.Cond.superclass "ProbeConsole$Machine" "java/lang/Object") ∈ lw_all := lw_g (lw_at lw_m1 237 rfl) rfl
theorem q894 : (Jvm.Cond.fieldLinkNest "ProbeConsole$Machine" (108 : Nat) "ProbeConsole$Node" "kind" "LProbeConsole$Kind;" "ProbeConsole") ∈ lw_tbl := lw_at lw_m4 59 rfl
theorem q896 : (Jvm.Cond.fieldLinkNest "ProbeConsole$Machine" (130 : Nat) "ProbeConsole$Node" "value" "I" "ProbeConsole") ∈ lw_tbl := lw_at lw_m4 61 rfl
theorem q898 : (Jvm.Cond.fieldLinkNest "ProbeConsole$Machine" (121 : Nat) "ProbeConsole$Node" "name" "Ljava/lang/String;" "ProbeConsole") ∈ lw_tbl := lw_at lw_m4 63 rfl
theorem q900 : (Jvm.Cond.fieldLinkNest "ProbeConsole$Machine" (99 : Nat) "ProbeConsole$Node" "parts" "Ljava/util/List;" "ProbeConsole") ∈ lw_tbl := lw_at lw_m4 65 rfl
theorem q1003 : (Jvm.Cond.selects "ProbeConsole$Machine" ({ cls := "java/lang/Object", name := "getClass", desc := "()Ljava/lang/Class;" } : Jvm.MethodName) ({ cls := "java/lang/Object", name := "getClass", desc := "()Ljava/lang/Class;" } : Jvm.MethodName)) ∈ lw_all := lw_g (lw_at lw_m4 168 rfl) rfl
theorem q1080 : (Jvm.Cond.fieldLinkNest "ProbeConsole$Machine" (162 : Nat) "ProbeConsole$Method" "number" "I" "ProbeConsole") ∈ lw_tbl := lw_at lw_m5 5 rfl
theorem q1082 : (Jvm.Cond.fieldLinkNest "ProbeConsole$Machine" (75 : Nat) "ProbeConsole$Method" "name" "Ljava/lang/String;" "ProbeConsole") ∈ lw_tbl := lw_at lw_m5 7 rfl
theorem q1085 : (Jvm.Cond.fieldLinkNest "ProbeConsole$Machine" (71 : Nat) "ProbeConsole$Method" "parameters" "I" "ProbeConsole") ∈ lw_tbl := lw_at lw_m5 10 rfl
theorem q1088 : (Jvm.Cond.fieldLinkNest "ProbeConsole$Machine" (221 : Nat) "ProbeConsole$Method" "body" "LProbeConsole$Node;" "ProbeConsole") ∈ lw_tbl := lw_at lw_m5 13 rfl
theorem q1099 : (Jvm.Cond.static ({ cls := "ProbeConsole$Machine", name := "key", desc := "(Ljava/lang/String;I)Ljava/lang/String;" } : Jvm.MethodName)) ∈ lw_all := lw_g (lw_at lw_m5 24 rfl) rfl
theorem q1100 : (Jvm.Cond.code ({ cls := "ProbeConsole$Machine", name := "key", desc := "(Ljava/lang/String;I)Ljava/lang/String;" } : Jvm.MethodName) prog_6_method_2_code (2 : Nat) (Option.some (Jvm.ClassFile.FieldType.object "java/lang/String"))) ∈ lw_all := lw_g (lw_at lw_m5 25 rfl) rfl
theorem q1101 : (Jvm.Cond.classLink "ProbeConsole$Machine" (45 : Nat) "java/lang/StringBuilder") ∈ lw_all := lw_g (lw_at lw_m5 26 rfl) rfl
theorem q1102 : (Jvm.Cond.methodLink "ProbeConsole$Machine" (47 : Nat) ({ cls := "java/lang/StringBuilder", name := "<init>", desc := "()V" } : Jvm.MethodName)) ∈ lw_all := lw_g (lw_at lw_m5 27 rfl) rfl
theorem q1103 : (Jvm.Cond.methodLink "ProbeConsole$Machine" (48 : Nat) ({ cls := "java/lang/StringBuilder", name := "append", desc := "(Ljava/lang/String;)Ljava/lang/StringBuilder;" } : Jvm.MethodName)) ∈ lw_all := lw_g (lw_at lw_m5 28 rfl) rfl
theorem q1104 : (Jvm.Cond.methodLink "ProbeConsole$Machine" (52 : Nat) ({ cls := "java/lang/StringBuilder", name := "append", desc := "(I)Ljava/lang/StringBuilder;" } : Jvm.MethodName)) ∈ lw_all := lw_g (lw_at lw_m5 29 rfl) rfl
theorem q1105 : (Jvm.Cond.methodLink "ProbeConsole$Machine" (55 : Nat) ({ cls := "java/lang/StringBuilder", name := "toString", desc := "()Ljava/lang/String;" } : Jvm.MethodName)) ∈ lw_all := lw_g (lw_at lw_m5 30 rfl) rfl
theorem q1139 : (Jvm.Cond.selects "ProbeConsole$Machine" ({ cls := "java/lang/Object", name := "hashCode", desc := "()I" } : Jvm.MethodName) ({ cls := "java/lang/Object", name := "hashCode", desc := "()I" } : Jvm.MethodName)) ∈ lw_all := lw_g (lw_at lw_m5 64 rfl) rfl
theorem q1230 : (Jvm.Cond.selects "ProbeConsole$Machine" ({ cls := "java/lang/Object", name := "equals", desc := "(Ljava/lang/Object;)Z" } : Jvm.MethodName) ({ cls := "java/lang/Object", name := "equals", desc := "(Ljava/lang/Object;)Z" } : Jvm.MethodName)) ∈ lw_all := lw_g (lw_at lw_m5 155 rfl) rfl
theorem q1855 : (Jvm.Cond.fieldLinkNest "ProbeConsole$Machine" (174 : Nat) "ProbeConsole$Job" "kind" "I" "ProbeConsole") ∈ lw_tbl := lw_at lw_m8 60 rfl
theorem q1858 : (Jvm.Cond.fieldLinkNest "ProbeConsole$Machine" (204 : Nat) "ProbeConsole$Job" "point" "I" "ProbeConsole") ∈ lw_tbl := lw_at lw_m8 63 rfl
theorem q1860 : (Jvm.Cond.fieldLinkNest "ProbeConsole$Machine" (157 : Nat) "ProbeConsole$Job" "expression" "LProbeConsole$Node;" "ProbeConsole") ∈ lw_tbl := lw_at lw_m8 65 rfl
theorem q1862 : (Jvm.Cond.fieldLinkNest "ProbeConsole$Machine" (153 : Nat) "ProbeConsole$Job" "condition" "LProbeConsole$Node;" "ProbeConsole") ∈ lw_tbl := lw_at lw_m8 67 rfl
theorem q1865 : (Jvm.Cond.fieldLinkNest "ProbeConsole$Machine" (171 : Nat) "ProbeConsole$Job" "limit" "I" "ProbeConsole") ∈ lw_tbl := lw_at lw_m8 70 rfl
theorem q1868 : (Jvm.Cond.fieldLinkNest "ProbeConsole$Machine" (148 : Nat) "ProbeConsole$Job" "made" "I" "ProbeConsole") ∈ lw_tbl := lw_at lw_m8 73 rfl
theorem q1871 : (Jvm.Cond.fieldLinkNest "ProbeConsole$Machine" (176 : Nat) "ProbeConsole$Job" "counts" "[I" "ProbeConsole") ∈ lw_tbl := lw_at lw_m8 76 rfl
theorem q2021 : (Jvm.Cond.instanceMethod ({ cls := "ProbeConsole$Machine", name := "begin", desc := "(LProbeConsole$Method;IIIZ)I" } : Jvm.MethodName)) ∈ lw_all := lw_g (lw_at lw_m8 226 rfl) rfl
theorem q2022 : (Jvm.Cond.selects "ProbeConsole$Machine" ({ cls := "ProbeConsole$Machine", name := "begin", desc := "(LProbeConsole$Method;IIIZ)I" } : Jvm.MethodName) ({ cls := "ProbeConsole$Machine", name := "begin", desc := "(LProbeConsole$Method;IIIZ)I" } : Jvm.MethodName)) ∈ lw_all := lw_g (lw_at lw_m8 227 rfl) rfl
theorem q2023 : (Jvm.Cond.code ({ cls := "ProbeConsole$Machine", name := "begin", desc := "(LProbeConsole$Method;IIIZ)I" } : Jvm.MethodName) prog_6_method_14_code (6 : Nat) (Option.some Jvm.ClassFile.FieldType.int)) ∈ lw_all := lw_g (lw_at lw_m8 228 rfl) rfl
theorem q2024 : (Jvm.Cond.methodLink "ProbeConsole$Machine" (126 : Nat) ({ cls := "ProbeConsole$Machine", name := "invoke", desc := "(LProbeConsole$Method;IIII)I" } : Jvm.MethodName)) ∈ lw_all := lw_g (lw_at lw_m8 229 rfl) rfl
theorem q2025 : (Jvm.Cond.privateMethod ({ cls := "ProbeConsole$Machine", name := "invoke", desc := "(LProbeConsole$Method;IIII)I" } : Jvm.MethodName)) ∈ lw_tbl := lw_at lw_m8 230 rfl
theorem q2026 : (Jvm.Cond.instanceMethod ({ cls := "ProbeConsole$Machine", name := "invoke", desc := "(LProbeConsole$Method;IIII)I" } : Jvm.MethodName)) ∈ lw_all := lw_g (lw_at lw_m8 231 rfl) rfl
theorem q2027 : (Jvm.Cond.code ({ cls := "ProbeConsole$Machine", name := "invoke", desc := "(LProbeConsole$Method;IIII)I" } : Jvm.MethodName) prog_6_method_13_code (8 : Nat) (Option.some Jvm.ClassFile.FieldType.int)) ∈ lw_all := lw_g (lw_at lw_m8 232 rfl) rfl
theorem q2028 : (Jvm.Cond.methodLink "ProbeConsole$Machine" (89 : Nat) ({ cls := "ProbeConsole$Machine", name := "fail", desc := "(I)I" } : Jvm.MethodName)) ∈ lw_all := lw_g (lw_at lw_m8 233 rfl) rfl
theorem q2029 : (Jvm.Cond.privateMethod ({ cls := "ProbeConsole$Machine", name := "fail", desc := "(I)I" } : Jvm.MethodName)) ∈ lw_tbl := lw_at lw_m8 234 rfl
theorem q2030 : (Jvm.Cond.instanceMethod ({ cls := "ProbeConsole$Machine", name := "fail", desc := "(I)I" } : Jvm.MethodName)) ∈ lw_all := lw_g (lw_at lw_m8 235 rfl) rfl
theorem q2031 : (Jvm.Cond.code ({ cls := "ProbeConsole$Machine", name := "fail", desc := "(I)I" } : Jvm.MethodName) prog_6_method_4_code (2 : Nat) (Option.some Jvm.ClassFile.FieldType.int)) ∈ lw_all := lw_g (lw_at lw_m8 236 rfl) rfl
theorem q2032 : (Jvm.Cond.methodLink "ProbeConsole$Machine" (217 : Nat) ({ cls := "ProbeConsole$Machine", name := "probe", desc := "(LProbeConsole$Method;LProbeConsole$Frame;III)V" } : Jvm.MethodName)) ∈ lw_all := lw_g (lw_at lw_m8 237 rfl) rfl
theorem q2033 : (Jvm.Cond.privateMethod ({ cls := "ProbeConsole$Machine", name := "probe", desc := "(LProbeConsole$Method;LProbeConsole$Frame;III)V" } : Jvm.MethodName)) ∈ lw_tbl := lw_at lw_m8 238 rfl
theorem q2034 : (Jvm.Cond.instanceMethod ({ cls := "ProbeConsole$Machine", name := "probe", desc := "(LProbeConsole$Method;LProbeConsole$Frame;III)V" } : Jvm.MethodName)) ∈ lw_all := lw_g (lw_at lw_m8 239 rfl) rfl
theorem q2035 : (Jvm.Cond.code ({ cls := "ProbeConsole$Machine", name := "probe", desc := "(LProbeConsole$Method;LProbeConsole$Frame;III)V" } : Jvm.MethodName) prog_6_method_12_code (10 : Nat) (Option.none : Option Jvm.ClassFile.FieldType)) ∈ lw_all := lw_g (lw_at lw_m9 0 rfl) rfl
theorem q2036 : (Jvm.Cond.methodLink "ProbeConsole$Machine" (187 : Nat) ({ cls := "java/lang/Integer", name := "valueOf", desc := "(I)Ljava/lang/Integer;" } : Jvm.MethodName)) ∈ lw_all := lw_g (lw_at lw_m9 1 rfl) rfl
theorem q2037 : (Jvm.Cond.methodLink "ProbeConsole$Machine" (193 : Nat) ({ cls := "java/util/TreeMap", name := "get", desc := "(Ljava/lang/Object;)Ljava/lang/Object;" } : Jvm.MethodName)) ∈ lw_all := lw_g (lw_at lw_m9 2 rfl) rfl
theorem q2041 : (Jvm.Cond.classLink "ProbeConsole$Machine" (149 : Nat) "ProbeConsole$Job") ∈ lw_all := lw_g (lw_at lw_m9 6 rfl) rfl
theorem q2042 : (Jvm.Cond.methodLink "ProbeConsole$Machine" (196 : Nat) ({ cls := "ProbeConsole$Job", name := "fits", desc := "(Ljava/lang/String;)Z" } : Jvm.MethodName)) ∈ lw_all := lw_g (lw_at lw_m9 7 rfl) rfl
theorem q2048 : (Jvm.Cond.methodLink "ProbeConsole$Machine" (200 : Nat) ({ cls := "ProbeConsole$Machine", name := "see", desc := "(ILProbeConsole$Job;LProbeConsole$Method;LProbeConsole$Frame;II)V" } : Jvm.MethodName)) ∈ lw_all := lw_g (lw_at lw_m9 13 rfl) rfl
theorem q2049 : (Jvm.Cond.privateMethod ({ cls := "ProbeConsole$Machine", name := "see", desc := "(ILProbeConsole$Job;LProbeConsole$Method;LProbeConsole$Frame;II)V" } : Jvm.MethodName)) ∈ lw_tbl := lw_at lw_m9 14 rfl
theorem q2050 : (Jvm.Cond.instanceMethod ({ cls := "ProbeConsole$Machine", name := "see", desc := "(ILProbeConsole$Job;LProbeConsole$Method;LProbeConsole$Frame;II)V" } : Jvm.MethodName)) ∈ lw_all := lw_g (lw_at lw_m9 15 rfl) rfl
theorem q2051 : (Jvm.Cond.code ({ cls := "ProbeConsole$Machine", name := "see", desc := "(ILProbeConsole$Job;LProbeConsole$Method;LProbeConsole$Frame;II)V" } : Jvm.MethodName) prog_6_method_11_code (7 : Nat) (Option.none : Option Jvm.ClassFile.FieldType)) ∈ lw_all := lw_g (lw_at lw_m9 16 rfl) rfl
theorem q2052 : (Jvm.Cond.interfaceEntry "ProbeConsole$Machine" (59 : Nat)) ∈ lw_tbl := lw_at lw_m9 17 rfl
theorem q2053 : (Jvm.Cond.methodLink "ProbeConsole$Machine" (59 : Nat) ({ cls := "java/util/List", name := "size", desc := "()I" } : Jvm.MethodName)) ∈ lw_all := lw_g (lw_at lw_m9 18 rfl) rfl
theorem q2054 : (Jvm.Cond.classLink "ProbeConsole$Machine" (179 : Nat) "ProbeConsole$Kept") ∈ lw_all := lw_g (lw_at lw_m9 19 rfl) rfl
theorem q2056 : (Jvm.Cond.methodLinkNest "ProbeConsole$Machine" (181 : Nat) ({ cls := "ProbeConsole$Kept", name := "<init>", desc := "(IIIIIZI)V" } : Jvm.MethodName) "ProbeConsole") ∈ lw_tbl := lw_at lw_m9 21 rfl
theorem q2085 : (Jvm.Cond.interfaceEntry "ProbeConsole$Machine" (168 : Nat)) ∈ lw_tbl := lw_at lw_m9 50 rfl
theorem q2086 : (Jvm.Cond.methodLink "ProbeConsole$Machine" (168 : Nat) ({ cls := "java/util/List", name := "add", desc := "(Ljava/lang/Object;)Z" } : Jvm.MethodName)) ∈ lw_all := lw_g (lw_at lw_m9 51 rfl) rfl
theorem q2087 : (Jvm.Cond.methodLink "ProbeConsole$Machine" (207 : Nat) ({ cls := "ProbeConsole$Machine", name := "watches", desc := "(ILProbeConsole$Job;LProbeConsole$Method;LProbeConsole$Frame;I)Z" } : Jvm.MethodName)) ∈ lw_all := lw_g (lw_at lw_m9 52 rfl) rfl
theorem q2088 : (Jvm.Cond.privateMethod ({ cls := "ProbeConsole$Machine", name := "watches", desc := "(ILProbeConsole$Job;LProbeConsole$Method;LProbeConsole$Frame;I)Z" } : Jvm.MethodName)) ∈ lw_tbl := lw_at lw_m9 53 rfl
theorem q2089 : (Jvm.Cond.instanceMethod ({ cls := "ProbeConsole$Machine", name := "watches", desc := "(ILProbeConsole$Job;LProbeConsole$Method;LProbeConsole$Frame;I)Z" } : Jvm.MethodName)) ∈ lw_all := lw_g (lw_at lw_m9 54 rfl) rfl
theorem q2090 : (Jvm.Cond.code ({ cls := "ProbeConsole$Machine", name := "watches", desc := "(ILProbeConsole$Job;LProbeConsole$Method;LProbeConsole$Frame;I)Z" } : Jvm.MethodName) prog_6_method_10_code (7 : Nat) (Option.some Jvm.ClassFile.FieldType.boolean)) ∈ lw_all := lw_g (lw_at lw_m9 55 rfl) rfl
theorem q2091 : (Jvm.Cond.methodLink "ProbeConsole$Machine" (104 : Nat) ({ cls := "ProbeConsole$Machine", name := "value", desc := "(LProbeConsole$Node;LProbeConsole$Frame;I)I" } : Jvm.MethodName)) ∈ lw_all := lw_g (lw_at lw_m9 56 rfl) rfl
theorem q2092 : (Jvm.Cond.privateMethod ({ cls := "ProbeConsole$Machine", name := "value", desc := "(LProbeConsole$Node;LProbeConsole$Frame;I)I" } : Jvm.MethodName)) ∈ lw_tbl := lw_at lw_m9 57 rfl
theorem q2093 : (Jvm.Cond.instanceMethod ({ cls := "ProbeConsole$Machine", name := "value", desc := "(LProbeConsole$Node;LProbeConsole$Frame;I)I" } : Jvm.MethodName)) ∈ lw_all := lw_g (lw_at lw_m9 58 rfl) rfl
theorem q2094 : (Jvm.Cond.code ({ cls := "ProbeConsole$Machine", name := "value", desc := "(LProbeConsole$Node;LProbeConsole$Frame;I)I" } : Jvm.MethodName) prog_6_method_9_code (5 : Nat) (Option.some Jvm.ClassFile.FieldType.int)) ∈ lw_all := lw_g (lw_at lw_m9 59 rfl) rfl
theorem q2095 : (Jvm.Cond.methodLink "ProbeConsole$Machine" (111 : Nat) ({ cls := "ProbeConsole$Kind", name := "ordinal", desc := "()I" } : Jvm.MethodName)) ∈ lw_all := lw_g (lw_at lw_m9 60 rfl) rfl
theorem q2096 : (Jvm.Cond.methodLink "ProbeConsole$Machine" (136 : Nat) ({ cls := "ProbeConsole$Machine", name := "invocation", desc := "(LProbeConsole$Node;LProbeConsole$Frame;I)I" } : Jvm.MethodName)) ∈ lw_all := lw_g (lw_at lw_m9 61 rfl) rfl
theorem q2097 : (Jvm.Cond.privateMethod ({ cls := "ProbeConsole$Machine", name := "invocation", desc := "(LProbeConsole$Node;LProbeConsole$Frame;I)I" } : Jvm.MethodName)) ∈ lw_tbl := lw_at lw_m9 62 rfl
theorem q2098 : (Jvm.Cond.instanceMethod ({ cls := "ProbeConsole$Machine", name := "invocation", desc := "(LProbeConsole$Node;LProbeConsole$Frame;I)I" } : Jvm.MethodName)) ∈ lw_all := lw_g (lw_at lw_m9 63 rfl) rfl
theorem q2099 : (Jvm.Cond.code ({ cls := "ProbeConsole$Machine", name := "invocation", desc := "(LProbeConsole$Node;LProbeConsole$Frame;I)I" } : Jvm.MethodName) prog_6_method_8_code (9 : Nat) (Option.some Jvm.ClassFile.FieldType.int)) ∈ lw_all := lw_g (lw_at lw_m9 64 rfl) rfl
theorem q2100 : (Jvm.Cond.interfaceEntry "ProbeConsole$Machine" (65 : Nat)) ∈ lw_tbl := lw_at lw_m9 65 rfl
theorem q2101 : (Jvm.Cond.methodLink "ProbeConsole$Machine" (65 : Nat) ({ cls := "java/util/List", name := "get", desc := "(I)Ljava/lang/Object;" } : Jvm.MethodName)) ∈ lw_all := lw_g (lw_at lw_m9 66 rfl) rfl
theorem q2102 : (Jvm.Cond.classLink "ProbeConsole$Machine" (100 : Nat) "ProbeConsole$Node") ∈ lw_all := lw_g (lw_at lw_m9 67 rfl) rfl
theorem q2103 : (Jvm.Cond.methodLink "ProbeConsole$Machine" (122 : Nat) ({ cls := "ProbeConsole$Machine", name := "find", desc := "(Ljava/lang/String;I)LProbeConsole$Method;" } : Jvm.MethodName)) ∈ lw_all := lw_g (lw_at lw_m9 68 rfl) rfl
theorem q2104 : (Jvm.Cond.privateMethod ({ cls := "ProbeConsole$Machine", name := "find", desc := "(Ljava/lang/String;I)LProbeConsole$Method;" } : Jvm.MethodName)) ∈ lw_tbl := lw_at lw_m9 69 rfl
theorem q2105 : (Jvm.Cond.instanceMethod ({ cls := "ProbeConsole$Machine", name := "find", desc := "(Ljava/lang/String;I)LProbeConsole$Method;" } : Jvm.MethodName)) ∈ lw_all := lw_g (lw_at lw_m9 70 rfl) rfl
theorem q2106 : (Jvm.Cond.code ({ cls := "ProbeConsole$Machine", name := "find", desc := "(Ljava/lang/String;I)LProbeConsole$Method;" } : Jvm.MethodName) prog_6_method_3_code (5 : Nat) (Option.some (Jvm.ClassFile.FieldType.object "ProbeConsole$Method"))) ∈ lw_all := lw_g (lw_at lw_m9 71 rfl) rfl
theorem q2107 : (Jvm.Cond.classLink "ProbeConsole$Machine" (69 : Nat) "ProbeConsole$Method") ∈ lw_all := lw_g (lw_at lw_m9 72 rfl) rfl
theorem q2108 : (Jvm.Cond.methodLink "ProbeConsole$Machine" (79 : Nat) ({ cls := "java/lang/String", name := "equals", desc := "(Ljava/lang/Object;)Z" } : Jvm.MethodName)) ∈ lw_all := lw_g (lw_at lw_m9 73 rfl) rfl
theorem q2109 : (Jvm.Cond.methodLink "ProbeConsole$Machine" (139 : Nat) ({ cls := "ProbeConsole$Machine", name := "held", desc := "(LProbeConsole$Node;LProbeConsole$Frame;I)I" } : Jvm.MethodName)) ∈ lw_all := lw_g (lw_at lw_m9 74 rfl) rfl
theorem q2110 : (Jvm.Cond.privateMethod ({ cls := "ProbeConsole$Machine", name := "held", desc := "(LProbeConsole$Node;LProbeConsole$Frame;I)I" } : Jvm.MethodName)) ∈ lw_tbl := lw_at lw_m9 75 rfl
theorem q2111 : (Jvm.Cond.instanceMethod ({ cls := "ProbeConsole$Machine", name := "held", desc := "(LProbeConsole$Node;LProbeConsole$Frame;I)I" } : Jvm.MethodName)) ∈ lw_all := lw_g (lw_at lw_m9 76 rfl) rfl
theorem q2112 : (Jvm.Cond.code ({ cls := "ProbeConsole$Machine", name := "held", desc := "(LProbeConsole$Node;LProbeConsole$Frame;I)I" } : Jvm.MethodName) prog_6_method_7_code (5 : Nat) (Option.some Jvm.ClassFile.FieldType.int)) ∈ lw_all := lw_g (lw_at lw_m9 77 rfl) rfl
theorem q2113 : (Jvm.Cond.fieldLink "ProbeConsole$Machine" (142 : Nat) "ProbeConsole$Kind" "THROW" "LProbeConsole$Kind;") ∈ lw_all := lw_g (lw_at lw_m9 78 rfl) rfl
theorem q2114 : (Jvm.Cond.methodLink "ProbeConsole$Machine" (145 : Nat) ({ cls := "ProbeConsole$Machine", name := "two", desc := "(LProbeConsole$Node;LProbeConsole$Frame;I)I" } : Jvm.MethodName)) ∈ lw_all := lw_g (lw_at lw_m9 79 rfl) rfl
theorem q2115 : (Jvm.Cond.privateMethod ({ cls := "ProbeConsole$Machine", name := "two", desc := "(LProbeConsole$Node;LProbeConsole$Frame;I)I" } : Jvm.MethodName)) ∈ lw_tbl := lw_at lw_m9 80 rfl
theorem q2116 : (Jvm.Cond.instanceMethod ({ cls := "ProbeConsole$Machine", name := "two", desc := "(LProbeConsole$Node;LProbeConsole$Frame;I)I" } : Jvm.MethodName)) ∈ lw_all := lw_g (lw_at lw_m9 81 rfl) rfl
theorem q2117 : (Jvm.Cond.code ({ cls := "ProbeConsole$Machine", name := "two", desc := "(LProbeConsole$Node;LProbeConsole$Frame;I)I" } : Jvm.MethodName) prog_6_method_6_code (6 : Nat) (Option.some Jvm.ClassFile.FieldType.int)) ∈ lw_all := lw_g (lw_at lw_m9 82 rfl) rfl
theorem q2118 : (Jvm.Cond.methodLink "ProbeConsole$Machine" (114 : Nat) ({ cls := "ProbeConsole$Machine", name := "divide", desc := "(LProbeConsole$Kind;II)I" } : Jvm.MethodName)) ∈ lw_all := lw_g (lw_at lw_m9 83 rfl) rfl
theorem q2119 : (Jvm.Cond.privateMethod ({ cls := "ProbeConsole$Machine", name := "divide", desc := "(LProbeConsole$Kind;II)I" } : Jvm.MethodName)) ∈ lw_tbl := lw_at lw_m9 84 rfl
theorem q2120 : (Jvm.Cond.instanceMethod ({ cls := "ProbeConsole$Machine", name := "divide", desc := "(LProbeConsole$Kind;II)I" } : Jvm.MethodName)) ∈ lw_all := lw_g (lw_at lw_m9 85 rfl) rfl
theorem q2121 : (Jvm.Cond.code ({ cls := "ProbeConsole$Machine", name := "divide", desc := "(LProbeConsole$Kind;II)I" } : Jvm.MethodName) prog_6_method_5_code (4 : Nat) (Option.some Jvm.ClassFile.FieldType.int)) ∈ lw_all := lw_g (lw_at lw_m9 86 rfl) rfl
theorem q2122 : (Jvm.Cond.fieldLink "ProbeConsole$Machine" (93 : Nat) "ProbeConsole$Kind" "DIV" "LProbeConsole$Kind;") ∈ lw_all := lw_g (lw_at lw_m9 87 rfl) rfl
theorem q2124 : (Jvm.Cond.classLink "ProbeConsole$Machine" (160 : Nat) "ProbeConsole$Seen") ∈ lw_all := lw_g (lw_at lw_m9 89 rfl) rfl
theorem q2126 : (Jvm.Cond.methodLinkNest "ProbeConsole$Machine" (165 : Nat) ({ cls := "ProbeConsole$Seen", name := "<init>", desc := "(IIIZI)V" } : Jvm.MethodName) "ProbeConsole") ∈ lw_tbl := lw_at lw_m9 91 rfl
theorem q2146 : (Jvm.Cond.methodLink "ProbeConsole$Machine" (211 : Nat) ({ cls := "java/util/TreeMap", name := "remove", desc := "(Ljava/lang/Object;)Ljava/lang/Object;" } : Jvm.MethodName)) ∈ lw_all := lw_g (lw_at lw_m9 111 rfl) rfl
theorem q2794 : (Jvm.Cond.castable "ProbeConsole$Machine" "java/lang/Object") ∈ lw_tbl := lw_at lw_m12 39 rfl
theorem in_X3 : ∀ w ∈ wsX30, w ∈ lw_all := lw_in wsX30 [332, 334, 336, 338, 340, 342, 344, 346, 348, 350] (by decide +kernel) (by decide +kernel)
/-! ProbeConsole$Frame -/
set_option maxRecDepth 100000
def RX4 : String := "ProbeConsole$Frame"
def TX4 : u_T := fun k => match k with
  | _ => ("ProbeConsole$Frame", "values", "[I", true)
def tyX4 : Nat → FieldType := fun k => match k with
  | _ => .array .int
abbrev wsX40 : List Cond := u_ws RX4 TX4 1
theorem nmX4 : ∀ a, a < 1 → ∀ b, b < 1 → a ≠ b → (TX4 a).2.1 ≠ (TX4 b).2.1 := by decide +kernel
theorem tyX4_ok : ∀ k, k < 1 → parseFieldDescriptor (TX4 k).2.2.1 = some (tyX4 k) := by decide +kernel
abbrev cX4_init : ByteArray := prog_2_method_1_code
def yX4_init : MethodName := ⟨RX4, "<init>", "()V"⟩
def dkwX4_init_0 : List UInt8 := [42, 183, 0, 3, 42, 16, 7, 188, 10, 181, 0, 9, 177]
abbrev dktX4_init_0 : List UInt8 := dkwX4_init_0 ++ []
theorem dksX4_init_0 : cX4_init.data.toList.drop 0 = dktX4_init_0 := by decide +kernel
theorem dX4_init_0 : decode cX4_init 0 = .ok (.aload_n 0, 1) := dk_42 (dk_at dksX4_init_0 0 rfl rfl)
theorem dX4_init_1 : decode cX4_init 1 = .ok (.invokespecial 3, 3) := dk_183 0 3 (dk_at dksX4_init_0 1 rfl rfl)
theorem dX4_init_4 : decode cX4_init 4 = .ok (.aload_n 0, 1) := dk_42 (dk_at dksX4_init_0 4 rfl rfl)
theorem dX4_init_5 : decode cX4_init 5 = .ok (.bipush 7, 2) := dk_16 7 (dk_at dksX4_init_0 5 rfl rfl)
theorem dX4_init_7 : decode cX4_init 7 = .ok (.newarray .int, 2) := dk_188_10 (dk_at dksX4_init_0 7 rfl rfl)
theorem dX4_init_9 : decode cX4_init 9 = .ok (.putfield 9, 3) := dk_181 0 9 (dk_at dksX4_init_0 9 rfl rfl)
theorem dX4_init_12 : decode cX4_init 12 = .ok (.return_, 1) := dk_177 (dk_at dksX4_init_0 12 rfl rfl)
theorem q125 : (Jvm.Cond.initialized "ProbeConsole$Frame") ∈ lw_all := lw_g (lw_at lw_m1 10 rfl) rfl
theorem q304 : (Jvm.Cond.instantiable "ProbeConsole$Frame" (1 : Nat)) ∈ lw_all := lw_g (lw_at lw_m1 189 rfl) rfl
theorem q306 : (Jvm.Cond.instanceMethod ({ cls := "ProbeConsole$Frame", name := "<init>", desc := "()V" } : Jvm.MethodName)) ∈ lw_all := lw_g (lw_at lw_m1 191 rfl) rfl
theorem q307 : (Jvm.Cond.code ({ cls := "ProbeConsole$Frame", name := "<init>", desc := "()V" } : Jvm.MethodName) prog_2_method_1_code (1 : Nat) (Option.none : Option Jvm.ClassFile.FieldType)) ∈ lw_all := lw_g (lw_at lw_m1 192 rfl) rfl
theorem q308 : (Jvm.Cond.methodLink "ProbeConsole$Frame" (3 : Nat) ({ cls := "java/lang/Object", name := "<init>", desc := "()V" } : Jvm.MethodName)) ∈ lw_all := lw_g (lw_at lw_m1 193 rfl) rfl
theorem q309 : (Jvm.Cond.fieldLink "ProbeConsole$Frame" (9 : Nat) "ProbeConsole$Frame" "values" "[I") ∈ lw_all := lw_g (lw_at lw_m1 194 rfl) rfl
theorem q311 : (Jvm.Cond.laysFinal "ProbeConsole$Frame" "ProbeConsole$Frame" "values" "[I") ∈ lw_all := lw_g (lw_at lw_m1 196 rfl) rfl
theorem q312 : (Jvm.Cond.soleField "ProbeConsole$Frame" "values") ∈ lw_all := lw_g (lw_at lw_m1 197 rfl) rfl
theorem q313 : (Jvm.Cond.superclass "ProbeConsole$Frame" "java/lang/Object") ∈ lw_all := lw_g (lw_at lw_m1 198 rfl) rfl
theorem q999 : (Jvm.Cond.selects "ProbeConsole$Frame" ({ cls := "java/lang/Object", name := "getClass", desc := "()Ljava/lang/Class;" } : Jvm.MethodName) ({ cls := "java/lang/Object", name := "getClass", desc := "()Ljava/lang/Class;" } : Jvm.MethodName)) ∈ lw_all := lw_g (lw_at lw_m4 164 rfl) rfl
theorem q1128 : (Jvm.Cond.selects "ProbeConsole$Frame" ({ cls := "java/lang/Object", name := "hashCode", desc := "()I" } : Jvm.MethodName) ({ cls := "java/lang/Object", name := "hashCode", desc := "()I" } : Jvm.MethodName)) ∈ lw_all := lw_g (lw_at lw_m5 53 rfl) rfl
theorem q1222 : (Jvm.Cond.selects "ProbeConsole$Frame" ({ cls := "java/lang/Object", name := "equals", desc := "(Ljava/lang/Object;)Z" } : Jvm.MethodName) ({ cls := "java/lang/Object", name := "equals", desc := "(Ljava/lang/Object;)Z" } : Jvm.MethodName)) ∈ lw_all := lw_g (lw_at lw_m5 147 rfl) rfl
theorem q2788 : (Jvm.Cond.castable "ProbeConsole$Frame" "java/lang/Object") ∈ lw_tbl := lw_at lw_m12 33 rfl
theorem in_X4 : ∀ w ∈ wsX40, w ∈ lw_all := lw_in wsX40 [311] (by decide +kernel) (by decide +kernel)
/-! ProbeConsole$Node -/
set_option maxRecDepth 100000
def RX6 : String := "ProbeConsole$Node"
def TX6 : u_T := fun k => match k with
  | 0 => ("ProbeConsole$Node", "kind", "LProbeConsole$Kind;", true)
  | 1 => ("ProbeConsole$Node", "value", "I", true)
  | 2 => ("ProbeConsole$Node", "name", "Ljava/lang/String;", true)
  | _ => ("ProbeConsole$Node", "parts", "Ljava/util/List;", true)
def tyX6 : Nat → FieldType := fun k => match k with
  | 0 => .object "ProbeConsole$Kind"
  | 1 => .int
  | 2 => .object "java/lang/String"
  | _ => .object "java/util/List"
abbrev wsX60 : List Cond := u_ws RX6 TX6 4
theorem nmX6 : ∀ a, a < 4 → ∀ b, b < 4 → a ≠ b → (TX6 a).2.1 ≠ (TX6 b).2.1 := by decide +kernel
theorem tyX6_ok : ∀ k, k < 4 → parseFieldDescriptor (TX6 k).2.2.1 = some (tyX6 k) := by decide +kernel
abbrev cX6_init : ByteArray := prog_8_method_1_code
def yX6_init : MethodName := ⟨RX6, "<init>", "(LProbeConsole$Kind;ILjava/lang/String;)V"⟩
def dkwX6_init_1 : List UInt8 := [181, 0, 22, 42, 45, 181, 0, 26, 177]
abbrev dktX6_init_1 : List UInt8 := dkwX6_init_1 ++ []
def dkwX6_init_0 : List UInt8 := [42, 183, 0, 1, 42, 187, 0, 7, 89, 6, 183, 0, 9, 181, 0, 12, 42, 43, 181, 0, 18, 42, 28]
abbrev dktX6_init_0 : List UInt8 := dkwX6_init_0 ++ dktX6_init_1
theorem dksX6_init_0 : cX6_init.data.toList.drop 0 = dktX6_init_0 := by decide +kernel
theorem dksX6_init_1 : cX6_init.data.toList.drop 23 = dktX6_init_1 := dk_seg dksX6_init_0 23 rfl rfl
theorem dX6_init_0 : decode cX6_init 0 = .ok (.aload_n 0, 1) := dk_42 (dk_at dksX6_init_0 0 rfl rfl)
theorem dX6_init_1 : decode cX6_init 1 = .ok (.invokespecial 1, 3) := dk_183 0 1 (dk_at dksX6_init_0 1 rfl rfl)
theorem dX6_init_4 : decode cX6_init 4 = .ok (.aload_n 0, 1) := dk_42 (dk_at dksX6_init_0 4 rfl rfl)
theorem dX6_init_5 : decode cX6_init 5 = .ok (.new 7, 3) := dk_187 0 7 (dk_at dksX6_init_0 5 rfl rfl)
theorem dX6_init_8 : decode cX6_init 8 = .ok (.dup, 1) := dk_89 (dk_at dksX6_init_0 8 rfl rfl)
theorem dX6_init_9 : decode cX6_init 9 = .ok (.iconst 3, 1) := dk_6 (dk_at dksX6_init_0 9 rfl rfl)
theorem dX6_init_10 : decode cX6_init 10 = .ok (.invokespecial 9, 3) := dk_183 0 9 (dk_at dksX6_init_0 10 rfl rfl)
theorem dX6_init_13 : decode cX6_init 13 = .ok (.putfield 12, 3) := dk_181 0 12 (dk_at dksX6_init_0 13 rfl rfl)
theorem dX6_init_16 : decode cX6_init 16 = .ok (.aload_n 0, 1) := dk_42 (dk_at dksX6_init_0 16 rfl rfl)
theorem dX6_init_17 : decode cX6_init 17 = .ok (.aload_n 1, 1) := dk_43 (dk_at dksX6_init_0 17 rfl rfl)
theorem dX6_init_18 : decode cX6_init 18 = .ok (.putfield 18, 3) := dk_181 0 18 (dk_at dksX6_init_0 18 rfl rfl)
theorem dX6_init_21 : decode cX6_init 21 = .ok (.aload_n 0, 1) := dk_42 (dk_at dksX6_init_0 21 rfl rfl)
theorem dX6_init_22 : decode cX6_init 22 = .ok (.iload_n 2, 1) := dk_28 (dk_at dksX6_init_0 22 rfl rfl)
theorem dX6_init_23 : decode cX6_init 23 = .ok (.putfield 22, 3) := dk_181 0 22 (dk_at dksX6_init_1 0 rfl rfl)
theorem dX6_init_26 : decode cX6_init 26 = .ok (.aload_n 0, 1) := dk_42 (dk_at dksX6_init_1 3 rfl rfl)
theorem dX6_init_27 : decode cX6_init 27 = .ok (.aload_n 3, 1) := dk_45 (dk_at dksX6_init_1 4 rfl rfl)
theorem dX6_init_28 : decode cX6_init 28 = .ok (.putfield 26, 3) := dk_181 0 26 (dk_at dksX6_init_1 5 rfl rfl)
theorem dX6_init_31 : decode cX6_init 31 = .ok (.return_, 1) := dk_177 (dk_at dksX6_init_1 8 rfl rfl)
abbrev cX6_with : ByteArray := prog_8_method_2_code
def yX6_with : MethodName := ⟨RX6, "with", "(LProbeConsole$Node;)LProbeConsole$Node;"⟩
def dkwX6_with_0 : List UInt8 := [42, 180, 0, 12, 43, 185, 0, 30, 2, 0, 87, 42, 176]
abbrev dktX6_with_0 : List UInt8 := dkwX6_with_0 ++ []
theorem dksX6_with_0 : cX6_with.data.toList.drop 0 = dktX6_with_0 := by decide +kernel
theorem dX6_with_0 : decode cX6_with 0 = .ok (.aload_n 0, 1) := dk_42 (dk_at dksX6_with_0 0 rfl rfl)
theorem dX6_with_1 : decode cX6_with 1 = .ok (.getfield 12, 3) := dk_180 0 12 (dk_at dksX6_with_0 1 rfl rfl)
theorem dX6_with_4 : decode cX6_with 4 = .ok (.aload_n 1, 1) := dk_43 (dk_at dksX6_with_0 4 rfl rfl)
theorem dX6_with_5 : decode cX6_with 5 = .ok (.invokeinterface 30 2, 5) := by decide +kernel
theorem dX6_with_10 : decode cX6_with 10 = .ok (.pop, 1) := dk_87 (dk_at dksX6_with_0 10 rfl rfl)
theorem dX6_with_11 : decode cX6_with 11 = .ok (.aload_n 0, 1) := dk_42 (dk_at dksX6_with_0 11 rfl rfl)
theorem dX6_with_12 : decode cX6_with 12 = .ok (.areturn, 1) := dk_176 (dk_at dksX6_with_0 12 rfl rfl)
theorem q144 : (Jvm.Cond.initialized "ProbeConsole$Node") ∈ lw_all := lw_g (lw_at lw_m1 29 rfl) rfl
theorem q859 : (Jvm.Cond.instantiable "ProbeConsole$Node" (4 : Nat)) ∈ lw_all := lw_g (lw_at lw_m4 24 rfl) rfl
theorem q874 : (Jvm.Cond.instanceMethod ({ cls := "ProbeConsole$Node", name := "<init>", desc := "(LProbeConsole$Kind;ILjava/lang/String;)V" } : Jvm.MethodName)) ∈ lw_all := lw_g (lw_at lw_m4 39 rfl) rfl
theorem q875 : (Jvm.Cond.code ({ cls := "ProbeConsole$Node", name := "<init>", desc := "(LProbeConsole$Kind;ILjava/lang/String;)V" } : Jvm.MethodName) prog_8_method_1_code (4 : Nat) (Option.none : Option Jvm.ClassFile.FieldType)) ∈ lw_all := lw_g (lw_at lw_m4 40 rfl) rfl
theorem q876 : (Jvm.Cond.methodLink "ProbeConsole$Node" (1 : Nat) ({ cls := "java/lang/Object", name := "<init>", desc := "()V" } : Jvm.MethodName)) ∈ lw_all := lw_g (lw_at lw_m4 41 rfl) rfl
theorem q877 : (Jvm.Cond.classLink "ProbeConsole$Node" (7 : Nat) "java/util/ArrayList") ∈ lw_all := lw_g (lw_at lw_m4 42 rfl) rfl
theorem q878 : (Jvm.Cond.methodLink "ProbeConsole$Node" (9 : Nat) ({ cls := "java/util/ArrayList", name := "<init>", desc := "(I)V" } : Jvm.MethodName)) ∈ lw_all := lw_g (lw_at lw_m4 43 rfl) rfl
theorem q893 : (Jvm.Cond.fieldLink "ProbeConsole$Node" (18 : Nat) "ProbeConsole$Node" "kind" "LProbeConsole$Kind;") ∈ lw_all := lw_g (lw_at lw_m4 58 rfl) rfl
theorem q895 : (Jvm.Cond.fieldLink "ProbeConsole$Node" (22 : Nat) "ProbeConsole$Node" "value" "I") ∈ lw_all := lw_g (lw_at lw_m4 60 rfl) rfl
theorem q897 : (Jvm.Cond.fieldLink "ProbeConsole$Node" (26 : Nat) "ProbeConsole$Node" "name" "Ljava/lang/String;") ∈ lw_all := lw_g (lw_at lw_m4 62 rfl) rfl
theorem q899 : (Jvm.Cond.fieldLink "ProbeConsole$Node" (12 : Nat) "ProbeConsole$Node" "parts" "Ljava/util/List;") ∈ lw_all := lw_g (lw_at lw_m4 64 rfl) rfl
theorem q902 : (Jvm.Cond.laysFinal "ProbeConsole$Node" "ProbeConsole$Node" "kind" "LProbeConsole$Kind;") ∈ lw_all := lw_g (lw_at lw_m4 67 rfl) rfl
theorem q903 : (Jvm.Cond.soleField "ProbeConsole$Node" "kind") ∈ lw_all := lw_g (lw_at lw_m4 68 rfl) rfl
theorem q904 : (Jvm.Cond.laysFinal "ProbeConsole$Node" "ProbeConsole$Node" "value" "I") ∈ lw_all := lw_g (lw_at lw_m4 69 rfl) rfl
theorem q905 : (Jvm.Cond.soleField "ProbeConsole$Node" "value") ∈ lw_all := lw_g (lw_at lw_m4 70 rfl) rfl
theorem q906 : (Jvm.Cond.laysFinal "ProbeConsole$Node" "ProbeConsole$Node" "name" "Ljava/lang/String;") ∈ lw_all := lw_g (lw_at lw_m4 71 rfl) rfl
theorem q907 : (Jvm.Cond.soleField "ProbeConsole$Node" "name") ∈ lw_all := lw_g (lw_at lw_m4 72 rfl) rfl
theorem q908 : (Jvm.Cond.laysFinal "ProbeConsole$Node" "ProbeConsole$Node" "parts" "Ljava/util/List;") ∈ lw_all := lw_g (lw_at lw_m4 73 rfl) rfl
theorem q909 : (Jvm.Cond.soleField "ProbeConsole$Node" "parts") ∈ lw_all := lw_g (lw_at lw_m4 74 rfl) rfl
theorem q910 : (Jvm.Cond.superclass "ProbeConsole$Node" "java/lang/Object") ∈ lw_all := lw_g (lw_at lw_m4 75 rfl) rfl
theorem q967 : (Jvm.Cond.instanceMethod ({ cls := "ProbeConsole$Node", name := "with", desc := "(LProbeConsole$Node;)LProbeConsole$Node;" } : Jvm.MethodName)) ∈ lw_all := lw_g (lw_at lw_m4 132 rfl) rfl
theorem q968 : (Jvm.Cond.selects "ProbeConsole$Node" ({ cls := "ProbeConsole$Node", name := "with", desc := "(LProbeConsole$Node;)LProbeConsole$Node;" } : Jvm.MethodName) ({ cls := "ProbeConsole$Node", name := "with", desc := "(LProbeConsole$Node;)LProbeConsole$Node;" } : Jvm.MethodName)) ∈ lw_all := lw_g (lw_at lw_m4 133 rfl) rfl
theorem q969 : (Jvm.Cond.code ({ cls := "ProbeConsole$Node", name := "with", desc := "(LProbeConsole$Node;)LProbeConsole$Node;" } : Jvm.MethodName) prog_8_method_2_code (2 : Nat) (Option.some (Jvm.ClassFile.FieldType.object "ProbeConsole$Node"))) ∈ lw_all := lw_g (lw_at lw_m4 134 rfl) rfl
theorem q970 : (Jvm.Cond.interfaceEntry "ProbeConsole$Node" (30 : Nat)) ∈ lw_tbl := lw_at lw_m4 135 rfl
theorem q971 : (Jvm.Cond.methodLink "ProbeConsole$Node" (30 : Nat) ({ cls := "java/util/List", name := "add", desc := "(Ljava/lang/Object;)Z" } : Jvm.MethodName)) ∈ lw_all := lw_g (lw_at lw_m4 136 rfl) rfl
theorem q1005 : (Jvm.Cond.selects "ProbeConsole$Node" ({ cls := "java/lang/Object", name := "getClass", desc := "()Ljava/lang/Class;" } : Jvm.MethodName) ({ cls := "java/lang/Object", name := "getClass", desc := "()Ljava/lang/Class;" } : Jvm.MethodName)) ∈ lw_all := lw_g (lw_at lw_m4 170 rfl) rfl
theorem q1141 : (Jvm.Cond.selects "ProbeConsole$Node" ({ cls := "java/lang/Object", name := "hashCode", desc := "()I" } : Jvm.MethodName) ({ cls := "java/lang/Object", name := "hashCode", desc := "()I" } : Jvm.MethodName)) ∈ lw_all := lw_g (lw_at lw_m5 66 rfl) rfl
theorem q1232 : (Jvm.Cond.selects "ProbeConsole$Node" ({ cls := "java/lang/Object", name := "equals", desc := "(Ljava/lang/Object;)Z" } : Jvm.MethodName) ({ cls := "java/lang/Object", name := "equals", desc := "(Ljava/lang/Object;)Z" } : Jvm.MethodName)) ∈ lw_all := lw_g (lw_at lw_m5 157 rfl) rfl
theorem q2802 : (Jvm.Cond.castable "ProbeConsole$Node" "java/lang/Object") ∈ lw_tbl := lw_at lw_m12 47 rfl
theorem in_X6 : ∀ w ∈ wsX60, w ∈ lw_all := lw_in wsX60 [902, 904, 906, 908] (by decide +kernel) (by decide +kernel)
/-! ProbeConsole$Kind -/
set_option maxRecDepth 100000
def RX7 : String := "ProbeConsole$Kind"
abbrev cX7_values : ByteArray := prog_5_method_1_code
def yX7_values : MethodName := ⟨RX7, "values", "()[LProbeConsole$Kind;"⟩
def dkwX7_values_0 : List UInt8 := [178, 0, 49, 182, 0, 53, 192, 0, 54, 176]
abbrev dktX7_values_0 : List UInt8 := dkwX7_values_0 ++ []
theorem dksX7_values_0 : cX7_values.data.toList.drop 0 = dktX7_values_0 := by decide +kernel
theorem dX7_values_0 : decode cX7_values 0 = .ok (.getstatic 49, 3) := dk_178 0 49 (dk_at dksX7_values_0 0 rfl rfl)
theorem dX7_values_3 : decode cX7_values 3 = .ok (.invokevirtual 53, 3) := dk_182 0 53 (dk_at dksX7_values_0 3 rfl rfl)
theorem dX7_values_6 : decode cX7_values 6 = .ok (.checkcast 54, 3) := dk_192 0 54 (dk_at dksX7_values_0 6 rfl rfl)
theorem dX7_values_9 : decode cX7_values 9 = .ok (.areturn, 1) := dk_176 (dk_at dksX7_values_0 9 rfl rfl)
theorem q146 : (Jvm.Cond.initialized "ProbeConsole$Kind") ∈ lw_all := lw_g (lw_at lw_m1 31 rfl) rfl
theorem q861 : (Jvm.Cond.laysStatic "ProbeConsole$Kind" "NUMBER" "LProbeConsole$Kind;") ∈ lw_tbl := lw_at lw_m4 26 rfl
theorem q961 : (Jvm.Cond.laysStatic "ProbeConsole$Kind" "VARIABLE" "LProbeConsole$Kind;") ∈ lw_tbl := lw_at lw_m4 126 rfl
theorem q963 : (Jvm.Cond.laysStatic "ProbeConsole$Kind" "INVOKE" "LProbeConsole$Kind;") ∈ lw_tbl := lw_at lw_m4 128 rfl
theorem q1002 : (Jvm.Cond.selects "ProbeConsole$Kind" ({ cls := "java/lang/Object", name := "getClass", desc := "()Ljava/lang/Class;" } : Jvm.MethodName) ({ cls := "java/lang/Object", name := "getClass", desc := "()Ljava/lang/Class;" } : Jvm.MethodName)) ∈ lw_all := lw_g (lw_at lw_m4 167 rfl) rfl
theorem q1036 : (Jvm.Cond.laysStatic "ProbeConsole$Kind" "LESS_BY" "LProbeConsole$Kind;") ∈ lw_tbl := lw_at lw_m4 201 rfl
theorem q1038 : (Jvm.Cond.laysStatic "ProbeConsole$Kind" "THROW" "LProbeConsole$Kind;") ∈ lw_tbl := lw_at lw_m4 203 rfl
theorem q1041 : (Jvm.Cond.laysStatic "ProbeConsole$Kind" "MUL" "LProbeConsole$Kind;") ∈ lw_tbl := lw_at lw_m4 206 rfl
theorem q1047 : (Jvm.Cond.static ({ cls := "ProbeConsole$Kind", name := "values", desc := "()[LProbeConsole$Kind;" } : Jvm.MethodName)) ∈ lw_all := lw_g (lw_at lw_m4 212 rfl) rfl
theorem q1048 : (Jvm.Cond.code ({ cls := "ProbeConsole$Kind", name := "values", desc := "()[LProbeConsole$Kind;" } : Jvm.MethodName) prog_5_method_1_code (0 : Nat) (Option.some (Jvm.ClassFile.FieldType.array (Jvm.ClassFile.FieldType.object "ProbeConsole$Kind")))) ∈ lw_all := lw_g (lw_at lw_m4 213 rfl) rfl
theorem q1049 : (Jvm.Cond.fieldLink "ProbeConsole$Kind" (49 : Nat) "ProbeConsole$Kind" "$VALUES" "[LProbeConsole$Kind;") ∈ lw_all := lw_g (lw_at lw_m4 214 rfl) rfl
theorem q1050 : (Jvm.Cond.laysStatic "ProbeConsole$Kind" "$VALUES" "[LProbeConsole$Kind;") ∈ lw_tbl := lw_at lw_m4 215 rfl
theorem q1051 : (Jvm.Cond.methodLink "ProbeConsole$Kind" (53 : Nat) ({ cls := "[LProbeConsole$Kind;", name := "clone", desc := "()Ljava/lang/Object;" } : Jvm.MethodName)) ∈ lw_all := lw_g (lw_at lw_m4 216 rfl) rfl
theorem q1056 : (Jvm.Cond.classLink "ProbeConsole$Kind" (54 : Nat) "[LProbeConsole$Kind;") ∈ lw_all := lw_g (lw_at lw_m4 221 rfl) rfl
theorem q1058 : (Jvm.Cond.sameMethod "ProbeConsole$Kind" "java/lang/Enum" "ordinal" "()I") ∈ lw_all := lw_g (lw_at lw_m4 223 rfl) rfl
theorem q1060 : (Jvm.Cond.selects "ProbeConsole$Kind" ({ cls := "ProbeConsole$Kind", name := "ordinal", desc := "()I" } : Jvm.MethodName) ({ cls := "java/lang/Enum", name := "ordinal", desc := "()I" } : Jvm.MethodName)) ∈ lw_all := lw_g (lw_at lw_m4 225 rfl) rfl
theorem q1065 : (Jvm.Cond.laysStatic "ProbeConsole$Kind" "ADD" "LProbeConsole$Kind;") ∈ lw_tbl := lw_at lw_m4 230 rfl
theorem q1068 : (Jvm.Cond.laysStatic "ProbeConsole$Kind" "LESS" "LProbeConsole$Kind;") ∈ lw_tbl := lw_at lw_m4 233 rfl
theorem q1070 : (Jvm.Cond.laysStatic "ProbeConsole$Kind" "CHOOSE" "LProbeConsole$Kind;") ∈ lw_tbl := lw_at lw_m4 235 rfl
theorem q1072 : (Jvm.Cond.laysStatic "ProbeConsole$Kind" "CATCH" "LProbeConsole$Kind;") ∈ lw_tbl := lw_at lw_m4 237 rfl
theorem q1133 : (Jvm.Cond.selects "ProbeConsole$Kind" ({ cls := "java/lang/Object", name := "hashCode", desc := "()I" } : Jvm.MethodName) ({ cls := "java/lang/Enum", name := "hashCode", desc := "()I" } : Jvm.MethodName)) ∈ lw_all := lw_g (lw_at lw_m5 58 rfl) rfl
theorem q1227 : (Jvm.Cond.selects "ProbeConsole$Kind" ({ cls := "java/lang/Object", name := "equals", desc := "(Ljava/lang/Object;)Z" } : Jvm.MethodName) ({ cls := "java/lang/Enum", name := "equals", desc := "(Ljava/lang/Object;)Z" } : Jvm.MethodName)) ∈ lw_all := lw_g (lw_at lw_m5 152 rfl) rfl
theorem q1288 : (Jvm.Cond.castable "ProbeConsole$Kind" "java/lang/Comparable") ∈ lw_tbl := lw_at lw_m5 213 rfl
theorem q1289 : (Jvm.Cond.selects "ProbeConsole$Kind" ({ cls := "java/lang/Comparable", name := "compareTo", desc := "(Ljava/lang/Object;)I" } : Jvm.MethodName) ({ cls := "java/lang/Enum", name := "compareTo", desc := "(Ljava/lang/Object;)I" } : Jvm.MethodName)) ∈ lw_all := lw_g (lw_at lw_m5 214 rfl) rfl
theorem q1290 : (Jvm.Cond.unhidden "ProbeConsole$Kind" "compareTo" "(Ljava/lang/Object;)I") ∈ lw_tbl := lw_at lw_m5 215 rfl
theorem q1298 : (Jvm.Cond.selects "ProbeConsole$Kind" ({ cls := "java/lang/Enum", name := "compareTo", desc := "(Ljava/lang/Enum;)I" } : Jvm.MethodName) ({ cls := "java/lang/Enum", name := "compareTo", desc := "(Ljava/lang/Enum;)I" } : Jvm.MethodName)) ∈ lw_all := lw_g (lw_at lw_m5 223 rfl) rfl
theorem q1304 : (Jvm.Cond.selects "ProbeConsole$Kind" ({ cls := "java/lang/Enum", name := "getDeclaringClass", desc := "()Ljava/lang/Class;" } : Jvm.MethodName) ({ cls := "java/lang/Enum", name := "getDeclaringClass", desc := "()Ljava/lang/Class;" } : Jvm.MethodName)) ∈ lw_all := lw_g (lw_at lw_m5 229 rfl) rfl
theorem q2123 : (Jvm.Cond.laysStatic "ProbeConsole$Kind" "DIV" "LProbeConsole$Kind;") ∈ lw_tbl := lw_at lw_m9 88 rfl
theorem q2787 : (Jvm.Cond.castable "ProbeConsole$Kind" "java/lang/Enum") ∈ lw_tbl := lw_at lw_m12 32 rfl
theorem q2789 : (Jvm.Cond.castable "ProbeConsole$Kind" "java/lang/Object") ∈ lw_tbl := lw_at lw_m12 34 rfl
theorem q2833 : (Jvm.Cond.laysStatic "ProbeConsole$Kind" "SUB" "LProbeConsole$Kind;") ∈ lw_tbl := lw_at lw_m12 78 rfl
theorem q2834 : (Jvm.Cond.laysStatic "ProbeConsole$Kind" "REM" "LProbeConsole$Kind;") ∈ lw_tbl := lw_at lw_m12 79 rfl
theorem q2835 : (Jvm.Cond.laysStatic "ProbeConsole$Kind" "SAME" "LProbeConsole$Kind;") ∈ lw_tbl := lw_at lw_m12 80 rfl
theorem q2836 : (Jvm.Cond.laysStatic "ProbeConsole$Kind" "MORE" "LProbeConsole$Kind;") ∈ lw_tbl := lw_at lw_m12 81 rfl
/-! ProbeConsole$Method -/
set_option maxRecDepth 100000
def RX8 : String := "ProbeConsole$Method"
def TX8 : u_T := fun k => match k with
  | 0 => ("ProbeConsole$Method", "number", "I", true)
  | 1 => ("ProbeConsole$Method", "name", "Ljava/lang/String;", true)
  | 2 => ("ProbeConsole$Method", "parameters", "I", true)
  | _ => ("ProbeConsole$Method", "body", "LProbeConsole$Node;", true)
def tyX8 : Nat → FieldType := fun k => match k with
  | 0 => .int
  | 1 => .object "java/lang/String"
  | 2 => .int
  | _ => .object "ProbeConsole$Node"
abbrev wsX80 : List Cond := u_ws RX8 TX8 4
theorem nmX8 : ∀ a, a < 4 → ∀ b, b < 4 → a ≠ b → (TX8 a).2.1 ≠ (TX8 b).2.1 := by decide +kernel
theorem tyX8_ok : ∀ k, k < 4 → parseFieldDescriptor (TX8 k).2.2.1 = some (tyX8 k) := by decide +kernel
abbrev cX8_init : ByteArray := prog_7_method_1_code
def yX8_init : MethodName := ⟨RX8, "<init>", "(ILjava/lang/String;ILProbeConsole$Node;)V"⟩
def dkwX8_init_1 : List UInt8 := [181, 0, 20, 177]
abbrev dktX8_init_1 : List UInt8 := dkwX8_init_1 ++ []
def dkwX8_init_0 : List UInt8 := [42, 183, 0, 1, 42, 27, 181, 0, 7, 42, 44, 181, 0, 13, 42, 29, 181, 0, 17, 42, 25, 4]
abbrev dktX8_init_0 : List UInt8 := dkwX8_init_0 ++ dktX8_init_1
theorem dksX8_init_0 : cX8_init.data.toList.drop 0 = dktX8_init_0 := by decide +kernel
theorem dksX8_init_1 : cX8_init.data.toList.drop 22 = dktX8_init_1 := dk_seg dksX8_init_0 22 rfl rfl
theorem dX8_init_0 : decode cX8_init 0 = .ok (.aload_n 0, 1) := dk_42 (dk_at dksX8_init_0 0 rfl rfl)
theorem dX8_init_1 : decode cX8_init 1 = .ok (.invokespecial 1, 3) := dk_183 0 1 (dk_at dksX8_init_0 1 rfl rfl)
theorem dX8_init_4 : decode cX8_init 4 = .ok (.aload_n 0, 1) := dk_42 (dk_at dksX8_init_0 4 rfl rfl)
theorem dX8_init_5 : decode cX8_init 5 = .ok (.iload_n 1, 1) := dk_27 (dk_at dksX8_init_0 5 rfl rfl)
theorem dX8_init_6 : decode cX8_init 6 = .ok (.putfield 7, 3) := dk_181 0 7 (dk_at dksX8_init_0 6 rfl rfl)
theorem dX8_init_9 : decode cX8_init 9 = .ok (.aload_n 0, 1) := dk_42 (dk_at dksX8_init_0 9 rfl rfl)
theorem dX8_init_10 : decode cX8_init 10 = .ok (.aload_n 2, 1) := dk_44 (dk_at dksX8_init_0 10 rfl rfl)
theorem dX8_init_11 : decode cX8_init 11 = .ok (.putfield 13, 3) := dk_181 0 13 (dk_at dksX8_init_0 11 rfl rfl)
theorem dX8_init_14 : decode cX8_init 14 = .ok (.aload_n 0, 1) := dk_42 (dk_at dksX8_init_0 14 rfl rfl)
theorem dX8_init_15 : decode cX8_init 15 = .ok (.iload_n 3, 1) := dk_29 (dk_at dksX8_init_0 15 rfl rfl)
theorem dX8_init_16 : decode cX8_init 16 = .ok (.putfield 17, 3) := dk_181 0 17 (dk_at dksX8_init_0 16 rfl rfl)
theorem dX8_init_19 : decode cX8_init 19 = .ok (.aload_n 0, 1) := dk_42 (dk_at dksX8_init_0 19 rfl rfl)
theorem dX8_init_20 : decode cX8_init 20 = .ok (.aload 4, 2) := dk_25 4 (dk_at dksX8_init_0 20 rfl rfl)
theorem dX8_init_22 : decode cX8_init 22 = .ok (.putfield 20, 3) := dk_181 0 20 (dk_at dksX8_init_1 0 rfl rfl)
theorem dX8_init_25 : decode cX8_init 25 = .ok (.return_, 1) := dk_177 (dk_at dksX8_init_1 3 rfl rfl)
theorem q149 : (Jvm.Cond.initialized "ProbeConsole$Method") ∈ lw_all := lw_g (lw_at lw_m1 34 rfl) rfl
theorem q1004 : (Jvm.Cond.selects "ProbeConsole$Method" ({ cls := "java/lang/Object", name := "getClass", desc := "()Ljava/lang/Class;" } : Jvm.MethodName) ({ cls := "java/lang/Object", name := "getClass", desc := "()Ljava/lang/Class;" } : Jvm.MethodName)) ∈ lw_all := lw_g (lw_at lw_m4 169 rfl) rfl
theorem q1074 : (Jvm.Cond.instantiable "ProbeConsole$Method" (4 : Nat)) ∈ lw_all := lw_g (lw_at lw_m4 239 rfl) rfl
theorem q1076 : (Jvm.Cond.instanceMethod ({ cls := "ProbeConsole$Method", name := "<init>", desc := "(ILjava/lang/String;ILProbeConsole$Node;)V" } : Jvm.MethodName)) ∈ lw_all := lw_g (lw_at lw_m5 1 rfl) rfl
theorem q1077 : (Jvm.Cond.code ({ cls := "ProbeConsole$Method", name := "<init>", desc := "(ILjava/lang/String;ILProbeConsole$Node;)V" } : Jvm.MethodName) prog_7_method_1_code (5 : Nat) (Option.none : Option Jvm.ClassFile.FieldType)) ∈ lw_all := lw_g (lw_at lw_m5 2 rfl) rfl
theorem q1078 : (Jvm.Cond.methodLink "ProbeConsole$Method" (1 : Nat) ({ cls := "java/lang/Object", name := "<init>", desc := "()V" } : Jvm.MethodName)) ∈ lw_all := lw_g (lw_at lw_m5 3 rfl) rfl
theorem q1079 : (Jvm.Cond.fieldLink "ProbeConsole$Method" (7 : Nat) "ProbeConsole$Method" "number" "I") ∈ lw_all := lw_g (lw_at lw_m5 4 rfl) rfl
theorem q1081 : (Jvm.Cond.fieldLink "ProbeConsole$Method" (13 : Nat) "ProbeConsole$Method" "name" "Ljava/lang/String;") ∈ lw_all := lw_g (lw_at lw_m5 6 rfl) rfl
theorem q1084 : (Jvm.Cond.fieldLink "ProbeConsole$Method" (17 : Nat) "ProbeConsole$Method" "parameters" "I") ∈ lw_all := lw_g (lw_at lw_m5 9 rfl) rfl
theorem q1087 : (Jvm.Cond.fieldLink "ProbeConsole$Method" (20 : Nat) "ProbeConsole$Method" "body" "LProbeConsole$Node;") ∈ lw_all := lw_g (lw_at lw_m5 12 rfl) rfl
theorem q1089 : (Jvm.Cond.laysFinal "ProbeConsole$Method" "ProbeConsole$Method" "number" "I") ∈ lw_all := lw_g (lw_at lw_m5 14 rfl) rfl
theorem q1090 : (Jvm.Cond.soleField "ProbeConsole$Method" "number") ∈ lw_all := lw_g (lw_at lw_m5 15 rfl) rfl
theorem q1091 : (Jvm.Cond.laysFinal "ProbeConsole$Method" "ProbeConsole$Method" "name" "Ljava/lang/String;") ∈ lw_all := lw_g (lw_at lw_m5 16 rfl) rfl
theorem q1092 : (Jvm.Cond.soleField "ProbeConsole$Method" "name") ∈ lw_all := lw_g (lw_at lw_m5 17 rfl) rfl
theorem q1093 : (Jvm.Cond.laysFinal "ProbeConsole$Method" "ProbeConsole$Method" "parameters" "I") ∈ lw_all := lw_g (lw_at lw_m5 18 rfl) rfl
theorem q1094 : (Jvm.Cond.soleField "ProbeConsole$Method" "parameters") ∈ lw_all := lw_g (lw_at lw_m5 19 rfl) rfl
theorem q1095 : (Jvm.Cond.laysFinal "ProbeConsole$Method" "ProbeConsole$Method" "body" "LProbeConsole$Node;") ∈ lw_all := lw_g (lw_at lw_m5 20 rfl) rfl
theorem q1096 : (Jvm.Cond.soleField "ProbeConsole$Method" "body") ∈ lw_all := lw_g (lw_at lw_m5 21 rfl) rfl
theorem q1097 : (Jvm.Cond.superclass "ProbeConsole$Method" "java/lang/Object") ∈ lw_all := lw_g (lw_at lw_m5 22 rfl) rfl
theorem q1140 : (Jvm.Cond.selects "ProbeConsole$Method" ({ cls := "java/lang/Object", name := "hashCode", desc := "()I" } : Jvm.MethodName) ({ cls := "java/lang/Object", name := "hashCode", desc := "()I" } : Jvm.MethodName)) ∈ lw_all := lw_g (lw_at lw_m5 65 rfl) rfl
theorem q1231 : (Jvm.Cond.selects "ProbeConsole$Method" ({ cls := "java/lang/Object", name := "equals", desc := "(Ljava/lang/Object;)Z" } : Jvm.MethodName) ({ cls := "java/lang/Object", name := "equals", desc := "(Ljava/lang/Object;)Z" } : Jvm.MethodName)) ∈ lw_all := lw_g (lw_at lw_m5 156 rfl) rfl
theorem q2803 : (Jvm.Cond.castable "ProbeConsole$Method" "java/lang/Object") ∈ lw_tbl := lw_at lw_m12 48 rfl
theorem in_X8 : ∀ w ∈ wsX80, w ∈ lw_all := lw_in wsX80 [1089, 1091, 1093, 1095] (by decide +kernel) (by decide +kernel)
/-! ProbeConsole$Job -/
set_option maxRecDepth 100000
def RX9 : String := "ProbeConsole$Job"
def TX9 : u_T := fun k => match k with
  | 0 => ("ProbeConsole$Job", "kind", "I", true)
  | 1 => ("ProbeConsole$Job", "pattern", "Ljava/lang/String;", true)
  | 2 => ("ProbeConsole$Job", "point", "I", false)
  | 3 => ("ProbeConsole$Job", "expression", "LProbeConsole$Node;", false)
  | 4 => ("ProbeConsole$Job", "condition", "LProbeConsole$Node;", false)
  | 5 => ("ProbeConsole$Job", "limit", "I", false)
  | 6 => ("ProbeConsole$Job", "made", "I", false)
  | _ => ("ProbeConsole$Job", "counts", "[I", true)
def tyX9 : Nat → FieldType := fun k => match k with
  | 0 => .int
  | 1 => .object "java/lang/String"
  | 2 => .int
  | 3 => .object "ProbeConsole$Node"
  | 4 => .object "ProbeConsole$Node"
  | 5 => .int
  | 6 => .int
  | _ => .array .int
abbrev wsX90 : List Cond := u_ws RX9 TX9 8
theorem nmX9 : ∀ a, a < 8 → ∀ b, b < 8 → a ≠ b → (TX9 a).2.1 ≠ (TX9 b).2.1 := by decide +kernel
theorem tyX9_ok : ∀ k, k < 8 → parseFieldDescriptor (TX9 k).2.2.1 = some (tyX9 k) := by decide +kernel
abbrev cX9_init : ByteArray := prog_3_method_1_code
def yX9_init : MethodName := ⟨RX9, "<init>", "(ILjava/lang/String;)V"⟩
def dkwX9_init_1 : List UInt8 := [44, 181, 0, 22, 177]
abbrev dktX9_init_1 : List UInt8 := dkwX9_init_1 ++ []
def dkwX9_init_0 : List UInt8 := [42, 183, 0, 3, 42, 16, 99, 181, 0, 9, 42, 16, 48, 188, 10, 181, 0, 15, 42, 27, 181, 0, 19, 42]
abbrev dktX9_init_0 : List UInt8 := dkwX9_init_0 ++ dktX9_init_1
theorem dksX9_init_0 : cX9_init.data.toList.drop 0 = dktX9_init_0 := by decide +kernel
theorem dksX9_init_1 : cX9_init.data.toList.drop 24 = dktX9_init_1 := dk_seg dksX9_init_0 24 rfl rfl
theorem dX9_init_0 : decode cX9_init 0 = .ok (.aload_n 0, 1) := dk_42 (dk_at dksX9_init_0 0 rfl rfl)
theorem dX9_init_1 : decode cX9_init 1 = .ok (.invokespecial 3, 3) := dk_183 0 3 (dk_at dksX9_init_0 1 rfl rfl)
theorem dX9_init_4 : decode cX9_init 4 = .ok (.aload_n 0, 1) := dk_42 (dk_at dksX9_init_0 4 rfl rfl)
theorem dX9_init_5 : decode cX9_init 5 = .ok (.bipush 99, 2) := dk_16 99 (dk_at dksX9_init_0 5 rfl rfl)
theorem dX9_init_7 : decode cX9_init 7 = .ok (.putfield 9, 3) := dk_181 0 9 (dk_at dksX9_init_0 7 rfl rfl)
theorem dX9_init_10 : decode cX9_init 10 = .ok (.aload_n 0, 1) := dk_42 (dk_at dksX9_init_0 10 rfl rfl)
theorem dX9_init_11 : decode cX9_init 11 = .ok (.bipush 48, 2) := dk_16 48 (dk_at dksX9_init_0 11 rfl rfl)
theorem dX9_init_13 : decode cX9_init 13 = .ok (.newarray .int, 2) := dk_188_10 (dk_at dksX9_init_0 13 rfl rfl)
theorem dX9_init_15 : decode cX9_init 15 = .ok (.putfield 15, 3) := dk_181 0 15 (dk_at dksX9_init_0 15 rfl rfl)
theorem dX9_init_18 : decode cX9_init 18 = .ok (.aload_n 0, 1) := dk_42 (dk_at dksX9_init_0 18 rfl rfl)
theorem dX9_init_19 : decode cX9_init 19 = .ok (.iload_n 1, 1) := dk_27 (dk_at dksX9_init_0 19 rfl rfl)
theorem dX9_init_20 : decode cX9_init 20 = .ok (.putfield 19, 3) := dk_181 0 19 (dk_at dksX9_init_0 20 rfl rfl)
theorem dX9_init_23 : decode cX9_init 23 = .ok (.aload_n 0, 1) := dk_42 (dk_at dksX9_init_0 23 rfl rfl)
theorem dX9_init_24 : decode cX9_init 24 = .ok (.aload_n 2, 1) := dk_44 (dk_at dksX9_init_1 0 rfl rfl)
theorem dX9_init_25 : decode cX9_init 25 = .ok (.putfield 22, 3) := dk_181 0 22 (dk_at dksX9_init_1 1 rfl rfl)
theorem dX9_init_28 : decode cX9_init 28 = .ok (.return_, 1) := dk_177 (dk_at dksX9_init_1 4 rfl rfl)
abbrev cX9_fits : ByteArray := prog_3_method_2_code
def yX9_fits : MethodName := ⟨RX9, "fits", "(Ljava/lang/String;)Z"⟩
def dkwX9_fits_7 : List UInt8 := [132, 2, 1, 167, 255, 229, 28, 42, 180, 0, 22, 182, 0, 26, 160, 0, 7, 4, 167, 0, 4, 3, 172]
abbrev dktX9_fits_7 : List UInt8 := dkwX9_fits_7 ++ []
def dkwX9_fits_6 : List UInt8 := [180, 0, 22, 182, 0, 26, 162, 0, 22, 42, 180, 0, 22, 28, 182, 0, 32, 16, 42, 160, 0, 9]
abbrev dktX9_fits_6 : List UInt8 := dkwX9_fits_6 ++ dktX9_fits_7
def dkwX9_fits_5 : List UInt8 := [159, 0, 17, 21, 4, 4, 96, 61, 132, 5, 1, 21, 5, 62, 167, 0, 5, 3, 172, 167, 255, 133, 28, 42]
abbrev dktX9_fits_5 : List UInt8 := dkwX9_fits_5 ++ dktX9_fits_6
def dkwX9_fits_4 : List UInt8 := [21, 6, 43, 29, 182, 0, 32, 160, 0, 12, 132, 2, 1, 132, 3, 1, 167, 0, 25, 21, 4, 2]
abbrev dktX9_fits_4 : List UInt8 := dkwX9_fits_4 ++ dktX9_fits_5
def dkwX9_fits_3 : List UInt8 := [132, 2, 1, 167, 0, 62, 28, 42, 180, 0, 22, 182, 0, 26, 162, 0, 29, 21, 6, 16, 63, 159, 0, 13]
abbrev dktX9_fits_3 : List UInt8 := dkwX9_fits_3 ++ dktX9_fits_4
def dkwX9_fits_2 : List UInt8 := [180, 0, 22, 182, 0, 26, 162, 0, 22, 21, 6, 16, 42, 160, 0, 15, 28, 54, 4, 29, 54, 5]
abbrev dktX9_fits_2 : List UInt8 := dkwX9_fits_2 ++ dktX9_fits_3
def dkwX9_fits_1 : List UInt8 := [182, 0, 26, 162, 0, 14, 42, 180, 0, 22, 28, 182, 0, 32, 167, 0, 5, 16, 42, 54, 6, 28, 42]
abbrev dktX9_fits_1 : List UInt8 := dkwX9_fits_1 ++ dktX9_fits_2
def dkwX9_fits_0 : List UInt8 := [3, 61, 3, 62, 2, 54, 4, 3, 54, 5, 29, 43, 182, 0, 26, 162, 0, 121, 28, 42, 180, 0, 22]
abbrev dktX9_fits_0 : List UInt8 := dkwX9_fits_0 ++ dktX9_fits_1
theorem dksX9_fits_0 : cX9_fits.data.toList.drop 0 = dktX9_fits_0 := by decide +kernel
theorem dksX9_fits_1 : cX9_fits.data.toList.drop 23 = dktX9_fits_1 := dk_seg dksX9_fits_0 23 rfl rfl
theorem dksX9_fits_2 : cX9_fits.data.toList.drop 46 = dktX9_fits_2 := dk_seg dksX9_fits_1 23 rfl rfl
theorem dksX9_fits_3 : cX9_fits.data.toList.drop 68 = dktX9_fits_3 := dk_seg dksX9_fits_2 22 rfl rfl
theorem dksX9_fits_4 : cX9_fits.data.toList.drop 92 = dktX9_fits_4 := dk_seg dksX9_fits_3 24 rfl rfl
theorem dksX9_fits_5 : cX9_fits.data.toList.drop 114 = dktX9_fits_5 := dk_seg dksX9_fits_4 22 rfl rfl
theorem dksX9_fits_6 : cX9_fits.data.toList.drop 138 = dktX9_fits_6 := dk_seg dksX9_fits_5 24 rfl rfl
theorem dksX9_fits_7 : cX9_fits.data.toList.drop 160 = dktX9_fits_7 := dk_seg dksX9_fits_6 22 rfl rfl
theorem dX9_fits_0 : decode cX9_fits 0 = .ok (.iconst 0, 1) := dk_3 (dk_at dksX9_fits_0 0 rfl rfl)
theorem dX9_fits_1 : decode cX9_fits 1 = .ok (.istore_n 2, 1) := dk_61 (dk_at dksX9_fits_0 1 rfl rfl)
theorem dX9_fits_2 : decode cX9_fits 2 = .ok (.iconst 0, 1) := dk_3 (dk_at dksX9_fits_0 2 rfl rfl)
theorem dX9_fits_3 : decode cX9_fits 3 = .ok (.istore_n 3, 1) := dk_62 (dk_at dksX9_fits_0 3 rfl rfl)
theorem dX9_fits_4 : decode cX9_fits 4 = .ok (.iconst (-1), 1) := dk_2 (dk_at dksX9_fits_0 4 rfl rfl)
theorem dX9_fits_5 : decode cX9_fits 5 = .ok (.istore 4, 2) := dk_54 4 (dk_at dksX9_fits_0 5 rfl rfl)
theorem dX9_fits_7 : decode cX9_fits 7 = .ok (.iconst 0, 1) := dk_3 (dk_at dksX9_fits_0 7 rfl rfl)
theorem dX9_fits_8 : decode cX9_fits 8 = .ok (.istore 5, 2) := dk_54 5 (dk_at dksX9_fits_0 8 rfl rfl)
theorem dX9_fits_10 : decode cX9_fits 10 = .ok (.iload_n 3, 1) := dk_29 (dk_at dksX9_fits_0 10 rfl rfl)
theorem dX9_fits_11 : decode cX9_fits 11 = .ok (.aload_n 1, 1) := dk_43 (dk_at dksX9_fits_0 11 rfl rfl)
theorem dX9_fits_12 : decode cX9_fits 12 = .ok (.invokevirtual 26, 3) := dk_182 0 26 (dk_at dksX9_fits_0 12 rfl rfl)
theorem dX9_fits_15 : decode cX9_fits 15 = .ok (.if_icmp .ge 121, 3) := dk_162 0 121 (dk_at dksX9_fits_0 15 rfl rfl)
theorem dX9_fits_18 : decode cX9_fits 18 = .ok (.iload_n 2, 1) := dk_28 (dk_at dksX9_fits_0 18 rfl rfl)
theorem dX9_fits_19 : decode cX9_fits 19 = .ok (.aload_n 0, 1) := dk_42 (dk_at dksX9_fits_0 19 rfl rfl)
theorem dX9_fits_20 : decode cX9_fits 20 = .ok (.getfield 22, 3) := dk_180 0 22 (dk_at dksX9_fits_0 20 rfl rfl)
theorem dX9_fits_23 : decode cX9_fits 23 = .ok (.invokevirtual 26, 3) := dk_182 0 26 (dk_at dksX9_fits_1 0 rfl rfl)
theorem dX9_fits_26 : decode cX9_fits 26 = .ok (.if_icmp .ge 14, 3) := dk_162 0 14 (dk_at dksX9_fits_1 3 rfl rfl)
theorem dX9_fits_29 : decode cX9_fits 29 = .ok (.aload_n 0, 1) := dk_42 (dk_at dksX9_fits_1 6 rfl rfl)
theorem dX9_fits_30 : decode cX9_fits 30 = .ok (.getfield 22, 3) := dk_180 0 22 (dk_at dksX9_fits_1 7 rfl rfl)
theorem dX9_fits_33 : decode cX9_fits 33 = .ok (.iload_n 2, 1) := dk_28 (dk_at dksX9_fits_1 10 rfl rfl)
theorem dX9_fits_34 : decode cX9_fits 34 = .ok (.invokevirtual 32, 3) := dk_182 0 32 (dk_at dksX9_fits_1 11 rfl rfl)
theorem dX9_fits_37 : decode cX9_fits 37 = .ok (.goto 5, 3) := dk_167 0 5 (dk_at dksX9_fits_1 14 rfl rfl)
theorem dX9_fits_40 : decode cX9_fits 40 = .ok (.bipush 42, 2) := dk_16 42 (dk_at dksX9_fits_1 17 rfl rfl)
theorem dX9_fits_42 : decode cX9_fits 42 = .ok (.istore 6, 2) := dk_54 6 (dk_at dksX9_fits_1 19 rfl rfl)
theorem dX9_fits_44 : decode cX9_fits 44 = .ok (.iload_n 2, 1) := dk_28 (dk_at dksX9_fits_1 21 rfl rfl)
theorem dX9_fits_45 : decode cX9_fits 45 = .ok (.aload_n 0, 1) := dk_42 (dk_at dksX9_fits_1 22 rfl rfl)
theorem dX9_fits_46 : decode cX9_fits 46 = .ok (.getfield 22, 3) := dk_180 0 22 (dk_at dksX9_fits_2 0 rfl rfl)
theorem dX9_fits_49 : decode cX9_fits 49 = .ok (.invokevirtual 26, 3) := dk_182 0 26 (dk_at dksX9_fits_2 3 rfl rfl)
theorem dX9_fits_52 : decode cX9_fits 52 = .ok (.if_icmp .ge 22, 3) := dk_162 0 22 (dk_at dksX9_fits_2 6 rfl rfl)
theorem dX9_fits_55 : decode cX9_fits 55 = .ok (.iload 6, 2) := dk_21 6 (dk_at dksX9_fits_2 9 rfl rfl)
theorem dX9_fits_57 : decode cX9_fits 57 = .ok (.bipush 42, 2) := dk_16 42 (dk_at dksX9_fits_2 11 rfl rfl)
theorem dX9_fits_59 : decode cX9_fits 59 = .ok (.if_icmp .ne 15, 3) := dk_160 0 15 (dk_at dksX9_fits_2 13 rfl rfl)
theorem dX9_fits_62 : decode cX9_fits 62 = .ok (.iload_n 2, 1) := dk_28 (dk_at dksX9_fits_2 16 rfl rfl)
theorem dX9_fits_63 : decode cX9_fits 63 = .ok (.istore 4, 2) := dk_54 4 (dk_at dksX9_fits_2 17 rfl rfl)
theorem dX9_fits_65 : decode cX9_fits 65 = .ok (.iload_n 3, 1) := dk_29 (dk_at dksX9_fits_2 19 rfl rfl)
theorem dX9_fits_66 : decode cX9_fits 66 = .ok (.istore 5, 2) := dk_54 5 (dk_at dksX9_fits_2 20 rfl rfl)
theorem dX9_fits_68 : decode cX9_fits 68 = .ok (.iinc 2 1, 3) := dk_132 2 1 (dk_at dksX9_fits_3 0 rfl rfl)
theorem dX9_fits_71 : decode cX9_fits 71 = .ok (.goto 62, 3) := dk_167 0 62 (dk_at dksX9_fits_3 3 rfl rfl)
theorem dX9_fits_74 : decode cX9_fits 74 = .ok (.iload_n 2, 1) := dk_28 (dk_at dksX9_fits_3 6 rfl rfl)
theorem dX9_fits_75 : decode cX9_fits 75 = .ok (.aload_n 0, 1) := dk_42 (dk_at dksX9_fits_3 7 rfl rfl)
theorem dX9_fits_76 : decode cX9_fits 76 = .ok (.getfield 22, 3) := dk_180 0 22 (dk_at dksX9_fits_3 8 rfl rfl)
theorem dX9_fits_79 : decode cX9_fits 79 = .ok (.invokevirtual 26, 3) := dk_182 0 26 (dk_at dksX9_fits_3 11 rfl rfl)
theorem dX9_fits_82 : decode cX9_fits 82 = .ok (.if_icmp .ge 29, 3) := dk_162 0 29 (dk_at dksX9_fits_3 14 rfl rfl)
theorem dX9_fits_85 : decode cX9_fits 85 = .ok (.iload 6, 2) := dk_21 6 (dk_at dksX9_fits_3 17 rfl rfl)
theorem dX9_fits_87 : decode cX9_fits 87 = .ok (.bipush 63, 2) := dk_16 63 (dk_at dksX9_fits_3 19 rfl rfl)
theorem dX9_fits_89 : decode cX9_fits 89 = .ok (.if_icmp .eq 13, 3) := dk_159 0 13 (dk_at dksX9_fits_3 21 rfl rfl)
theorem dX9_fits_92 : decode cX9_fits 92 = .ok (.iload 6, 2) := dk_21 6 (dk_at dksX9_fits_4 0 rfl rfl)
theorem dX9_fits_94 : decode cX9_fits 94 = .ok (.aload_n 1, 1) := dk_43 (dk_at dksX9_fits_4 2 rfl rfl)
theorem dX9_fits_95 : decode cX9_fits 95 = .ok (.iload_n 3, 1) := dk_29 (dk_at dksX9_fits_4 3 rfl rfl)
theorem dX9_fits_96 : decode cX9_fits 96 = .ok (.invokevirtual 32, 3) := dk_182 0 32 (dk_at dksX9_fits_4 4 rfl rfl)
theorem dX9_fits_99 : decode cX9_fits 99 = .ok (.if_icmp .ne 12, 3) := dk_160 0 12 (dk_at dksX9_fits_4 7 rfl rfl)
theorem dX9_fits_102 : decode cX9_fits 102 = .ok (.iinc 2 1, 3) := dk_132 2 1 (dk_at dksX9_fits_4 10 rfl rfl)
theorem dX9_fits_105 : decode cX9_fits 105 = .ok (.iinc 3 1, 3) := dk_132 3 1 (dk_at dksX9_fits_4 13 rfl rfl)
theorem dX9_fits_108 : decode cX9_fits 108 = .ok (.goto 25, 3) := dk_167 0 25 (dk_at dksX9_fits_4 16 rfl rfl)
theorem dX9_fits_111 : decode cX9_fits 111 = .ok (.iload 4, 2) := dk_21 4 (dk_at dksX9_fits_4 19 rfl rfl)
theorem dX9_fits_113 : decode cX9_fits 113 = .ok (.iconst (-1), 1) := dk_2 (dk_at dksX9_fits_4 21 rfl rfl)
theorem dX9_fits_114 : decode cX9_fits 114 = .ok (.if_icmp .eq 17, 3) := dk_159 0 17 (dk_at dksX9_fits_5 0 rfl rfl)
theorem dX9_fits_117 : decode cX9_fits 117 = .ok (.iload 4, 2) := dk_21 4 (dk_at dksX9_fits_5 3 rfl rfl)
theorem dX9_fits_119 : decode cX9_fits 119 = .ok (.iconst 1, 1) := dk_4 (dk_at dksX9_fits_5 5 rfl rfl)
theorem dX9_fits_120 : decode cX9_fits 120 = .ok (.iadd, 1) := dk_96 (dk_at dksX9_fits_5 6 rfl rfl)
theorem dX9_fits_121 : decode cX9_fits 121 = .ok (.istore_n 2, 1) := dk_61 (dk_at dksX9_fits_5 7 rfl rfl)
theorem dX9_fits_122 : decode cX9_fits 122 = .ok (.iinc 5 1, 3) := dk_132 5 1 (dk_at dksX9_fits_5 8 rfl rfl)
theorem dX9_fits_125 : decode cX9_fits 125 = .ok (.iload 5, 2) := dk_21 5 (dk_at dksX9_fits_5 11 rfl rfl)
theorem dX9_fits_127 : decode cX9_fits 127 = .ok (.istore_n 3, 1) := dk_62 (dk_at dksX9_fits_5 13 rfl rfl)
theorem dX9_fits_128 : decode cX9_fits 128 = .ok (.goto 5, 3) := dk_167 0 5 (dk_at dksX9_fits_5 14 rfl rfl)
theorem dX9_fits_131 : decode cX9_fits 131 = .ok (.iconst 0, 1) := dk_3 (dk_at dksX9_fits_5 17 rfl rfl)
theorem dX9_fits_132 : decode cX9_fits 132 = .ok (.ireturn, 1) := dk_172 (dk_at dksX9_fits_5 18 rfl rfl)
theorem dX9_fits_133 : decode cX9_fits 133 = .ok (.goto (-123), 3) := dk_167 255 133 (dk_at dksX9_fits_5 19 rfl rfl)
theorem dX9_fits_136 : decode cX9_fits 136 = .ok (.iload_n 2, 1) := dk_28 (dk_at dksX9_fits_5 22 rfl rfl)
theorem dX9_fits_137 : decode cX9_fits 137 = .ok (.aload_n 0, 1) := dk_42 (dk_at dksX9_fits_5 23 rfl rfl)
theorem dX9_fits_138 : decode cX9_fits 138 = .ok (.getfield 22, 3) := dk_180 0 22 (dk_at dksX9_fits_6 0 rfl rfl)
theorem dX9_fits_141 : decode cX9_fits 141 = .ok (.invokevirtual 26, 3) := dk_182 0 26 (dk_at dksX9_fits_6 3 rfl rfl)
theorem dX9_fits_144 : decode cX9_fits 144 = .ok (.if_icmp .ge 22, 3) := dk_162 0 22 (dk_at dksX9_fits_6 6 rfl rfl)
theorem dX9_fits_147 : decode cX9_fits 147 = .ok (.aload_n 0, 1) := dk_42 (dk_at dksX9_fits_6 9 rfl rfl)
theorem dX9_fits_148 : decode cX9_fits 148 = .ok (.getfield 22, 3) := dk_180 0 22 (dk_at dksX9_fits_6 10 rfl rfl)
theorem dX9_fits_151 : decode cX9_fits 151 = .ok (.iload_n 2, 1) := dk_28 (dk_at dksX9_fits_6 13 rfl rfl)
theorem dX9_fits_152 : decode cX9_fits 152 = .ok (.invokevirtual 32, 3) := dk_182 0 32 (dk_at dksX9_fits_6 14 rfl rfl)
theorem dX9_fits_155 : decode cX9_fits 155 = .ok (.bipush 42, 2) := dk_16 42 (dk_at dksX9_fits_6 17 rfl rfl)
theorem dX9_fits_157 : decode cX9_fits 157 = .ok (.if_icmp .ne 9, 3) := dk_160 0 9 (dk_at dksX9_fits_6 19 rfl rfl)
theorem dX9_fits_160 : decode cX9_fits 160 = .ok (.iinc 2 1, 3) := dk_132 2 1 (dk_at dksX9_fits_7 0 rfl rfl)
theorem dX9_fits_163 : decode cX9_fits 163 = .ok (.goto (-27), 3) := dk_167 255 229 (dk_at dksX9_fits_7 3 rfl rfl)
theorem dX9_fits_166 : decode cX9_fits 166 = .ok (.iload_n 2, 1) := dk_28 (dk_at dksX9_fits_7 6 rfl rfl)
theorem dX9_fits_167 : decode cX9_fits 167 = .ok (.aload_n 0, 1) := dk_42 (dk_at dksX9_fits_7 7 rfl rfl)
theorem dX9_fits_168 : decode cX9_fits 168 = .ok (.getfield 22, 3) := dk_180 0 22 (dk_at dksX9_fits_7 8 rfl rfl)
theorem dX9_fits_171 : decode cX9_fits 171 = .ok (.invokevirtual 26, 3) := dk_182 0 26 (dk_at dksX9_fits_7 11 rfl rfl)
theorem dX9_fits_174 : decode cX9_fits 174 = .ok (.if_icmp .ne 7, 3) := dk_160 0 7 (dk_at dksX9_fits_7 14 rfl rfl)
theorem dX9_fits_177 : decode cX9_fits 177 = .ok (.iconst 1, 1) := dk_4 (dk_at dksX9_fits_7 17 rfl rfl)
theorem dX9_fits_178 : decode cX9_fits 178 = .ok (.goto 4, 3) := dk_167 0 4 (dk_at dksX9_fits_7 18 rfl rfl)
theorem dX9_fits_181 : decode cX9_fits 181 = .ok (.iconst 0, 1) := dk_3 (dk_at dksX9_fits_7 21 rfl rfl)
theorem dX9_fits_182 : decode cX9_fits 182 = .ok (.ireturn, 1) := dk_172 (dk_at dksX9_fits_7 22 rfl rfl)
theorem q159 : (Jvm.Cond.initialized "ProbeConsole$Job") ∈ lw_all := lw_g (lw_at lw_m1 44 rfl) rfl
theorem q1000 : (Jvm.Cond.selects "ProbeConsole$Job" ({ cls := "java/lang/Object", name := "getClass", desc := "()Ljava/lang/Class;" } : Jvm.MethodName) ({ cls := "java/lang/Object", name := "getClass", desc := "()Ljava/lang/Class;" } : Jvm.MethodName)) ∈ lw_all := lw_g (lw_at lw_m4 165 rfl) rfl
theorem q1129 : (Jvm.Cond.selects "ProbeConsole$Job" ({ cls := "java/lang/Object", name := "hashCode", desc := "()I" } : Jvm.MethodName) ({ cls := "java/lang/Object", name := "hashCode", desc := "()I" } : Jvm.MethodName)) ∈ lw_all := lw_g (lw_at lw_m5 54 rfl) rfl
theorem q1223 : (Jvm.Cond.selects "ProbeConsole$Job" ({ cls := "java/lang/Object", name := "equals", desc := "(Ljava/lang/Object;)Z" } : Jvm.MethodName) ({ cls := "java/lang/Object", name := "equals", desc := "(Ljava/lang/Object;)Z" } : Jvm.MethodName)) ∈ lw_all := lw_g (lw_at lw_m5 148 rfl) rfl
theorem q1845 : (Jvm.Cond.instantiable "ProbeConsole$Job" (8 : Nat)) ∈ lw_all := lw_g (lw_at lw_m8 50 rfl) rfl
theorem q1851 : (Jvm.Cond.instanceMethod ({ cls := "ProbeConsole$Job", name := "<init>", desc := "(ILjava/lang/String;)V" } : Jvm.MethodName)) ∈ lw_all := lw_g (lw_at lw_m8 56 rfl) rfl
theorem q1852 : (Jvm.Cond.code ({ cls := "ProbeConsole$Job", name := "<init>", desc := "(ILjava/lang/String;)V" } : Jvm.MethodName) prog_3_method_1_code (3 : Nat) (Option.none : Option Jvm.ClassFile.FieldType)) ∈ lw_all := lw_g (lw_at lw_m8 57 rfl) rfl
theorem q1853 : (Jvm.Cond.methodLink "ProbeConsole$Job" (3 : Nat) ({ cls := "java/lang/Object", name := "<init>", desc := "()V" } : Jvm.MethodName)) ∈ lw_all := lw_g (lw_at lw_m8 58 rfl) rfl
theorem q1854 : (Jvm.Cond.fieldLink "ProbeConsole$Job" (19 : Nat) "ProbeConsole$Job" "kind" "I") ∈ lw_all := lw_g (lw_at lw_m8 59 rfl) rfl
theorem q1857 : (Jvm.Cond.fieldLink "ProbeConsole$Job" (22 : Nat) "ProbeConsole$Job" "pattern" "Ljava/lang/String;") ∈ lw_all := lw_g (lw_at lw_m8 62 rfl) rfl
theorem q1864 : (Jvm.Cond.fieldLink "ProbeConsole$Job" (9 : Nat) "ProbeConsole$Job" "limit" "I") ∈ lw_all := lw_g (lw_at lw_m8 69 rfl) rfl
theorem q1870 : (Jvm.Cond.fieldLink "ProbeConsole$Job" (15 : Nat) "ProbeConsole$Job" "counts" "[I") ∈ lw_all := lw_g (lw_at lw_m8 75 rfl) rfl
theorem q1873 : (Jvm.Cond.laysFinal "ProbeConsole$Job" "ProbeConsole$Job" "kind" "I") ∈ lw_all := lw_g (lw_at lw_m8 78 rfl) rfl
theorem q1874 : (Jvm.Cond.soleField "ProbeConsole$Job" "kind") ∈ lw_all := lw_g (lw_at lw_m8 79 rfl) rfl
theorem q1875 : (Jvm.Cond.laysFinal "ProbeConsole$Job" "ProbeConsole$Job" "pattern" "Ljava/lang/String;") ∈ lw_all := lw_g (lw_at lw_m8 80 rfl) rfl
theorem q1876 : (Jvm.Cond.soleField "ProbeConsole$Job" "pattern") ∈ lw_all := lw_g (lw_at lw_m8 81 rfl) rfl
theorem q1877 : (Jvm.Cond.lays "ProbeConsole$Job" "ProbeConsole$Job" "point" "I") ∈ lw_all := lw_g (lw_at lw_m8 82 rfl) rfl
theorem q1878 : (Jvm.Cond.soleField "ProbeConsole$Job" "point") ∈ lw_all := lw_g (lw_at lw_m8 83 rfl) rfl
theorem q1879 : (Jvm.Cond.lays "ProbeConsole$Job" "ProbeConsole$Job" "expression" "LProbeConsole$Node;") ∈ lw_all := lw_g (lw_at lw_m8 84 rfl) rfl
theorem q1880 : (Jvm.Cond.soleField "ProbeConsole$Job" "expression") ∈ lw_all := lw_g (lw_at lw_m8 85 rfl) rfl
theorem q1881 : (Jvm.Cond.lays "ProbeConsole$Job" "ProbeConsole$Job" "condition" "LProbeConsole$Node;") ∈ lw_all := lw_g (lw_at lw_m8 86 rfl) rfl
theorem q1882 : (Jvm.Cond.soleField "ProbeConsole$Job" "condition") ∈ lw_all := lw_g (lw_at lw_m8 87 rfl) rfl
theorem q1883 : (Jvm.Cond.lays "ProbeConsole$Job" "ProbeConsole$Job" "limit" "I") ∈ lw_all := lw_g (lw_at lw_m8 88 rfl) rfl
theorem q1884 : (Jvm.Cond.soleField "ProbeConsole$Job" "limit") ∈ lw_all := lw_g (lw_at lw_m8 89 rfl) rfl
theorem q1885 : (Jvm.Cond.lays "ProbeConsole$Job" "ProbeConsole$Job" "made" "I") ∈ lw_all := lw_g (lw_at lw_m8 90 rfl) rfl
theorem q1886 : (Jvm.Cond.soleField "ProbeConsole$Job" "made") ∈ lw_all := lw_g (lw_at lw_m8 91 rfl) rfl
theorem q1887 : (Jvm.Cond.laysFinal "ProbeConsole$Job" "ProbeConsole$Job" "counts" "[I") ∈ lw_all := lw_g (lw_at lw_m8 92 rfl) rfl
theorem q1888 : (Jvm.Cond.soleField "ProbeConsole$Job" "counts") ∈ lw_all := lw_g (lw_at lw_m8 93 rfl) rfl
theorem q1889 : (Jvm.Cond.superclass "ProbeConsole$Job" "java/lang/Object") ∈ lw_all := lw_g (lw_at lw_m8 94 rfl) rfl
theorem q2043 : (Jvm.Cond.instanceMethod ({ cls := "ProbeConsole$Job", name := "fits", desc := "(Ljava/lang/String;)Z" } : Jvm.MethodName)) ∈ lw_all := lw_g (lw_at lw_m9 8 rfl) rfl
theorem q2044 : (Jvm.Cond.selects "ProbeConsole$Job" ({ cls := "ProbeConsole$Job", name := "fits", desc := "(Ljava/lang/String;)Z" } : Jvm.MethodName) ({ cls := "ProbeConsole$Job", name := "fits", desc := "(Ljava/lang/String;)Z" } : Jvm.MethodName)) ∈ lw_all := lw_g (lw_at lw_m9 9 rfl) rfl
theorem q2045 : (Jvm.Cond.code ({ cls := "ProbeConsole$Job", name := "fits", desc := "(Ljava/lang/String;)Z" } : Jvm.MethodName) prog_3_method_2_code (7 : Nat) (Option.some Jvm.ClassFile.FieldType.boolean)) ∈ lw_all := lw_g (lw_at lw_m9 10 rfl) rfl
theorem q2046 : (Jvm.Cond.methodLink "ProbeConsole$Job" (26 : Nat) ({ cls := "java/lang/String", name := "length", desc := "()I" } : Jvm.MethodName)) ∈ lw_all := lw_g (lw_at lw_m9 11 rfl) rfl
theorem q2047 : (Jvm.Cond.methodLink "ProbeConsole$Job" (32 : Nat) ({ cls := "java/lang/String", name := "charAt", desc := "(I)C" } : Jvm.MethodName)) ∈ lw_all := lw_g (lw_at lw_m9 12 rfl) rfl
theorem q2809 : (Jvm.Cond.castable "ProbeConsole$Job" "java/lang/Object") ∈ lw_tbl := lw_at lw_m12 54 rfl
theorem in_X9 : ∀ w ∈ wsX90, w ∈ lw_all := lw_in wsX90 [1873, 1875, 1877, 1879, 1881, 1883, 1885, 1887] (by decide +kernel) (by decide +kernel)
/-! ProbeConsole$Kept -/
set_option maxRecDepth 100000
def RX10 : String := "ProbeConsole$Kept"
def TX10 : u_T := fun k => match k with
  | 0 => ("ProbeConsole$Kept", "job", "I", true)
  | 1 => ("ProbeConsole$Kept", "method", "I", true)
  | 2 => ("ProbeConsole$Kept", "a", "I", true)
  | 3 => ("ProbeConsole$Kept", "b", "I", true)
  | 4 => ("ProbeConsole$Kept", "c", "I", true)
  | 5 => ("ProbeConsole$Kept", "threw", "Z", true)
  | _ => ("ProbeConsole$Kept", "value", "I", true)
def tyX10 : Nat → FieldType := fun k => match k with
  | 0 => .int
  | 1 => .int
  | 2 => .int
  | 3 => .int
  | 4 => .int
  | 5 => .boolean
  | _ => .int
abbrev wsX100 : List Cond := u_ws RX10 TX10 7
theorem nmX10 : ∀ a, a < 7 → ∀ b, b < 7 → a ≠ b → (TX10 a).2.1 ≠ (TX10 b).2.1 := by decide +kernel
theorem tyX10_ok : ∀ k, k < 7 → parseFieldDescriptor (TX10 k).2.2.1 = some (tyX10 k) := by decide +kernel
abbrev cX10_hashCode : ByteArray := prog_4_method_3_code
def yX10_hashCode : MethodName := ⟨RX10, "hashCode", "()I"⟩
theorem dX10_hashCode_0 : decode cX10_hashCode 0 = .ok (.aload_n 0, 1) := by decide +kernel
theorem dX10_hashCode_1 : decode cX10_hashCode 1 = .ok (.getfield 29, 3) := by decide +kernel
theorem dX10_hashCode_4 : decode cX10_hashCode 4 = .ok (.ireturn, 1) := by decide +kernel
abbrev cX10_equals : ByteArray := prog_4_method_2_code
def yX10_equals : MethodName := ⟨RX10, "equals", "(Ljava/lang/Object;)Z"⟩
def dkwX10_equals_0 : List UInt8 := [43, 42, 166, 0, 7, 4, 167, 0, 4, 3, 172]
abbrev dktX10_equals_0 : List UInt8 := dkwX10_equals_0 ++ []
theorem dksX10_equals_0 : cX10_equals.data.toList.drop 0 = dktX10_equals_0 := by decide +kernel
theorem dX10_equals_0 : decode cX10_equals 0 = .ok (.aload_n 1, 1) := dk_43 (dk_at dksX10_equals_0 0 rfl rfl)
theorem dX10_equals_1 : decode cX10_equals 1 = .ok (.aload_n 0, 1) := dk_42 (dk_at dksX10_equals_0 1 rfl rfl)
theorem dX10_equals_2 : decode cX10_equals 2 = .ok (.if_acmp .ne 7, 3) := dk_166 0 7 (dk_at dksX10_equals_0 2 rfl rfl)
theorem dX10_equals_5 : decode cX10_equals 5 = .ok (.iconst 1, 1) := dk_4 (dk_at dksX10_equals_0 5 rfl rfl)
theorem dX10_equals_6 : decode cX10_equals 6 = .ok (.goto 4, 3) := dk_167 0 4 (dk_at dksX10_equals_0 6 rfl rfl)
theorem dX10_equals_9 : decode cX10_equals 9 = .ok (.iconst 0, 1) := dk_3 (dk_at dksX10_equals_0 9 rfl rfl)
theorem dX10_equals_10 : decode cX10_equals 10 = .ok (.ireturn, 1) := dk_172 (dk_at dksX10_equals_0 10 rfl rfl)
abbrev cX10_init : ByteArray := prog_4_method_1_code
def yX10_init : MethodName := ⟨RX10, "<init>", "(IIIIIZI)V"⟩
def dkwX10_init_1 : List UInt8 := [181, 0, 19, 42, 21, 5, 181, 0, 22, 42, 21, 6, 181, 0, 25, 42, 21, 7, 181, 0, 29, 177]
abbrev dktX10_init_1 : List UInt8 := dkwX10_init_1 ++ []
def dkwX10_init_0 : List UInt8 := [42, 183, 0, 1, 42, 27, 181, 0, 7, 42, 28, 181, 0, 13, 42, 29, 181, 0, 16, 42, 21, 4]
abbrev dktX10_init_0 : List UInt8 := dkwX10_init_0 ++ dktX10_init_1
theorem dksX10_init_0 : cX10_init.data.toList.drop 0 = dktX10_init_0 := by decide +kernel
theorem dksX10_init_1 : cX10_init.data.toList.drop 22 = dktX10_init_1 := dk_seg dksX10_init_0 22 rfl rfl
theorem dX10_init_0 : decode cX10_init 0 = .ok (.aload_n 0, 1) := dk_42 (dk_at dksX10_init_0 0 rfl rfl)
theorem dX10_init_1 : decode cX10_init 1 = .ok (.invokespecial 1, 3) := dk_183 0 1 (dk_at dksX10_init_0 1 rfl rfl)
theorem dX10_init_4 : decode cX10_init 4 = .ok (.aload_n 0, 1) := dk_42 (dk_at dksX10_init_0 4 rfl rfl)
theorem dX10_init_5 : decode cX10_init 5 = .ok (.iload_n 1, 1) := dk_27 (dk_at dksX10_init_0 5 rfl rfl)
theorem dX10_init_6 : decode cX10_init 6 = .ok (.putfield 7, 3) := dk_181 0 7 (dk_at dksX10_init_0 6 rfl rfl)
theorem dX10_init_9 : decode cX10_init 9 = .ok (.aload_n 0, 1) := dk_42 (dk_at dksX10_init_0 9 rfl rfl)
theorem dX10_init_10 : decode cX10_init 10 = .ok (.iload_n 2, 1) := dk_28 (dk_at dksX10_init_0 10 rfl rfl)
theorem dX10_init_11 : decode cX10_init 11 = .ok (.putfield 13, 3) := dk_181 0 13 (dk_at dksX10_init_0 11 rfl rfl)
theorem dX10_init_14 : decode cX10_init 14 = .ok (.aload_n 0, 1) := dk_42 (dk_at dksX10_init_0 14 rfl rfl)
theorem dX10_init_15 : decode cX10_init 15 = .ok (.iload_n 3, 1) := dk_29 (dk_at dksX10_init_0 15 rfl rfl)
theorem dX10_init_16 : decode cX10_init 16 = .ok (.putfield 16, 3) := dk_181 0 16 (dk_at dksX10_init_0 16 rfl rfl)
theorem dX10_init_19 : decode cX10_init 19 = .ok (.aload_n 0, 1) := dk_42 (dk_at dksX10_init_0 19 rfl rfl)
theorem dX10_init_20 : decode cX10_init 20 = .ok (.iload 4, 2) := dk_21 4 (dk_at dksX10_init_0 20 rfl rfl)
theorem dX10_init_22 : decode cX10_init 22 = .ok (.putfield 19, 3) := dk_181 0 19 (dk_at dksX10_init_1 0 rfl rfl)
theorem dX10_init_25 : decode cX10_init 25 = .ok (.aload_n 0, 1) := dk_42 (dk_at dksX10_init_1 3 rfl rfl)
theorem dX10_init_26 : decode cX10_init 26 = .ok (.iload 5, 2) := dk_21 5 (dk_at dksX10_init_1 4 rfl rfl)
theorem dX10_init_28 : decode cX10_init 28 = .ok (.putfield 22, 3) := dk_181 0 22 (dk_at dksX10_init_1 6 rfl rfl)
theorem dX10_init_31 : decode cX10_init 31 = .ok (.aload_n 0, 1) := dk_42 (dk_at dksX10_init_1 9 rfl rfl)
theorem dX10_init_32 : decode cX10_init 32 = .ok (.iload 6, 2) := dk_21 6 (dk_at dksX10_init_1 10 rfl rfl)
theorem dX10_init_34 : decode cX10_init 34 = .ok (.putfield 25, 3) := dk_181 0 25 (dk_at dksX10_init_1 12 rfl rfl)
theorem dX10_init_37 : decode cX10_init 37 = .ok (.aload_n 0, 1) := dk_42 (dk_at dksX10_init_1 15 rfl rfl)
theorem dX10_init_38 : decode cX10_init 38 = .ok (.iload 7, 2) := dk_21 7 (dk_at dksX10_init_1 16 rfl rfl)
theorem dX10_init_40 : decode cX10_init 40 = .ok (.putfield 29, 3) := dk_181 0 29 (dk_at dksX10_init_1 18 rfl rfl)
theorem dX10_init_43 : decode cX10_init 43 = .ok (.return_, 1) := dk_177 (dk_at dksX10_init_1 21 rfl rfl)
abbrev cX10_job : ByteArray := prog_4_method_5_code
def yX10_job : MethodName := ⟨RX10, "job", "()I"⟩
theorem dX10_job_0 : decode cX10_job 0 = .ok (.aload_n 0, 1) := by decide +kernel
theorem dX10_job_1 : decode cX10_job 1 = .ok (.getfield 7, 3) := by decide +kernel
theorem dX10_job_4 : decode cX10_job 4 = .ok (.ireturn, 1) := by decide +kernel
abbrev cX10_method : ByteArray := prog_4_method_6_code
def yX10_method : MethodName := ⟨RX10, "method", "()I"⟩
theorem dX10_method_0 : decode cX10_method 0 = .ok (.aload_n 0, 1) := by decide +kernel
theorem dX10_method_1 : decode cX10_method 1 = .ok (.getfield 13, 3) := by decide +kernel
theorem dX10_method_4 : decode cX10_method 4 = .ok (.ireturn, 1) := by decide +kernel
abbrev cX10_a : ByteArray := prog_4_method_7_code
def yX10_a : MethodName := ⟨RX10, "a", "()I"⟩
theorem dX10_a_0 : decode cX10_a 0 = .ok (.aload_n 0, 1) := by decide +kernel
theorem dX10_a_1 : decode cX10_a 1 = .ok (.getfield 16, 3) := by decide +kernel
theorem dX10_a_4 : decode cX10_a 4 = .ok (.ireturn, 1) := by decide +kernel
abbrev cX10_b : ByteArray := prog_4_method_8_code
def yX10_b : MethodName := ⟨RX10, "b", "()I"⟩
theorem dX10_b_0 : decode cX10_b 0 = .ok (.aload_n 0, 1) := by decide +kernel
theorem dX10_b_1 : decode cX10_b 1 = .ok (.getfield 19, 3) := by decide +kernel
theorem dX10_b_4 : decode cX10_b 4 = .ok (.ireturn, 1) := by decide +kernel
abbrev cX10_c : ByteArray := prog_4_method_9_code
def yX10_c : MethodName := ⟨RX10, "c", "()I"⟩
theorem dX10_c_0 : decode cX10_c 0 = .ok (.aload_n 0, 1) := by decide +kernel
theorem dX10_c_1 : decode cX10_c 1 = .ok (.getfield 22, 3) := by decide +kernel
theorem dX10_c_4 : decode cX10_c 4 = .ok (.ireturn, 1) := by decide +kernel
abbrev cX10_threw : ByteArray := prog_4_method_10_code
def yX10_threw : MethodName := ⟨RX10, "threw", "()Z"⟩
theorem dX10_threw_0 : decode cX10_threw 0 = .ok (.aload_n 0, 1) := by decide +kernel
theorem dX10_threw_1 : decode cX10_threw 1 = .ok (.getfield 25, 3) := by decide +kernel
theorem dX10_threw_4 : decode cX10_threw 4 = .ok (.ireturn, 1) := by decide +kernel
abbrev cX10_value : ByteArray := prog_4_method_11_code
def yX10_value : MethodName := ⟨RX10, "value", "()I"⟩
theorem dX10_value_0 : decode cX10_value 0 = .ok (.aload_n 0, 1) := by decide +kernel
theorem dX10_value_1 : decode cX10_value 1 = .ok (.getfield 29, 3) := by decide +kernel
theorem dX10_value_4 : decode cX10_value 4 = .ok (.ireturn, 1) := by decide +kernel
theorem q163 : (Jvm.Cond.initialized "ProbeConsole$Kept") ∈ lw_all := lw_g (lw_at lw_m1 48 rfl) rfl
theorem q1001 : (Jvm.Cond.selects "ProbeConsole$Kept" ({ cls := "java/lang/Object", name := "getClass", desc := "()Ljava/lang/Class;" } : Jvm.MethodName) ({ cls := "java/lang/Object", name := "getClass", desc := "()Ljava/lang/Class;" } : Jvm.MethodName)) ∈ lw_all := lw_g (lw_at lw_m4 166 rfl) rfl
theorem q1130 : (Jvm.Cond.selects "ProbeConsole$Kept" ({ cls := "java/lang/Object", name := "hashCode", desc := "()I" } : Jvm.MethodName) ({ cls := "ProbeConsole$Kept", name := "hashCode", desc := "()I" } : Jvm.MethodName)) ∈ lw_all := lw_g (lw_at lw_m5 55 rfl) rfl
theorem q1131 : (Jvm.Cond.instanceMethod ({ cls := "ProbeConsole$Kept", name := "hashCode", desc := "()I" } : Jvm.MethodName)) ∈ lw_all := lw_g (lw_at lw_m5 56 rfl) rfl
theorem q1132 : (Jvm.Cond.code ({ cls := "ProbeConsole$Kept", name := "hashCode", desc := "()I" } : Jvm.MethodName) prog_4_method_3_code (1 : Nat) (Option.some Jvm.ClassFile.FieldType.int)) ∈ lw_all := lw_g (lw_at lw_m5 57 rfl) rfl
theorem q1224 : (Jvm.Cond.selects "ProbeConsole$Kept" ({ cls := "java/lang/Object", name := "equals", desc := "(Ljava/lang/Object;)Z" } : Jvm.MethodName) ({ cls := "ProbeConsole$Kept", name := "equals", desc := "(Ljava/lang/Object;)Z" } : Jvm.MethodName)) ∈ lw_all := lw_g (lw_at lw_m5 149 rfl) rfl
theorem q1225 : (Jvm.Cond.instanceMethod ({ cls := "ProbeConsole$Kept", name := "equals", desc := "(Ljava/lang/Object;)Z" } : Jvm.MethodName)) ∈ lw_all := lw_g (lw_at lw_m5 150 rfl) rfl
theorem q1226 : (Jvm.Cond.code ({ cls := "ProbeConsole$Kept", name := "equals", desc := "(Ljava/lang/Object;)Z" } : Jvm.MethodName) prog_4_method_2_code (2 : Nat) (Option.some Jvm.ClassFile.FieldType.boolean)) ∈ lw_all := lw_g (lw_at lw_m5 151 rfl) rfl
theorem q2055 : (Jvm.Cond.instantiable "ProbeConsole$Kept" (7 : Nat)) ∈ lw_all := lw_g (lw_at lw_m9 20 rfl) rfl
theorem q2057 : (Jvm.Cond.instanceMethod ({ cls := "ProbeConsole$Kept", name := "<init>", desc := "(IIIIIZI)V" } : Jvm.MethodName)) ∈ lw_all := lw_g (lw_at lw_m9 22 rfl) rfl
theorem q2058 : (Jvm.Cond.code ({ cls := "ProbeConsole$Kept", name := "<init>", desc := "(IIIIIZI)V" } : Jvm.MethodName) prog_4_method_1_code (8 : Nat) (Option.none : Option Jvm.ClassFile.FieldType)) ∈ lw_all := lw_g (lw_at lw_m9 23 rfl) rfl
theorem q2059 : (Jvm.Cond.methodLink "ProbeConsole$Kept" (1 : Nat) ({ cls := "java/lang/Record", name := "<init>", desc := "()V" } : Jvm.MethodName)) ∈ lw_all := lw_g (lw_at lw_m9 24 rfl) rfl
theorem q2063 : (Jvm.Cond.fieldLink "ProbeConsole$Kept" (7 : Nat) "ProbeConsole$Kept" "job" "I") ∈ lw_all := lw_g (lw_at lw_m9 28 rfl) rfl
theorem q2064 : (Jvm.Cond.fieldLink "ProbeConsole$Kept" (13 : Nat) "ProbeConsole$Kept" "method" "I") ∈ lw_all := lw_g (lw_at lw_m9 29 rfl) rfl
theorem q2065 : (Jvm.Cond.fieldLink "ProbeConsole$Kept" (16 : Nat) "ProbeConsole$Kept" "a" "I") ∈ lw_all := lw_g (lw_at lw_m9 30 rfl) rfl
theorem q2066 : (Jvm.Cond.fieldLink "ProbeConsole$Kept" (19 : Nat) "ProbeConsole$Kept" "b" "I") ∈ lw_all := lw_g (lw_at lw_m9 31 rfl) rfl
theorem q2067 : (Jvm.Cond.fieldLink "ProbeConsole$Kept" (22 : Nat) "ProbeConsole$Kept" "c" "I") ∈ lw_all := lw_g (lw_at lw_m9 32 rfl) rfl
theorem q2068 : (Jvm.Cond.fieldLink "ProbeConsole$Kept" (25 : Nat) "ProbeConsole$Kept" "threw" "Z") ∈ lw_all := lw_g (lw_at lw_m9 33 rfl) rfl
theorem q2069 : (Jvm.Cond.fieldLink "ProbeConsole$Kept" (29 : Nat) "ProbeConsole$Kept" "value" "I") ∈ lw_all := lw_g (lw_at lw_m9 34 rfl) rfl
theorem q2070 : (Jvm.Cond.laysFinal "ProbeConsole$Kept" "ProbeConsole$Kept" "job" "I") ∈ lw_all := lw_g (lw_at lw_m9 35 rfl) rfl
theorem q2071 : (Jvm.Cond.soleField "ProbeConsole$Kept" "job") ∈ lw_all := lw_g (lw_at lw_m9 36 rfl) rfl
theorem q2072 : (Jvm.Cond.laysFinal "ProbeConsole$Kept" "ProbeConsole$Kept" "method" "I") ∈ lw_all := lw_g (lw_at lw_m9 37 rfl) rfl
theorem q2073 : (Jvm.Cond.soleField "ProbeConsole$Kept" "method") ∈ lw_all := lw_g (lw_at lw_m9 38 rfl) rfl
theorem q2074 : (Jvm.Cond.laysFinal "ProbeConsole$Kept" "ProbeConsole$Kept" "a" "I") ∈ lw_all := lw_g (lw_at lw_m9 39 rfl) rfl
theorem q2075 : (Jvm.Cond.soleField "ProbeConsole$Kept" "a") ∈ lw_all := lw_g (lw_at lw_m9 40 rfl) rfl
theorem q2076 : (Jvm.Cond.laysFinal "ProbeConsole$Kept" "ProbeConsole$Kept" "b" "I") ∈ lw_all := lw_g (lw_at lw_m9 41 rfl) rfl
theorem q2077 : (Jvm.Cond.soleField "ProbeConsole$Kept" "b") ∈ lw_all := lw_g (lw_at lw_m9 42 rfl) rfl
theorem q2078 : (Jvm.Cond.laysFinal "ProbeConsole$Kept" "ProbeConsole$Kept" "c" "I") ∈ lw_all := lw_g (lw_at lw_m9 43 rfl) rfl
theorem q2079 : (Jvm.Cond.soleField "ProbeConsole$Kept" "c") ∈ lw_all := lw_g (lw_at lw_m9 44 rfl) rfl
theorem q2080 : (Jvm.Cond.laysFinal "ProbeConsole$Kept" "ProbeConsole$Kept" "threw" "Z") ∈ lw_all := lw_g (lw_at lw_m9 45 rfl) rfl
theorem q2081 : (Jvm.Cond.soleField "ProbeConsole$Kept" "threw") ∈ lw_all := lw_g (lw_at lw_m9 46 rfl) rfl
theorem q2082 : (Jvm.Cond.laysFinal "ProbeConsole$Kept" "ProbeConsole$Kept" "value" "I") ∈ lw_all := lw_g (lw_at lw_m9 47 rfl) rfl
theorem q2083 : (Jvm.Cond.soleField "ProbeConsole$Kept" "value") ∈ lw_all := lw_g (lw_at lw_m9 48 rfl) rfl
theorem q2084 : (Jvm.Cond.superclass "ProbeConsole$Kept" "java/lang/Record") ∈ lw_all := lw_g (lw_at lw_m9 49 rfl) rfl
theorem q2200 : (Jvm.Cond.instanceMethod ({ cls := "ProbeConsole$Kept", name := "job", desc := "()I" } : Jvm.MethodName)) ∈ lw_all := lw_g (lw_at lw_m9 165 rfl) rfl
theorem q2201 : (Jvm.Cond.selects "ProbeConsole$Kept" ({ cls := "ProbeConsole$Kept", name := "job", desc := "()I" } : Jvm.MethodName) ({ cls := "ProbeConsole$Kept", name := "job", desc := "()I" } : Jvm.MethodName)) ∈ lw_all := lw_g (lw_at lw_m9 166 rfl) rfl
theorem q2202 : (Jvm.Cond.code ({ cls := "ProbeConsole$Kept", name := "job", desc := "()I" } : Jvm.MethodName) prog_4_method_5_code (1 : Nat) (Option.some Jvm.ClassFile.FieldType.int)) ∈ lw_all := lw_g (lw_at lw_m9 167 rfl) rfl
theorem q2204 : (Jvm.Cond.instanceMethod ({ cls := "ProbeConsole$Kept", name := "method", desc := "()I" } : Jvm.MethodName)) ∈ lw_all := lw_g (lw_at lw_m9 169 rfl) rfl
theorem q2205 : (Jvm.Cond.selects "ProbeConsole$Kept" ({ cls := "ProbeConsole$Kept", name := "method", desc := "()I" } : Jvm.MethodName) ({ cls := "ProbeConsole$Kept", name := "method", desc := "()I" } : Jvm.MethodName)) ∈ lw_all := lw_g (lw_at lw_m9 170 rfl) rfl
theorem q2206 : (Jvm.Cond.code ({ cls := "ProbeConsole$Kept", name := "method", desc := "()I" } : Jvm.MethodName) prog_4_method_6_code (1 : Nat) (Option.some Jvm.ClassFile.FieldType.int)) ∈ lw_all := lw_g (lw_at lw_m9 171 rfl) rfl
theorem q2208 : (Jvm.Cond.instanceMethod ({ cls := "ProbeConsole$Kept", name := "a", desc := "()I" } : Jvm.MethodName)) ∈ lw_all := lw_g (lw_at lw_m9 173 rfl) rfl
theorem q2209 : (Jvm.Cond.selects "ProbeConsole$Kept" ({ cls := "ProbeConsole$Kept", name := "a", desc := "()I" } : Jvm.MethodName) ({ cls := "ProbeConsole$Kept", name := "a", desc := "()I" } : Jvm.MethodName)) ∈ lw_all := lw_g (lw_at lw_m9 174 rfl) rfl
theorem q2210 : (Jvm.Cond.code ({ cls := "ProbeConsole$Kept", name := "a", desc := "()I" } : Jvm.MethodName) prog_4_method_7_code (1 : Nat) (Option.some Jvm.ClassFile.FieldType.int)) ∈ lw_all := lw_g (lw_at lw_m9 175 rfl) rfl
theorem q2212 : (Jvm.Cond.instanceMethod ({ cls := "ProbeConsole$Kept", name := "b", desc := "()I" } : Jvm.MethodName)) ∈ lw_all := lw_g (lw_at lw_m9 177 rfl) rfl
theorem q2213 : (Jvm.Cond.selects "ProbeConsole$Kept" ({ cls := "ProbeConsole$Kept", name := "b", desc := "()I" } : Jvm.MethodName) ({ cls := "ProbeConsole$Kept", name := "b", desc := "()I" } : Jvm.MethodName)) ∈ lw_all := lw_g (lw_at lw_m9 178 rfl) rfl
theorem q2214 : (Jvm.Cond.code ({ cls := "ProbeConsole$Kept", name := "b", desc := "()I" } : Jvm.MethodName) prog_4_method_8_code (1 : Nat) (Option.some Jvm.ClassFile.FieldType.int)) ∈ lw_all := lw_g (lw_at lw_m9 179 rfl) rfl
theorem q2216 : (Jvm.Cond.instanceMethod ({ cls := "ProbeConsole$Kept", name := "c", desc := "()I" } : Jvm.MethodName)) ∈ lw_all := lw_g (lw_at lw_m9 181 rfl) rfl
theorem q2217 : (Jvm.Cond.selects "ProbeConsole$Kept" ({ cls := "ProbeConsole$Kept", name := "c", desc := "()I" } : Jvm.MethodName) ({ cls := "ProbeConsole$Kept", name := "c", desc := "()I" } : Jvm.MethodName)) ∈ lw_all := lw_g (lw_at lw_m9 182 rfl) rfl
theorem q2218 : (Jvm.Cond.code ({ cls := "ProbeConsole$Kept", name := "c", desc := "()I" } : Jvm.MethodName) prog_4_method_9_code (1 : Nat) (Option.some Jvm.ClassFile.FieldType.int)) ∈ lw_all := lw_g (lw_at lw_m9 183 rfl) rfl
theorem q2220 : (Jvm.Cond.instanceMethod ({ cls := "ProbeConsole$Kept", name := "threw", desc := "()Z" } : Jvm.MethodName)) ∈ lw_all := lw_g (lw_at lw_m9 185 rfl) rfl
theorem q2221 : (Jvm.Cond.selects "ProbeConsole$Kept" ({ cls := "ProbeConsole$Kept", name := "threw", desc := "()Z" } : Jvm.MethodName) ({ cls := "ProbeConsole$Kept", name := "threw", desc := "()Z" } : Jvm.MethodName)) ∈ lw_all := lw_g (lw_at lw_m9 186 rfl) rfl
theorem q2222 : (Jvm.Cond.code ({ cls := "ProbeConsole$Kept", name := "threw", desc := "()Z" } : Jvm.MethodName) prog_4_method_10_code (1 : Nat) (Option.some Jvm.ClassFile.FieldType.boolean)) ∈ lw_all := lw_g (lw_at lw_m9 187 rfl) rfl
theorem q2224 : (Jvm.Cond.instanceMethod ({ cls := "ProbeConsole$Kept", name := "value", desc := "()I" } : Jvm.MethodName)) ∈ lw_all := lw_g (lw_at lw_m9 189 rfl) rfl
theorem q2225 : (Jvm.Cond.selects "ProbeConsole$Kept" ({ cls := "ProbeConsole$Kept", name := "value", desc := "()I" } : Jvm.MethodName) ({ cls := "ProbeConsole$Kept", name := "value", desc := "()I" } : Jvm.MethodName)) ∈ lw_all := lw_g (lw_at lw_m9 190 rfl) rfl
theorem q2226 : (Jvm.Cond.code ({ cls := "ProbeConsole$Kept", name := "value", desc := "()I" } : Jvm.MethodName) prog_4_method_11_code (1 : Nat) (Option.some Jvm.ClassFile.FieldType.int)) ∈ lw_all := lw_g (lw_at lw_m9 191 rfl) rfl
theorem q2812 : (Jvm.Cond.castable "ProbeConsole$Kept" "java/lang/Object") ∈ lw_tbl := lw_at lw_m12 57 rfl
theorem in_X10 : ∀ w ∈ wsX100, w ∈ lw_all := lw_in wsX100 [2070, 2072, 2074, 2076, 2078, 2080, 2082] (by decide +kernel) (by decide +kernel)
/-! ProbeConsole$Seen -/
set_option maxRecDepth 100000
def RX11 : String := "ProbeConsole$Seen"
def TX11 : u_T := fun k => match k with
  | 0 => ("ProbeConsole$Seen", "job", "I", true)
  | 1 => ("ProbeConsole$Seen", "method", "I", true)
  | 2 => ("ProbeConsole$Seen", "value", "I", true)
  | 3 => ("ProbeConsole$Seen", "error", "Z", true)
  | _ => ("ProbeConsole$Seen", "depth", "I", true)
def tyX11 : Nat → FieldType := fun k => match k with
  | 0 => .int
  | 1 => .int
  | 2 => .int
  | 3 => .boolean
  | _ => .int
abbrev wsX110 : List Cond := u_ws RX11 TX11 5
theorem nmX11 : ∀ a, a < 5 → ∀ b, b < 5 → a ≠ b → (TX11 a).2.1 ≠ (TX11 b).2.1 := by decide +kernel
theorem tyX11_ok : ∀ k, k < 5 → parseFieldDescriptor (TX11 k).2.2.1 = some (tyX11 k) := by decide +kernel
abbrev cX11_hashCode : ByteArray := prog_10_method_3_code
def yX11_hashCode : MethodName := ⟨RX11, "hashCode", "()I"⟩
theorem dX11_hashCode_0 : decode cX11_hashCode 0 = .ok (.aload_n 0, 1) := by decide +kernel
theorem dX11_hashCode_1 : decode cX11_hashCode 1 = .ok (.getfield 16, 3) := by decide +kernel
theorem dX11_hashCode_4 : decode cX11_hashCode 4 = .ok (.ireturn, 1) := by decide +kernel
abbrev cX11_equals : ByteArray := prog_10_method_2_code
def yX11_equals : MethodName := ⟨RX11, "equals", "(Ljava/lang/Object;)Z"⟩
def dkwX11_equals_0 : List UInt8 := [43, 42, 166, 0, 7, 4, 167, 0, 4, 3, 172]
abbrev dktX11_equals_0 : List UInt8 := dkwX11_equals_0 ++ []
theorem dksX11_equals_0 : cX11_equals.data.toList.drop 0 = dktX11_equals_0 := by decide +kernel
theorem dX11_equals_0 : decode cX11_equals 0 = .ok (.aload_n 1, 1) := dk_43 (dk_at dksX11_equals_0 0 rfl rfl)
theorem dX11_equals_1 : decode cX11_equals 1 = .ok (.aload_n 0, 1) := dk_42 (dk_at dksX11_equals_0 1 rfl rfl)
theorem dX11_equals_2 : decode cX11_equals 2 = .ok (.if_acmp .ne 7, 3) := dk_166 0 7 (dk_at dksX11_equals_0 2 rfl rfl)
theorem dX11_equals_5 : decode cX11_equals 5 = .ok (.iconst 1, 1) := dk_4 (dk_at dksX11_equals_0 5 rfl rfl)
theorem dX11_equals_6 : decode cX11_equals 6 = .ok (.goto 4, 3) := dk_167 0 4 (dk_at dksX11_equals_0 6 rfl rfl)
theorem dX11_equals_9 : decode cX11_equals 9 = .ok (.iconst 0, 1) := dk_3 (dk_at dksX11_equals_0 9 rfl rfl)
theorem dX11_equals_10 : decode cX11_equals 10 = .ok (.ireturn, 1) := dk_172 (dk_at dksX11_equals_0 10 rfl rfl)
abbrev cX11_init : ByteArray := prog_10_method_1_code
def yX11_init : MethodName := ⟨RX11, "<init>", "(IIIZI)V"⟩
def dkwX11_init_1 : List UInt8 := [181, 0, 19, 42, 21, 5, 181, 0, 23, 177]
abbrev dktX11_init_1 : List UInt8 := dkwX11_init_1 ++ []
def dkwX11_init_0 : List UInt8 := [42, 183, 0, 1, 42, 27, 181, 0, 7, 42, 28, 181, 0, 13, 42, 29, 181, 0, 16, 42, 21, 4]
abbrev dktX11_init_0 : List UInt8 := dkwX11_init_0 ++ dktX11_init_1
theorem dksX11_init_0 : cX11_init.data.toList.drop 0 = dktX11_init_0 := by decide +kernel
theorem dksX11_init_1 : cX11_init.data.toList.drop 22 = dktX11_init_1 := dk_seg dksX11_init_0 22 rfl rfl
theorem dX11_init_0 : decode cX11_init 0 = .ok (.aload_n 0, 1) := dk_42 (dk_at dksX11_init_0 0 rfl rfl)
theorem dX11_init_1 : decode cX11_init 1 = .ok (.invokespecial 1, 3) := dk_183 0 1 (dk_at dksX11_init_0 1 rfl rfl)
theorem dX11_init_4 : decode cX11_init 4 = .ok (.aload_n 0, 1) := dk_42 (dk_at dksX11_init_0 4 rfl rfl)
theorem dX11_init_5 : decode cX11_init 5 = .ok (.iload_n 1, 1) := dk_27 (dk_at dksX11_init_0 5 rfl rfl)
theorem dX11_init_6 : decode cX11_init 6 = .ok (.putfield 7, 3) := dk_181 0 7 (dk_at dksX11_init_0 6 rfl rfl)
theorem dX11_init_9 : decode cX11_init 9 = .ok (.aload_n 0, 1) := dk_42 (dk_at dksX11_init_0 9 rfl rfl)
theorem dX11_init_10 : decode cX11_init 10 = .ok (.iload_n 2, 1) := dk_28 (dk_at dksX11_init_0 10 rfl rfl)
theorem dX11_init_11 : decode cX11_init 11 = .ok (.putfield 13, 3) := dk_181 0 13 (dk_at dksX11_init_0 11 rfl rfl)
theorem dX11_init_14 : decode cX11_init 14 = .ok (.aload_n 0, 1) := dk_42 (dk_at dksX11_init_0 14 rfl rfl)
theorem dX11_init_15 : decode cX11_init 15 = .ok (.iload_n 3, 1) := dk_29 (dk_at dksX11_init_0 15 rfl rfl)
theorem dX11_init_16 : decode cX11_init 16 = .ok (.putfield 16, 3) := dk_181 0 16 (dk_at dksX11_init_0 16 rfl rfl)
theorem dX11_init_19 : decode cX11_init 19 = .ok (.aload_n 0, 1) := dk_42 (dk_at dksX11_init_0 19 rfl rfl)
theorem dX11_init_20 : decode cX11_init 20 = .ok (.iload 4, 2) := dk_21 4 (dk_at dksX11_init_0 20 rfl rfl)
theorem dX11_init_22 : decode cX11_init 22 = .ok (.putfield 19, 3) := dk_181 0 19 (dk_at dksX11_init_1 0 rfl rfl)
theorem dX11_init_25 : decode cX11_init 25 = .ok (.aload_n 0, 1) := dk_42 (dk_at dksX11_init_1 3 rfl rfl)
theorem dX11_init_26 : decode cX11_init 26 = .ok (.iload 5, 2) := dk_21 5 (dk_at dksX11_init_1 4 rfl rfl)
theorem dX11_init_28 : decode cX11_init 28 = .ok (.putfield 23, 3) := dk_181 0 23 (dk_at dksX11_init_1 6 rfl rfl)
theorem dX11_init_31 : decode cX11_init 31 = .ok (.return_, 1) := dk_177 (dk_at dksX11_init_1 9 rfl rfl)
abbrev cX11_job : ByteArray := prog_10_method_5_code
def yX11_job : MethodName := ⟨RX11, "job", "()I"⟩
theorem dX11_job_0 : decode cX11_job 0 = .ok (.aload_n 0, 1) := by decide +kernel
theorem dX11_job_1 : decode cX11_job 1 = .ok (.getfield 7, 3) := by decide +kernel
theorem dX11_job_4 : decode cX11_job 4 = .ok (.ireturn, 1) := by decide +kernel
abbrev cX11_method : ByteArray := prog_10_method_6_code
def yX11_method : MethodName := ⟨RX11, "method", "()I"⟩
theorem dX11_method_0 : decode cX11_method 0 = .ok (.aload_n 0, 1) := by decide +kernel
theorem dX11_method_1 : decode cX11_method 1 = .ok (.getfield 13, 3) := by decide +kernel
theorem dX11_method_4 : decode cX11_method 4 = .ok (.ireturn, 1) := by decide +kernel
abbrev cX11_value : ByteArray := prog_10_method_7_code
def yX11_value : MethodName := ⟨RX11, "value", "()I"⟩
theorem dX11_value_0 : decode cX11_value 0 = .ok (.aload_n 0, 1) := by decide +kernel
theorem dX11_value_1 : decode cX11_value 1 = .ok (.getfield 16, 3) := by decide +kernel
theorem dX11_value_4 : decode cX11_value 4 = .ok (.ireturn, 1) := by decide +kernel
abbrev cX11_error : ByteArray := prog_10_method_8_code
def yX11_error : MethodName := ⟨RX11, "error", "()Z"⟩
theorem dX11_error_0 : decode cX11_error 0 = .ok (.aload_n 0, 1) := by decide +kernel
theorem dX11_error_1 : decode cX11_error 1 = .ok (.getfield 19, 3) := by decide +kernel
theorem dX11_error_4 : decode cX11_error 4 = .ok (.ireturn, 1) := by decide +kernel
abbrev cX11_depth : ByteArray := prog_10_method_9_code
def yX11_depth : MethodName := ⟨RX11, "depth", "()I"⟩
theorem dX11_depth_0 : decode cX11_depth 0 = .ok (.aload_n 0, 1) := by decide +kernel
theorem dX11_depth_1 : decode cX11_depth 1 = .ok (.getfield 23, 3) := by decide +kernel
theorem dX11_depth_4 : decode cX11_depth 4 = .ok (.ireturn, 1) := by decide +kernel
theorem q164 : (Jvm.Cond.initialized "ProbeConsole$Seen") ∈ lw_all := lw_g (lw_at lw_m1 49 rfl) rfl
theorem q1007 : (Jvm.Cond.selects "ProbeConsole$Seen" ({ cls := "java/lang/Object", name := "getClass", desc := "()Ljava/lang/Class;" } : Jvm.MethodName) ({ cls := "java/lang/Object", name := "getClass", desc := "()Ljava/lang/Class;" } : Jvm.MethodName)) ∈ lw_all := lw_g (lw_at lw_m4 172 rfl) rfl
theorem q1143 : (Jvm.Cond.selects "ProbeConsole$Seen" ({ cls := "java/lang/Object", name := "hashCode", desc := "()I" } : Jvm.MethodName) ({ cls := "ProbeConsole$Seen", name := "hashCode", desc := "()I" } : Jvm.MethodName)) ∈ lw_all := lw_g (lw_at lw_m5 68 rfl) rfl
theorem q1144 : (Jvm.Cond.instanceMethod ({ cls := "ProbeConsole$Seen", name := "hashCode", desc := "()I" } : Jvm.MethodName)) ∈ lw_all := lw_g (lw_at lw_m5 69 rfl) rfl
theorem q1145 : (Jvm.Cond.code ({ cls := "ProbeConsole$Seen", name := "hashCode", desc := "()I" } : Jvm.MethodName) prog_10_method_3_code (1 : Nat) (Option.some Jvm.ClassFile.FieldType.int)) ∈ lw_all := lw_g (lw_at lw_m5 70 rfl) rfl
theorem q1234 : (Jvm.Cond.selects "ProbeConsole$Seen" ({ cls := "java/lang/Object", name := "equals", desc := "(Ljava/lang/Object;)Z" } : Jvm.MethodName) ({ cls := "ProbeConsole$Seen", name := "equals", desc := "(Ljava/lang/Object;)Z" } : Jvm.MethodName)) ∈ lw_all := lw_g (lw_at lw_m5 159 rfl) rfl
theorem q1235 : (Jvm.Cond.instanceMethod ({ cls := "ProbeConsole$Seen", name := "equals", desc := "(Ljava/lang/Object;)Z" } : Jvm.MethodName)) ∈ lw_all := lw_g (lw_at lw_m5 160 rfl) rfl
theorem q1236 : (Jvm.Cond.code ({ cls := "ProbeConsole$Seen", name := "equals", desc := "(Ljava/lang/Object;)Z" } : Jvm.MethodName) prog_10_method_2_code (2 : Nat) (Option.some Jvm.ClassFile.FieldType.boolean)) ∈ lw_all := lw_g (lw_at lw_m5 161 rfl) rfl
theorem q2125 : (Jvm.Cond.instantiable "ProbeConsole$Seen" (5 : Nat)) ∈ lw_all := lw_g (lw_at lw_m9 90 rfl) rfl
theorem q2127 : (Jvm.Cond.instanceMethod ({ cls := "ProbeConsole$Seen", name := "<init>", desc := "(IIIZI)V" } : Jvm.MethodName)) ∈ lw_all := lw_g (lw_at lw_m9 92 rfl) rfl
theorem q2128 : (Jvm.Cond.code ({ cls := "ProbeConsole$Seen", name := "<init>", desc := "(IIIZI)V" } : Jvm.MethodName) prog_10_method_1_code (6 : Nat) (Option.none : Option Jvm.ClassFile.FieldType)) ∈ lw_all := lw_g (lw_at lw_m9 93 rfl) rfl
theorem q2129 : (Jvm.Cond.methodLink "ProbeConsole$Seen" (1 : Nat) ({ cls := "java/lang/Record", name := "<init>", desc := "()V" } : Jvm.MethodName)) ∈ lw_all := lw_g (lw_at lw_m9 94 rfl) rfl
theorem q2130 : (Jvm.Cond.fieldLink "ProbeConsole$Seen" (7 : Nat) "ProbeConsole$Seen" "job" "I") ∈ lw_all := lw_g (lw_at lw_m9 95 rfl) rfl
theorem q2131 : (Jvm.Cond.fieldLink "ProbeConsole$Seen" (13 : Nat) "ProbeConsole$Seen" "method" "I") ∈ lw_all := lw_g (lw_at lw_m9 96 rfl) rfl
theorem q2132 : (Jvm.Cond.fieldLink "ProbeConsole$Seen" (16 : Nat) "ProbeConsole$Seen" "value" "I") ∈ lw_all := lw_g (lw_at lw_m9 97 rfl) rfl
theorem q2133 : (Jvm.Cond.fieldLink "ProbeConsole$Seen" (19 : Nat) "ProbeConsole$Seen" "error" "Z") ∈ lw_all := lw_g (lw_at lw_m9 98 rfl) rfl
theorem q2134 : (Jvm.Cond.fieldLink "ProbeConsole$Seen" (23 : Nat) "ProbeConsole$Seen" "depth" "I") ∈ lw_all := lw_g (lw_at lw_m9 99 rfl) rfl
theorem q2135 : (Jvm.Cond.laysFinal "ProbeConsole$Seen" "ProbeConsole$Seen" "job" "I") ∈ lw_all := lw_g (lw_at lw_m9 100 rfl) rfl
theorem q2136 : (Jvm.Cond.soleField "ProbeConsole$Seen" "job") ∈ lw_all := lw_g (lw_at lw_m9 101 rfl) rfl
theorem q2137 : (Jvm.Cond.laysFinal "ProbeConsole$Seen" "ProbeConsole$Seen" "method" "I") ∈ lw_all := lw_g (lw_at lw_m9 102 rfl) rfl
theorem q2138 : (Jvm.Cond.soleField "ProbeConsole$Seen" "method") ∈ lw_all := lw_g (lw_at lw_m9 103 rfl) rfl
theorem q2139 : (Jvm.Cond.laysFinal "ProbeConsole$Seen" "ProbeConsole$Seen" "value" "I") ∈ lw_all := lw_g (lw_at lw_m9 104 rfl) rfl
theorem q2140 : (Jvm.Cond.soleField "ProbeConsole$Seen" "value") ∈ lw_all := lw_g (lw_at lw_m9 105 rfl) rfl
theorem q2141 : (Jvm.Cond.laysFinal "ProbeConsole$Seen" "ProbeConsole$Seen" "error" "Z") ∈ lw_all := lw_g (lw_at lw_m9 106 rfl) rfl
theorem q2142 : (Jvm.Cond.soleField "ProbeConsole$Seen" "error") ∈ lw_all := lw_g (lw_at lw_m9 107 rfl) rfl
theorem q2143 : (Jvm.Cond.laysFinal "ProbeConsole$Seen" "ProbeConsole$Seen" "depth" "I") ∈ lw_all := lw_g (lw_at lw_m9 108 rfl) rfl
theorem q2144 : (Jvm.Cond.soleField "ProbeConsole$Seen" "depth") ∈ lw_all := lw_g (lw_at lw_m9 109 rfl) rfl
theorem q2145 : (Jvm.Cond.superclass "ProbeConsole$Seen" "java/lang/Record") ∈ lw_all := lw_g (lw_at lw_m9 110 rfl) rfl
theorem q2156 : (Jvm.Cond.instanceMethod ({ cls := "ProbeConsole$Seen", name := "job", desc := "()I" } : Jvm.MethodName)) ∈ lw_all := lw_g (lw_at lw_m9 121 rfl) rfl
theorem q2157 : (Jvm.Cond.selects "ProbeConsole$Seen" ({ cls := "ProbeConsole$Seen", name := "job", desc := "()I" } : Jvm.MethodName) ({ cls := "ProbeConsole$Seen", name := "job", desc := "()I" } : Jvm.MethodName)) ∈ lw_all := lw_g (lw_at lw_m9 122 rfl) rfl
theorem q2158 : (Jvm.Cond.code ({ cls := "ProbeConsole$Seen", name := "job", desc := "()I" } : Jvm.MethodName) prog_10_method_5_code (1 : Nat) (Option.some Jvm.ClassFile.FieldType.int)) ∈ lw_all := lw_g (lw_at lw_m9 123 rfl) rfl
theorem q2160 : (Jvm.Cond.instanceMethod ({ cls := "ProbeConsole$Seen", name := "method", desc := "()I" } : Jvm.MethodName)) ∈ lw_all := lw_g (lw_at lw_m9 125 rfl) rfl
theorem q2161 : (Jvm.Cond.selects "ProbeConsole$Seen" ({ cls := "ProbeConsole$Seen", name := "method", desc := "()I" } : Jvm.MethodName) ({ cls := "ProbeConsole$Seen", name := "method", desc := "()I" } : Jvm.MethodName)) ∈ lw_all := lw_g (lw_at lw_m9 126 rfl) rfl
theorem q2162 : (Jvm.Cond.code ({ cls := "ProbeConsole$Seen", name := "method", desc := "()I" } : Jvm.MethodName) prog_10_method_6_code (1 : Nat) (Option.some Jvm.ClassFile.FieldType.int)) ∈ lw_all := lw_g (lw_at lw_m9 127 rfl) rfl
theorem q2164 : (Jvm.Cond.instanceMethod ({ cls := "ProbeConsole$Seen", name := "value", desc := "()I" } : Jvm.MethodName)) ∈ lw_all := lw_g (lw_at lw_m9 129 rfl) rfl
theorem q2165 : (Jvm.Cond.selects "ProbeConsole$Seen" ({ cls := "ProbeConsole$Seen", name := "value", desc := "()I" } : Jvm.MethodName) ({ cls := "ProbeConsole$Seen", name := "value", desc := "()I" } : Jvm.MethodName)) ∈ lw_all := lw_g (lw_at lw_m9 130 rfl) rfl
theorem q2166 : (Jvm.Cond.code ({ cls := "ProbeConsole$Seen", name := "value", desc := "()I" } : Jvm.MethodName) prog_10_method_7_code (1 : Nat) (Option.some Jvm.ClassFile.FieldType.int)) ∈ lw_all := lw_g (lw_at lw_m9 131 rfl) rfl
theorem q2168 : (Jvm.Cond.instanceMethod ({ cls := "ProbeConsole$Seen", name := "error", desc := "()Z" } : Jvm.MethodName)) ∈ lw_all := lw_g (lw_at lw_m9 133 rfl) rfl
theorem q2169 : (Jvm.Cond.selects "ProbeConsole$Seen" ({ cls := "ProbeConsole$Seen", name := "error", desc := "()Z" } : Jvm.MethodName) ({ cls := "ProbeConsole$Seen", name := "error", desc := "()Z" } : Jvm.MethodName)) ∈ lw_all := lw_g (lw_at lw_m9 134 rfl) rfl
theorem q2170 : (Jvm.Cond.code ({ cls := "ProbeConsole$Seen", name := "error", desc := "()Z" } : Jvm.MethodName) prog_10_method_8_code (1 : Nat) (Option.some Jvm.ClassFile.FieldType.boolean)) ∈ lw_all := lw_g (lw_at lw_m9 135 rfl) rfl
theorem q2172 : (Jvm.Cond.instanceMethod ({ cls := "ProbeConsole$Seen", name := "depth", desc := "()I" } : Jvm.MethodName)) ∈ lw_all := lw_g (lw_at lw_m9 137 rfl) rfl
theorem q2173 : (Jvm.Cond.selects "ProbeConsole$Seen" ({ cls := "ProbeConsole$Seen", name := "depth", desc := "()I" } : Jvm.MethodName) ({ cls := "ProbeConsole$Seen", name := "depth", desc := "()I" } : Jvm.MethodName)) ∈ lw_all := lw_g (lw_at lw_m9 138 rfl) rfl
theorem q2174 : (Jvm.Cond.code ({ cls := "ProbeConsole$Seen", name := "depth", desc := "()I" } : Jvm.MethodName) prog_10_method_9_code (1 : Nat) (Option.some Jvm.ClassFile.FieldType.int)) ∈ lw_all := lw_g (lw_at lw_m9 139 rfl) rfl
theorem q2813 : (Jvm.Cond.castable "ProbeConsole$Seen" "java/lang/Object") ∈ lw_tbl := lw_at lw_m12 58 rfl
theorem in_X11 : ∀ w ∈ wsX110, w ∈ lw_all := lw_in wsX110 [2135, 2137, 2139, 2141, 2143] (by decide +kernel) (by decide +kernel)
