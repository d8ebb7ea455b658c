/-! ProbeConsoleModel -/
set_option maxRecDepth 100000
def RX5 : String := "ProbeConsoleModel"
def TX5 : u_T := fun k => match k with
  | 0 => ("ProbeConsoleModel", "thrown", "I", false)
  | 1 => ("ProbeConsoleModel", "tape", "[I", true)
  | 2 => ("ProbeConsoleModel", "size", "I", false)
  | 3 => ("ProbeConsoleModel", "fault", "I", false)
  | 4 => ("ProbeConsoleModel", "place", "I", false)
  | 5 => ("ProbeConsoleModel", "at", "I", false)
  | 6 => ("ProbeConsoleModel", "steps", "[I", true)
  | 7 => ("ProbeConsoleModel", "values", "[J", true)
  | 8 => ("ProbeConsoleModel", "lengths", "[I", true)
  | 9 => ("ProbeConsoleModel", "methods", "I", false)
  | 10 => ("ProbeConsoleModel", "names", "[J", true)
  | 11 => ("ProbeConsoleModel", "parameters", "[I", true)
  | 12 => ("ProbeConsoleModel", "length", "I", false)
  | 13 => ("ProbeConsoleModel", "nodes", "I", false)
  | 14 => ("ProbeConsoleModel", "inCommand", "Z", false)
  | 15 => ("ProbeConsoleModel", "variables", "I", false)
  | 16 => ("ProbeConsoleModel", "waits", "[I", true)
  | 17 => ("ProbeConsoleModel", "waitPlaces", "[I", true)
  | 18 => ("ProbeConsoleModel", "waitValues", "[I", true)
  | 19 => ("ProbeConsoleModel", "waitNames", "[J", true)
  | 20 => ("ProbeConsoleModel", "waiting", "I", false)
  | 21 => ("ProbeConsoleModel", "operands", "[I", true)
  | 22 => ("ProbeConsoleModel", "operandCount", "I", false)
  | 23 => ("ProbeConsoleModel", "opened", "I", false)
  | 24 => ("ProbeConsoleModel", "rowName", "J", false)
  | 25 => ("ProbeConsoleModel", "kinds", "[I", true)
  | 26 => ("ProbeConsoleModel", "points", "[I", true)
  | 27 => ("ProbeConsoleModel", "limits", "[I", true)
  | 28 => ("ProbeConsoleModel", "mades", "[I", true)
  | 29 => ("ProbeConsoleModel", "conditioned", "[Z", true)
  | 30 => ("ProbeConsoleModel", "patterns", "[I", true)
  | 31 => ("ProbeConsoleModel", "patternSizes", "[I", true)
  | 32 => ("ProbeConsoleModel", "newPattern", "[I", true)
  | 33 => ("ProbeConsoleModel", "newPatternSize", "I", false)
  | 34 => ("ProbeConsoleModel", "counts", "[I", true)
  | 35 => ("ProbeConsoleModel", "recordCount", "I", false)
  | 36 => ("ProbeConsoleModel", "records", "[I", true)
  | 37 => ("ProbeConsoleModel", "keepCount", "I", false)
  | 38 => ("ProbeConsoleModel", "keptOnes", "[I", true)
  | 39 => ("ProbeConsoleModel", "depth", "I", false)
  | 40 => ("ProbeConsoleModel", "invoked", "I", false)
  | 41 => ("ProbeConsoleModel", "value", "I", false)
  | 42 => ("ProbeConsoleModel", "quiet", "Z", false)
  | 43 => ("ProbeConsoleModel", "runMethods", "[I", true)
  | 44 => ("ProbeConsoleModel", "runParameters", "[I", true)
  | 45 => ("ProbeConsoleModel", "runPlaces", "[I", true)
  | 46 => ("ProbeConsoleModel", "stack", "[I", true)
  | 47 => ("ProbeConsoleModel", "height", "I", false)
  | 48 => ("ProbeConsoleModel", "tryPlaces", "[I", true)
  | 49 => ("ProbeConsoleModel", "tryHeights", "[I", true)
  | 50 => ("ProbeConsoleModel", "tryDepths", "[I", true)
  | 51 => ("ProbeConsoleModel", "tries", "I", false)
  | 52 => ("ProbeConsoleModel", "threw", "Z", false)
  | 53 => ("ProbeConsoleModel", "answer", "I", false)
  | 54 => ("ProbeConsoleModel", "seen", "[I", true)
  | 55 => ("ProbeConsoleModel", "probeStack", "[I", true)
  | 56 => ("ProbeConsoleModel", "probeTries", "[I", true)
  | 57 => ("ProbeConsoleModel", "probeHeights", "[I", true)
  | 58 => ("ProbeConsoleModel", "probeValue", "I", false)
  | _ => ("ProbeConsoleModel", "probeThrew", "Z", false)
def tyX5 : Nat → FieldType := fun k => match k with
  | 0 => .int
  | 1 => .array .int
  | 2 => .int
  | 3 => .int
  | 4 => .int
  | 5 => .int
  | 6 => .array .int
  | 7 => .array .long
  | 8 => .array .int
  | 9 => .int
  | 10 => .array .long
  | 11 => .array .int
  | 12 => .int
  | 13 => .int
  | 14 => .boolean
  | 15 => .int
  | 16 => .array .int
  | 17 => .array .int
  | 18 => .array .int
  | 19 => .array .long
  | 20 => .int
  | 21 => .array .int
  | 22 => .int
  | 23 => .int
  | 24 => .long
  | 25 => .array .int
  | 26 => .array .int
  | 27 => .array .int
  | 28 => .array .int
  | 29 => .array .boolean
  | 30 => .array .int
  | 31 => .array .int
  | 32 => .array .int
  | 33 => .int
  | 34 => .array .int
  | 35 => .int
  | 36 => .array .int
  | 37 => .int
  | 38 => .array .int
  | 39 => .int
  | 40 => .int
  | 41 => .int
  | 42 => .boolean
  | 43 => .array .int
  | 44 => .array .int
  | 45 => .array .int
  | 46 => .array .int
  | 47 => .int
  | 48 => .array .int
  | 49 => .array .int
  | 50 => .array .int
  | 51 => .int
  | 52 => .boolean
  | 53 => .int
  | 54 => .array .int
  | 55 => .array .int
  | 56 => .array .int
  | 57 => .array .int
  | 58 => .int
  | _ => .boolean
abbrev wsX50 : List Cond := u_ws RX5 TX5 60
set_option maxRecDepth 100000 in
theorem nmX5 : ∀ a, a < 60 → ∀ b, b < 60 → a ≠ b → (TX5 a).2.1 ≠ (TX5 b).2.1 := by decide +kernel
set_option maxRecDepth 100000 in
theorem tyX5_ok : ∀ k, k < 60 → parseFieldDescriptor (TX5 k).2.2.1 = some (tyX5 k) := by decide +kernel
abbrev cX5_init : ByteArray := prog_12_method_1_code
def yX5_init : MethodName := ⟨RX5, "<init>", "()V"⟩
def dkwX5_init_12 : List UInt8 := [181, 0, 112, 177]
abbrev dktX5_init_12 : List UInt8 := dkwX5_init_12 ++ []
def dkwX5_init_11 : List UInt8 := [181, 0, 103, 42, 16, 64, 188, 10, 181, 0, 106, 42, 16, 32, 188, 10, 181, 0, 109, 42, 16, 32, 188, 10]
abbrev dktX5_init_11 : List UInt8 := dkwX5_init_11 ++ dktX5_init_12
def dkwX5_init_10 : List UInt8 := [17, 1, 0, 188, 10, 181, 0, 97, 42, 17, 1, 0, 188, 10, 181, 0, 100, 42, 16, 7, 188, 10]
abbrev dktX5_init_10 : List UInt8 := dkwX5_init_10 ++ dktX5_init_11
def dkwX5_init_9 : List UInt8 := [181, 0, 88, 42, 17, 2, 0, 188, 10, 181, 0, 91, 42, 17, 1, 0, 188, 10, 181, 0, 94, 42]
abbrev dktX5_init_9 : List UInt8 := dkwX5_init_9 ++ dktX5_init_10
def dkwX5_init_8 : List UInt8 := [181, 0, 79, 42, 16, 11, 188, 10, 181, 0, 82, 42, 16, 33, 188, 10, 181, 0, 85, 42, 16, 11, 188, 10]
abbrev dktX5_init_8 : List UInt8 := dkwX5_init_8 ++ dktX5_init_9
def dkwX5_init_7 : List UInt8 := [17, 1, 128, 188, 10, 181, 0, 73, 42, 17, 5, 220, 188, 10, 181, 0, 76, 42, 17, 1, 24, 188, 10]
abbrev dktX5_init_7 : List UInt8 := dkwX5_init_7 ++ dktX5_init_8
def dkwX5_init_6 : List UInt8 := [188, 10, 181, 0, 64, 42, 16, 8, 188, 10, 181, 0, 67, 42, 16, 12, 188, 10, 181, 0, 70, 42]
abbrev dktX5_init_6 : List UInt8 := dkwX5_init_6 ++ dktX5_init_7
def dkwX5_init_5 : List UInt8 := [188, 10, 181, 0, 54, 42, 16, 8, 188, 10, 181, 0, 57, 42, 16, 8, 188, 4, 181, 0, 60, 42, 16, 96]
abbrev dktX5_init_5 : List UInt8 := dkwX5_init_5 ++ dktX5_init_6
def dkwX5_init_4 : List UInt8 := [188, 10, 181, 0, 45, 42, 16, 8, 188, 10, 181, 0, 48, 42, 16, 8, 188, 10, 181, 0, 51, 42, 16, 8]
abbrev dktX5_init_4 : List UInt8 := dkwX5_init_4 ++ dktX5_init_5
def dkwX5_init_3 : List UInt8 := [188, 10, 181, 0, 36, 42, 16, 64, 188, 10, 181, 0, 39, 42, 16, 64, 188, 11, 181, 0, 42, 42, 16, 64]
abbrev dktX5_init_3 : List UInt8 := dkwX5_init_3 ++ dktX5_init_4
def dkwX5_init_2 : List UInt8 := [188, 11, 181, 0, 27, 42, 16, 16, 188, 10, 181, 0, 30, 42, 16, 64, 188, 10, 181, 0, 33, 42, 16, 64]
abbrev dktX5_init_2 : List UInt8 := dkwX5_init_2 ++ dktX5_init_3
def dkwX5_init_1 : List UInt8 := [181, 0, 17, 42, 17, 8, 64, 188, 11, 181, 0, 20, 42, 16, 33, 188, 10, 181, 0, 24, 42, 16, 16]
abbrev dktX5_init_1 : List UInt8 := dkwX5_init_1 ++ dktX5_init_2
def dkwX5_init_0 : List UInt8 := [42, 183, 0, 1, 42, 17, 0, 200, 188, 10, 181, 0, 7, 42, 2, 181, 0, 13, 42, 17, 8, 64, 188, 10]
abbrev dktX5_init_0 : List UInt8 := dkwX5_init_0 ++ dktX5_init_1
theorem dksX5_init_0 : cX5_init.data.toList.drop 0 = dktX5_init_0 := by decide +kernel
theorem dksX5_init_1 : cX5_init.data.toList.drop 24 = dktX5_init_1 := dk_seg dksX5_init_0 24 rfl rfl
theorem dksX5_init_2 : cX5_init.data.toList.drop 47 = dktX5_init_2 := dk_seg dksX5_init_1 23 rfl rfl
theorem dksX5_init_3 : cX5_init.data.toList.drop 71 = dktX5_init_3 := dk_seg dksX5_init_2 24 rfl rfl
theorem dksX5_init_4 : cX5_init.data.toList.drop 95 = dktX5_init_4 := dk_seg dksX5_init_3 24 rfl rfl
theorem dksX5_init_5 : cX5_init.data.toList.drop 119 = dktX5_init_5 := dk_seg dksX5_init_4 24 rfl rfl
theorem dksX5_init_6 : cX5_init.data.toList.drop 143 = dktX5_init_6 := dk_seg dksX5_init_5 24 rfl rfl
theorem dksX5_init_7 : cX5_init.data.toList.drop 165 = dktX5_init_7 := dk_seg dksX5_init_6 22 rfl rfl
theorem dksX5_init_8 : cX5_init.data.toList.drop 188 = dktX5_init_8 := dk_seg dksX5_init_7 23 rfl rfl
theorem dksX5_init_9 : cX5_init.data.toList.drop 212 = dktX5_init_9 := dk_seg dksX5_init_8 24 rfl rfl
theorem dksX5_init_10 : cX5_init.data.toList.drop 234 = dktX5_init_10 := dk_seg dksX5_init_9 22 rfl rfl
theorem dksX5_init_11 : cX5_init.data.toList.drop 256 = dktX5_init_11 := dk_seg dksX5_init_10 22 rfl rfl
theorem dksX5_init_12 : cX5_init.data.toList.drop 280 = dktX5_init_12 := dk_seg dksX5_init_11 24 rfl rfl
theorem dX5_init_0 : decode cX5_init 0 = .ok (.aload_n 0, 1) := dk_42 (dk_at dksX5_init_0 0 rfl rfl)
theorem dX5_init_1 : decode cX5_init 1 = .ok (.invokespecial 1, 3) := dk_183 0 1 (dk_at dksX5_init_0 1 rfl rfl)
theorem dX5_init_4 : decode cX5_init 4 = .ok (.aload_n 0, 1) := dk_42 (dk_at dksX5_init_0 4 rfl rfl)
theorem dX5_init_5 : decode cX5_init 5 = .ok (.sipush 200, 3) := dk_17 0 200 (dk_at dksX5_init_0 5 rfl rfl)
theorem dX5_init_8 : decode cX5_init 8 = .ok (.newarray .int, 2) := dk_188_10 (dk_at dksX5_init_0 8 rfl rfl)
theorem dX5_init_10 : decode cX5_init 10 = .ok (.putfield 7, 3) := dk_181 0 7 (dk_at dksX5_init_0 10 rfl rfl)
theorem dX5_init_13 : decode cX5_init 13 = .ok (.aload_n 0, 1) := dk_42 (dk_at dksX5_init_0 13 rfl rfl)
theorem dX5_init_14 : decode cX5_init 14 = .ok (.iconst (-1), 1) := dk_2 (dk_at dksX5_init_0 14 rfl rfl)
theorem dX5_init_15 : decode cX5_init 15 = .ok (.putfield 13, 3) := dk_181 0 13 (dk_at dksX5_init_0 15 rfl rfl)
theorem dX5_init_18 : decode cX5_init 18 = .ok (.aload_n 0, 1) := dk_42 (dk_at dksX5_init_0 18 rfl rfl)
theorem dX5_init_19 : decode cX5_init 19 = .ok (.sipush 2112, 3) := dk_17 8 64 (dk_at dksX5_init_0 19 rfl rfl)
theorem dX5_init_22 : decode cX5_init 22 = .ok (.newarray .int, 2) := dk_188_10 (dk_at dksX5_init_0 22 rfl rfl)
theorem dX5_init_24 : decode cX5_init 24 = .ok (.putfield 17, 3) := dk_181 0 17 (dk_at dksX5_init_1 0 rfl rfl)
theorem dX5_init_27 : decode cX5_init 27 = .ok (.aload_n 0, 1) := dk_42 (dk_at dksX5_init_1 3 rfl rfl)
theorem dX5_init_28 : decode cX5_init 28 = .ok (.sipush 2112, 3) := dk_17 8 64 (dk_at dksX5_init_1 4 rfl rfl)
theorem dX5_init_31 : decode cX5_init 31 = .ok (.newarray .long, 2) := dk_188_11 (dk_at dksX5_init_1 7 rfl rfl)
theorem dX5_init_33 : decode cX5_init 33 = .ok (.putfield 20, 3) := dk_181 0 20 (dk_at dksX5_init_1 9 rfl rfl)
theorem dX5_init_36 : decode cX5_init 36 = .ok (.aload_n 0, 1) := dk_42 (dk_at dksX5_init_1 12 rfl rfl)
theorem dX5_init_37 : decode cX5_init 37 = .ok (.bipush 33, 2) := dk_16 33 (dk_at dksX5_init_1 13 rfl rfl)
theorem dX5_init_39 : decode cX5_init 39 = .ok (.newarray .int, 2) := dk_188_10 (dk_at dksX5_init_1 15 rfl rfl)
theorem dX5_init_41 : decode cX5_init 41 = .ok (.putfield 24, 3) := dk_181 0 24 (dk_at dksX5_init_1 17 rfl rfl)
theorem dX5_init_44 : decode cX5_init 44 = .ok (.aload_n 0, 1) := dk_42 (dk_at dksX5_init_1 20 rfl rfl)
theorem dX5_init_45 : decode cX5_init 45 = .ok (.bipush 16, 2) := dk_16 16 (dk_at dksX5_init_1 21 rfl rfl)
theorem dX5_init_47 : decode cX5_init 47 = .ok (.newarray .long, 2) := dk_188_11 (dk_at dksX5_init_2 0 rfl rfl)
theorem dX5_init_49 : decode cX5_init 49 = .ok (.putfield 27, 3) := dk_181 0 27 (dk_at dksX5_init_2 2 rfl rfl)
theorem dX5_init_52 : decode cX5_init 52 = .ok (.aload_n 0, 1) := dk_42 (dk_at dksX5_init_2 5 rfl rfl)
theorem dX5_init_53 : decode cX5_init 53 = .ok (.bipush 16, 2) := dk_16 16 (dk_at dksX5_init_2 6 rfl rfl)
theorem dX5_init_55 : decode cX5_init 55 = .ok (.newarray .int, 2) := dk_188_10 (dk_at dksX5_init_2 8 rfl rfl)
theorem dX5_init_57 : decode cX5_init 57 = .ok (.putfield 30, 3) := dk_181 0 30 (dk_at dksX5_init_2 10 rfl rfl)
theorem dX5_init_60 : decode cX5_init 60 = .ok (.aload_n 0, 1) := dk_42 (dk_at dksX5_init_2 13 rfl rfl)
theorem dX5_init_61 : decode cX5_init 61 = .ok (.bipush 64, 2) := dk_16 64 (dk_at dksX5_init_2 14 rfl rfl)
theorem dX5_init_63 : decode cX5_init 63 = .ok (.newarray .int, 2) := dk_188_10 (dk_at dksX5_init_2 16 rfl rfl)
theorem dX5_init_65 : decode cX5_init 65 = .ok (.putfield 33, 3) := dk_181 0 33 (dk_at dksX5_init_2 18 rfl rfl)
theorem dX5_init_68 : decode cX5_init 68 = .ok (.aload_n 0, 1) := dk_42 (dk_at dksX5_init_2 21 rfl rfl)
theorem dX5_init_69 : decode cX5_init 69 = .ok (.bipush 64, 2) := dk_16 64 (dk_at dksX5_init_2 22 rfl rfl)
theorem dX5_init_71 : decode cX5_init 71 = .ok (.newarray .int, 2) := dk_188_10 (dk_at dksX5_init_3 0 rfl rfl)
theorem dX5_init_73 : decode cX5_init 73 = .ok (.putfield 36, 3) := dk_181 0 36 (dk_at dksX5_init_3 2 rfl rfl)
theorem dX5_init_76 : decode cX5_init 76 = .ok (.aload_n 0, 1) := dk_42 (dk_at dksX5_init_3 5 rfl rfl)
theorem dX5_init_77 : decode cX5_init 77 = .ok (.bipush 64, 2) := dk_16 64 (dk_at dksX5_init_3 6 rfl rfl)
theorem dX5_init_79 : decode cX5_init 79 = .ok (.newarray .int, 2) := dk_188_10 (dk_at dksX5_init_3 8 rfl rfl)
theorem dX5_init_81 : decode cX5_init 81 = .ok (.putfield 39, 3) := dk_181 0 39 (dk_at dksX5_init_3 10 rfl rfl)
theorem dX5_init_84 : decode cX5_init 84 = .ok (.aload_n 0, 1) := dk_42 (dk_at dksX5_init_3 13 rfl rfl)
theorem dX5_init_85 : decode cX5_init 85 = .ok (.bipush 64, 2) := dk_16 64 (dk_at dksX5_init_3 14 rfl rfl)
theorem dX5_init_87 : decode cX5_init 87 = .ok (.newarray .long, 2) := dk_188_11 (dk_at dksX5_init_3 16 rfl rfl)
theorem dX5_init_89 : decode cX5_init 89 = .ok (.putfield 42, 3) := dk_181 0 42 (dk_at dksX5_init_3 18 rfl rfl)
theorem dX5_init_92 : decode cX5_init 92 = .ok (.aload_n 0, 1) := dk_42 (dk_at dksX5_init_3 21 rfl rfl)
theorem dX5_init_93 : decode cX5_init 93 = .ok (.bipush 64, 2) := dk_16 64 (dk_at dksX5_init_3 22 rfl rfl)
theorem dX5_init_95 : decode cX5_init 95 = .ok (.newarray .int, 2) := dk_188_10 (dk_at dksX5_init_4 0 rfl rfl)
theorem dX5_init_97 : decode cX5_init 97 = .ok (.putfield 45, 3) := dk_181 0 45 (dk_at dksX5_init_4 2 rfl rfl)
theorem dX5_init_100 : decode cX5_init 100 = .ok (.aload_n 0, 1) := dk_42 (dk_at dksX5_init_4 5 rfl rfl)
theorem dX5_init_101 : decode cX5_init 101 = .ok (.bipush 8, 2) := dk_16 8 (dk_at dksX5_init_4 6 rfl rfl)
theorem dX5_init_103 : decode cX5_init 103 = .ok (.newarray .int, 2) := dk_188_10 (dk_at dksX5_init_4 8 rfl rfl)
theorem dX5_init_105 : decode cX5_init 105 = .ok (.putfield 48, 3) := dk_181 0 48 (dk_at dksX5_init_4 10 rfl rfl)
theorem dX5_init_108 : decode cX5_init 108 = .ok (.aload_n 0, 1) := dk_42 (dk_at dksX5_init_4 13 rfl rfl)
theorem dX5_init_109 : decode cX5_init 109 = .ok (.bipush 8, 2) := dk_16 8 (dk_at dksX5_init_4 14 rfl rfl)
theorem dX5_init_111 : decode cX5_init 111 = .ok (.newarray .int, 2) := dk_188_10 (dk_at dksX5_init_4 16 rfl rfl)
theorem dX5_init_113 : decode cX5_init 113 = .ok (.putfield 51, 3) := dk_181 0 51 (dk_at dksX5_init_4 18 rfl rfl)
theorem dX5_init_116 : decode cX5_init 116 = .ok (.aload_n 0, 1) := dk_42 (dk_at dksX5_init_4 21 rfl rfl)
theorem dX5_init_117 : decode cX5_init 117 = .ok (.bipush 8, 2) := dk_16 8 (dk_at dksX5_init_4 22 rfl rfl)
theorem dX5_init_119 : decode cX5_init 119 = .ok (.newarray .int, 2) := dk_188_10 (dk_at dksX5_init_5 0 rfl rfl)
theorem dX5_init_121 : decode cX5_init 121 = .ok (.putfield 54, 3) := dk_181 0 54 (dk_at dksX5_init_5 2 rfl rfl)
theorem dX5_init_124 : decode cX5_init 124 = .ok (.aload_n 0, 1) := dk_42 (dk_at dksX5_init_5 5 rfl rfl)
theorem dX5_init_125 : decode cX5_init 125 = .ok (.bipush 8, 2) := dk_16 8 (dk_at dksX5_init_5 6 rfl rfl)
theorem dX5_init_127 : decode cX5_init 127 = .ok (.newarray .int, 2) := dk_188_10 (dk_at dksX5_init_5 8 rfl rfl)
theorem dX5_init_129 : decode cX5_init 129 = .ok (.putfield 57, 3) := dk_181 0 57 (dk_at dksX5_init_5 10 rfl rfl)
theorem dX5_init_132 : decode cX5_init 132 = .ok (.aload_n 0, 1) := dk_42 (dk_at dksX5_init_5 13 rfl rfl)
theorem dX5_init_133 : decode cX5_init 133 = .ok (.bipush 8, 2) := dk_16 8 (dk_at dksX5_init_5 14 rfl rfl)
theorem dX5_init_135 : decode cX5_init 135 = .ok (.newarray .boolean, 2) := dk_188_4 (dk_at dksX5_init_5 16 rfl rfl)
theorem dX5_init_137 : decode cX5_init 137 = .ok (.putfield 60, 3) := dk_181 0 60 (dk_at dksX5_init_5 18 rfl rfl)
theorem dX5_init_140 : decode cX5_init 140 = .ok (.aload_n 0, 1) := dk_42 (dk_at dksX5_init_5 21 rfl rfl)
theorem dX5_init_141 : decode cX5_init 141 = .ok (.bipush 96, 2) := dk_16 96 (dk_at dksX5_init_5 22 rfl rfl)
theorem dX5_init_143 : decode cX5_init 143 = .ok (.newarray .int, 2) := dk_188_10 (dk_at dksX5_init_6 0 rfl rfl)
theorem dX5_init_145 : decode cX5_init 145 = .ok (.putfield 64, 3) := dk_181 0 64 (dk_at dksX5_init_6 2 rfl rfl)
theorem dX5_init_148 : decode cX5_init 148 = .ok (.aload_n 0, 1) := dk_42 (dk_at dksX5_init_6 5 rfl rfl)
theorem dX5_init_149 : decode cX5_init 149 = .ok (.bipush 8, 2) := dk_16 8 (dk_at dksX5_init_6 6 rfl rfl)
theorem dX5_init_151 : decode cX5_init 151 = .ok (.newarray .int, 2) := dk_188_10 (dk_at dksX5_init_6 8 rfl rfl)
theorem dX5_init_153 : decode cX5_init 153 = .ok (.putfield 67, 3) := dk_181 0 67 (dk_at dksX5_init_6 10 rfl rfl)
theorem dX5_init_156 : decode cX5_init 156 = .ok (.aload_n 0, 1) := dk_42 (dk_at dksX5_init_6 13 rfl rfl)
theorem dX5_init_157 : decode cX5_init 157 = .ok (.bipush 12, 2) := dk_16 12 (dk_at dksX5_init_6 14 rfl rfl)
theorem dX5_init_159 : decode cX5_init 159 = .ok (.newarray .int, 2) := dk_188_10 (dk_at dksX5_init_6 16 rfl rfl)
theorem dX5_init_161 : decode cX5_init 161 = .ok (.putfield 70, 3) := dk_181 0 70 (dk_at dksX5_init_6 18 rfl rfl)
theorem dX5_init_164 : decode cX5_init 164 = .ok (.aload_n 0, 1) := dk_42 (dk_at dksX5_init_6 21 rfl rfl)
theorem dX5_init_165 : decode cX5_init 165 = .ok (.sipush 384, 3) := dk_17 1 128 (dk_at dksX5_init_7 0 rfl rfl)
theorem dX5_init_168 : decode cX5_init 168 = .ok (.newarray .int, 2) := dk_188_10 (dk_at dksX5_init_7 3 rfl rfl)
theorem dX5_init_170 : decode cX5_init 170 = .ok (.putfield 73, 3) := dk_181 0 73 (dk_at dksX5_init_7 5 rfl rfl)
theorem dX5_init_173 : decode cX5_init 173 = .ok (.aload_n 0, 1) := dk_42 (dk_at dksX5_init_7 8 rfl rfl)
theorem dX5_init_174 : decode cX5_init 174 = .ok (.sipush 1500, 3) := dk_17 5 220 (dk_at dksX5_init_7 9 rfl rfl)
theorem dX5_init_177 : decode cX5_init 177 = .ok (.newarray .int, 2) := dk_188_10 (dk_at dksX5_init_7 12 rfl rfl)
theorem dX5_init_179 : decode cX5_init 179 = .ok (.putfield 76, 3) := dk_181 0 76 (dk_at dksX5_init_7 14 rfl rfl)
theorem dX5_init_182 : decode cX5_init 182 = .ok (.aload_n 0, 1) := dk_42 (dk_at dksX5_init_7 17 rfl rfl)
theorem dX5_init_183 : decode cX5_init 183 = .ok (.sipush 280, 3) := dk_17 1 24 (dk_at dksX5_init_7 18 rfl rfl)
theorem dX5_init_186 : decode cX5_init 186 = .ok (.newarray .int, 2) := dk_188_10 (dk_at dksX5_init_7 21 rfl rfl)
theorem dX5_init_188 : decode cX5_init 188 = .ok (.putfield 79, 3) := dk_181 0 79 (dk_at dksX5_init_8 0 rfl rfl)
theorem dX5_init_191 : decode cX5_init 191 = .ok (.aload_n 0, 1) := dk_42 (dk_at dksX5_init_8 3 rfl rfl)
theorem dX5_init_192 : decode cX5_init 192 = .ok (.bipush 11, 2) := dk_16 11 (dk_at dksX5_init_8 4 rfl rfl)
theorem dX5_init_194 : decode cX5_init 194 = .ok (.newarray .int, 2) := dk_188_10 (dk_at dksX5_init_8 6 rfl rfl)
theorem dX5_init_196 : decode cX5_init 196 = .ok (.putfield 82, 3) := dk_181 0 82 (dk_at dksX5_init_8 8 rfl rfl)
theorem dX5_init_199 : decode cX5_init 199 = .ok (.aload_n 0, 1) := dk_42 (dk_at dksX5_init_8 11 rfl rfl)
theorem dX5_init_200 : decode cX5_init 200 = .ok (.bipush 33, 2) := dk_16 33 (dk_at dksX5_init_8 12 rfl rfl)
theorem dX5_init_202 : decode cX5_init 202 = .ok (.newarray .int, 2) := dk_188_10 (dk_at dksX5_init_8 14 rfl rfl)
theorem dX5_init_204 : decode cX5_init 204 = .ok (.putfield 85, 3) := dk_181 0 85 (dk_at dksX5_init_8 16 rfl rfl)
theorem dX5_init_207 : decode cX5_init 207 = .ok (.aload_n 0, 1) := dk_42 (dk_at dksX5_init_8 19 rfl rfl)
theorem dX5_init_208 : decode cX5_init 208 = .ok (.bipush 11, 2) := dk_16 11 (dk_at dksX5_init_8 20 rfl rfl)
theorem dX5_init_210 : decode cX5_init 210 = .ok (.newarray .int, 2) := dk_188_10 (dk_at dksX5_init_8 22 rfl rfl)
theorem dX5_init_212 : decode cX5_init 212 = .ok (.putfield 88, 3) := dk_181 0 88 (dk_at dksX5_init_9 0 rfl rfl)
theorem dX5_init_215 : decode cX5_init 215 = .ok (.aload_n 0, 1) := dk_42 (dk_at dksX5_init_9 3 rfl rfl)
theorem dX5_init_216 : decode cX5_init 216 = .ok (.sipush 512, 3) := dk_17 2 0 (dk_at dksX5_init_9 4 rfl rfl)
theorem dX5_init_219 : decode cX5_init 219 = .ok (.newarray .int, 2) := dk_188_10 (dk_at dksX5_init_9 7 rfl rfl)
theorem dX5_init_221 : decode cX5_init 221 = .ok (.putfield 91, 3) := dk_181 0 91 (dk_at dksX5_init_9 9 rfl rfl)
theorem dX5_init_224 : decode cX5_init 224 = .ok (.aload_n 0, 1) := dk_42 (dk_at dksX5_init_9 12 rfl rfl)
theorem dX5_init_225 : decode cX5_init 225 = .ok (.sipush 256, 3) := dk_17 1 0 (dk_at dksX5_init_9 13 rfl rfl)
theorem dX5_init_228 : decode cX5_init 228 = .ok (.newarray .int, 2) := dk_188_10 (dk_at dksX5_init_9 16 rfl rfl)
theorem dX5_init_230 : decode cX5_init 230 = .ok (.putfield 94, 3) := dk_181 0 94 (dk_at dksX5_init_9 18 rfl rfl)
theorem dX5_init_233 : decode cX5_init 233 = .ok (.aload_n 0, 1) := dk_42 (dk_at dksX5_init_9 21 rfl rfl)
theorem dX5_init_234 : decode cX5_init 234 = .ok (.sipush 256, 3) := dk_17 1 0 (dk_at dksX5_init_10 0 rfl rfl)
theorem dX5_init_237 : decode cX5_init 237 = .ok (.newarray .int, 2) := dk_188_10 (dk_at dksX5_init_10 3 rfl rfl)
theorem dX5_init_239 : decode cX5_init 239 = .ok (.putfield 97, 3) := dk_181 0 97 (dk_at dksX5_init_10 5 rfl rfl)
theorem dX5_init_242 : decode cX5_init 242 = .ok (.aload_n 0, 1) := dk_42 (dk_at dksX5_init_10 8 rfl rfl)
theorem dX5_init_243 : decode cX5_init 243 = .ok (.sipush 256, 3) := dk_17 1 0 (dk_at dksX5_init_10 9 rfl rfl)
theorem dX5_init_246 : decode cX5_init 246 = .ok (.newarray .int, 2) := dk_188_10 (dk_at dksX5_init_10 12 rfl rfl)
theorem dX5_init_248 : decode cX5_init 248 = .ok (.putfield 100, 3) := dk_181 0 100 (dk_at dksX5_init_10 14 rfl rfl)
theorem dX5_init_251 : decode cX5_init 251 = .ok (.aload_n 0, 1) := dk_42 (dk_at dksX5_init_10 17 rfl rfl)
theorem dX5_init_252 : decode cX5_init 252 = .ok (.bipush 7, 2) := dk_16 7 (dk_at dksX5_init_10 18 rfl rfl)
theorem dX5_init_254 : decode cX5_init 254 = .ok (.newarray .int, 2) := dk_188_10 (dk_at dksX5_init_10 20 rfl rfl)
theorem dX5_init_256 : decode cX5_init 256 = .ok (.putfield 103, 3) := dk_181 0 103 (dk_at dksX5_init_11 0 rfl rfl)
theorem dX5_init_259 : decode cX5_init 259 = .ok (.aload_n 0, 1) := dk_42 (dk_at dksX5_init_11 3 rfl rfl)
theorem dX5_init_260 : decode cX5_init 260 = .ok (.bipush 64, 2) := dk_16 64 (dk_at dksX5_init_11 4 rfl rfl)
theorem dX5_init_262 : decode cX5_init 262 = .ok (.newarray .int, 2) := dk_188_10 (dk_at dksX5_init_11 6 rfl rfl)
theorem dX5_init_264 : decode cX5_init 264 = .ok (.putfield 106, 3) := dk_181 0 106 (dk_at dksX5_init_11 8 rfl rfl)
theorem dX5_init_267 : decode cX5_init 267 = .ok (.aload_n 0, 1) := dk_42 (dk_at dksX5_init_11 11 rfl rfl)
theorem dX5_init_268 : decode cX5_init 268 = .ok (.bipush 32, 2) := dk_16 32 (dk_at dksX5_init_11 12 rfl rfl)
theorem dX5_init_270 : decode cX5_init 270 = .ok (.newarray .int, 2) := dk_188_10 (dk_at dksX5_init_11 14 rfl rfl)
theorem dX5_init_272 : decode cX5_init 272 = .ok (.putfield 109, 3) := dk_181 0 109 (dk_at dksX5_init_11 16 rfl rfl)
theorem dX5_init_275 : decode cX5_init 275 = .ok (.aload_n 0, 1) := dk_42 (dk_at dksX5_init_11 19 rfl rfl)
theorem dX5_init_276 : decode cX5_init 276 = .ok (.bipush 32, 2) := dk_16 32 (dk_at dksX5_init_11 20 rfl rfl)
theorem dX5_init_278 : decode cX5_init 278 = .ok (.newarray .int, 2) := dk_188_10 (dk_at dksX5_init_11 22 rfl rfl)
theorem dX5_init_280 : decode cX5_init 280 = .ok (.putfield 112, 3) := dk_181 0 112 (dk_at dksX5_init_12 0 rfl rfl)
theorem dX5_init_283 : decode cX5_init 283 = .ok (.return_, 1) := dk_177 (dk_at dksX5_init_12 3 rfl rfl)
abbrev cX5_thrown : ByteArray := prog_12_method_2_code
def yX5_thrown : MethodName := ⟨RX5, "thrown", "()I"⟩
theorem dX5_thrown_0 : decode cX5_thrown 0 = .ok (.aload_n 0, 1) := by decide +kernel
theorem dX5_thrown_1 : decode cX5_thrown 1 = .ok (.getfield 115, 3) := by decide +kernel
theorem dX5_thrown_4 : decode cX5_thrown 4 = .ok (.ireturn, 1) := by decide +kernel
abbrev cX5_feed : ByteArray := prog_12_method_3_code
def yX5_feed : MethodName := ⟨RX5, "feed", "(IJ)I"⟩
def dkwX5_feed_3 : List UInt8 := [79, 42, 89, 180, 0, 118, 4, 96, 181, 0, 118, 132, 4, 1, 167, 255, 216, 42, 180, 0, 118, 172]
abbrev dktX5_feed_3 : List UInt8 := dkwX5_feed_3 ++ []
def dkwX5_feed_2 : List UInt8 := [27, 162, 0, 40, 42, 180, 0, 7, 42, 180, 0, 118, 32, 16, 8, 21, 4, 104, 123, 20, 0, 121, 127, 136]
abbrev dktX5_feed_2 : List UInt8 := dkwX5_feed_2 ++ dktX5_feed_3
def dkwX5_feed_1 : List UInt8 := [158, 0, 5, 3, 172, 42, 180, 0, 118, 27, 96, 17, 0, 200, 164, 0, 5, 2, 172, 3, 54, 4, 21, 4]
abbrev dktX5_feed_1 : List UInt8 := dkwX5_feed_1 ++ dktX5_feed_2
def dkwX5_feed_0 : List UInt8 := [42, 27, 4, 161, 0, 9, 27, 16, 8, 164, 0, 7, 4, 167, 0, 4, 3, 181, 0, 115, 42, 180, 0, 115]
abbrev dktX5_feed_0 : List UInt8 := dkwX5_feed_0 ++ dktX5_feed_1
theorem dksX5_feed_0 : cX5_feed.data.toList.drop 0 = dktX5_feed_0 := by decide +kernel
theorem dksX5_feed_1 : cX5_feed.data.toList.drop 24 = dktX5_feed_1 := dk_seg dksX5_feed_0 24 rfl rfl
theorem dksX5_feed_2 : cX5_feed.data.toList.drop 48 = dktX5_feed_2 := dk_seg dksX5_feed_1 24 rfl rfl
theorem dksX5_feed_3 : cX5_feed.data.toList.drop 72 = dktX5_feed_3 := dk_seg dksX5_feed_2 24 rfl rfl
theorem dX5_feed_0 : decode cX5_feed 0 = .ok (.aload_n 0, 1) := dk_42 (dk_at dksX5_feed_0 0 rfl rfl)
theorem dX5_feed_1 : decode cX5_feed 1 = .ok (.iload_n 1, 1) := dk_27 (dk_at dksX5_feed_0 1 rfl rfl)
theorem dX5_feed_2 : decode cX5_feed 2 = .ok (.iconst 1, 1) := dk_4 (dk_at dksX5_feed_0 2 rfl rfl)
theorem dX5_feed_3 : decode cX5_feed 3 = .ok (.if_icmp .lt 9, 3) := dk_161 0 9 (dk_at dksX5_feed_0 3 rfl rfl)
theorem dX5_feed_6 : decode cX5_feed 6 = .ok (.iload_n 1, 1) := dk_27 (dk_at dksX5_feed_0 6 rfl rfl)
theorem dX5_feed_7 : decode cX5_feed 7 = .ok (.bipush 8, 2) := dk_16 8 (dk_at dksX5_feed_0 7 rfl rfl)
theorem dX5_feed_9 : decode cX5_feed 9 = .ok (.if_icmp .le 7, 3) := dk_164 0 7 (dk_at dksX5_feed_0 9 rfl rfl)
theorem dX5_feed_12 : decode cX5_feed 12 = .ok (.iconst 1, 1) := dk_4 (dk_at dksX5_feed_0 12 rfl rfl)
theorem dX5_feed_13 : decode cX5_feed 13 = .ok (.goto 4, 3) := dk_167 0 4 (dk_at dksX5_feed_0 13 rfl rfl)
theorem dX5_feed_16 : decode cX5_feed 16 = .ok (.iconst 0, 1) := dk_3 (dk_at dksX5_feed_0 16 rfl rfl)
theorem dX5_feed_17 : decode cX5_feed 17 = .ok (.putfield 115, 3) := dk_181 0 115 (dk_at dksX5_feed_0 17 rfl rfl)
theorem dX5_feed_20 : decode cX5_feed 20 = .ok (.aload_n 0, 1) := dk_42 (dk_at dksX5_feed_0 20 rfl rfl)
theorem dX5_feed_21 : decode cX5_feed 21 = .ok (.getfield 115, 3) := dk_180 0 115 (dk_at dksX5_feed_0 21 rfl rfl)
theorem dX5_feed_24 : decode cX5_feed 24 = .ok (.ifCond .le 5, 3) := dk_158 0 5 (dk_at dksX5_feed_1 0 rfl rfl)
theorem dX5_feed_27 : decode cX5_feed 27 = .ok (.iconst 0, 1) := dk_3 (dk_at dksX5_feed_1 3 rfl rfl)
theorem dX5_feed_28 : decode cX5_feed 28 = .ok (.ireturn, 1) := dk_172 (dk_at dksX5_feed_1 4 rfl rfl)
theorem dX5_feed_29 : decode cX5_feed 29 = .ok (.aload_n 0, 1) := dk_42 (dk_at dksX5_feed_1 5 rfl rfl)
theorem dX5_feed_30 : decode cX5_feed 30 = .ok (.getfield 118, 3) := dk_180 0 118 (dk_at dksX5_feed_1 6 rfl rfl)
theorem dX5_feed_33 : decode cX5_feed 33 = .ok (.iload_n 1, 1) := dk_27 (dk_at dksX5_feed_1 9 rfl rfl)
theorem dX5_feed_34 : decode cX5_feed 34 = .ok (.iadd, 1) := dk_96 (dk_at dksX5_feed_1 10 rfl rfl)
theorem dX5_feed_35 : decode cX5_feed 35 = .ok (.sipush 200, 3) := dk_17 0 200 (dk_at dksX5_feed_1 11 rfl rfl)
theorem dX5_feed_38 : decode cX5_feed 38 = .ok (.if_icmp .le 5, 3) := dk_164 0 5 (dk_at dksX5_feed_1 14 rfl rfl)
theorem dX5_feed_41 : decode cX5_feed 41 = .ok (.iconst (-1), 1) := dk_2 (dk_at dksX5_feed_1 17 rfl rfl)
theorem dX5_feed_42 : decode cX5_feed 42 = .ok (.ireturn, 1) := dk_172 (dk_at dksX5_feed_1 18 rfl rfl)
theorem dX5_feed_43 : decode cX5_feed 43 = .ok (.iconst 0, 1) := dk_3 (dk_at dksX5_feed_1 19 rfl rfl)
theorem dX5_feed_44 : decode cX5_feed 44 = .ok (.istore 4, 2) := dk_54 4 (dk_at dksX5_feed_1 20 rfl rfl)
theorem dX5_feed_46 : decode cX5_feed 46 = .ok (.iload 4, 2) := dk_21 4 (dk_at dksX5_feed_1 22 rfl rfl)
theorem dX5_feed_48 : decode cX5_feed 48 = .ok (.iload_n 1, 1) := dk_27 (dk_at dksX5_feed_2 0 rfl rfl)
theorem dX5_feed_49 : decode cX5_feed 49 = .ok (.if_icmp .ge 40, 3) := dk_162 0 40 (dk_at dksX5_feed_2 1 rfl rfl)
theorem dX5_feed_52 : decode cX5_feed 52 = .ok (.aload_n 0, 1) := dk_42 (dk_at dksX5_feed_2 4 rfl rfl)
theorem dX5_feed_53 : decode cX5_feed 53 = .ok (.getfield 7, 3) := dk_180 0 7 (dk_at dksX5_feed_2 5 rfl rfl)
theorem dX5_feed_56 : decode cX5_feed 56 = .ok (.aload_n 0, 1) := dk_42 (dk_at dksX5_feed_2 8 rfl rfl)
theorem dX5_feed_57 : decode cX5_feed 57 = .ok (.getfield 118, 3) := dk_180 0 118 (dk_at dksX5_feed_2 9 rfl rfl)
theorem dX5_feed_60 : decode cX5_feed 60 = .ok (.lload_n 2, 1) := dk_32 (dk_at dksX5_feed_2 12 rfl rfl)
theorem dX5_feed_61 : decode cX5_feed 61 = .ok (.bipush 8, 2) := dk_16 8 (dk_at dksX5_feed_2 13 rfl rfl)
theorem dX5_feed_63 : decode cX5_feed 63 = .ok (.iload 4, 2) := dk_21 4 (dk_at dksX5_feed_2 15 rfl rfl)
theorem dX5_feed_65 : decode cX5_feed 65 = .ok (.imul, 1) := dk_104 (dk_at dksX5_feed_2 17 rfl rfl)
theorem dX5_feed_66 : decode cX5_feed 66 = .ok (.lshr, 1) := dk_123 (dk_at dksX5_feed_2 18 rfl rfl)
theorem dX5_feed_67 : decode cX5_feed 67 = .ok (.ldc2_w 121, 3) := dk_20 0 121 (dk_at dksX5_feed_2 19 rfl rfl)
theorem dX5_feed_70 : decode cX5_feed 70 = .ok (.land, 1) := dk_127 (dk_at dksX5_feed_2 22 rfl rfl)
theorem dX5_feed_71 : decode cX5_feed 71 = .ok (.l2i, 1) := dk_136 (dk_at dksX5_feed_2 23 rfl rfl)
theorem dX5_feed_72 : decode cX5_feed 72 = .ok (.iastore, 1) := dk_79 (dk_at dksX5_feed_3 0 rfl rfl)
theorem dX5_feed_73 : decode cX5_feed 73 = .ok (.aload_n 0, 1) := dk_42 (dk_at dksX5_feed_3 1 rfl rfl)
theorem dX5_feed_74 : decode cX5_feed 74 = .ok (.dup, 1) := dk_89 (dk_at dksX5_feed_3 2 rfl rfl)
theorem dX5_feed_75 : decode cX5_feed 75 = .ok (.getfield 118, 3) := dk_180 0 118 (dk_at dksX5_feed_3 3 rfl rfl)
theorem dX5_feed_78 : decode cX5_feed 78 = .ok (.iconst 1, 1) := dk_4 (dk_at dksX5_feed_3 6 rfl rfl)
theorem dX5_feed_79 : decode cX5_feed 79 = .ok (.iadd, 1) := dk_96 (dk_at dksX5_feed_3 7 rfl rfl)
theorem dX5_feed_80 : decode cX5_feed 80 = .ok (.putfield 118, 3) := dk_181 0 118 (dk_at dksX5_feed_3 8 rfl rfl)
theorem dX5_feed_83 : decode cX5_feed 83 = .ok (.iinc 4 1, 3) := dk_132 4 1 (dk_at dksX5_feed_3 11 rfl rfl)
theorem dX5_feed_86 : decode cX5_feed 86 = .ok (.goto (-40), 3) := dk_167 255 216 (dk_at dksX5_feed_3 14 rfl rfl)
theorem dX5_feed_89 : decode cX5_feed 89 = .ok (.aload_n 0, 1) := dk_42 (dk_at dksX5_feed_3 17 rfl rfl)
theorem dX5_feed_90 : decode cX5_feed 90 = .ok (.getfield 118, 3) := dk_180 0 118 (dk_at dksX5_feed_3 18 rfl rfl)
theorem dX5_feed_93 : decode cX5_feed 93 = .ok (.ireturn, 1) := dk_172 (dk_at dksX5_feed_3 21 rfl rfl)
abbrev cX5_wipe : ByteArray := prog_12_method_4_code
def yX5_wipe : MethodName := ⟨RX5, "wipe", "()I"⟩
def dkwX5_wipe_0 : List UInt8 := [42, 3, 181, 0, 115, 42, 180, 0, 118, 60, 42, 3, 181, 0, 118, 27, 172]
abbrev dktX5_wipe_0 : List UInt8 := dkwX5_wipe_0 ++ []
theorem dksX5_wipe_0 : cX5_wipe.data.toList.drop 0 = dktX5_wipe_0 := by decide +kernel
theorem dX5_wipe_0 : decode cX5_wipe 0 = .ok (.aload_n 0, 1) := dk_42 (dk_at dksX5_wipe_0 0 rfl rfl)
theorem dX5_wipe_1 : decode cX5_wipe 1 = .ok (.iconst 0, 1) := dk_3 (dk_at dksX5_wipe_0 1 rfl rfl)
theorem dX5_wipe_2 : decode cX5_wipe 2 = .ok (.putfield 115, 3) := dk_181 0 115 (dk_at dksX5_wipe_0 2 rfl rfl)
theorem dX5_wipe_5 : decode cX5_wipe 5 = .ok (.aload_n 0, 1) := dk_42 (dk_at dksX5_wipe_0 5 rfl rfl)
theorem dX5_wipe_6 : decode cX5_wipe 6 = .ok (.getfield 118, 3) := dk_180 0 118 (dk_at dksX5_wipe_0 6 rfl rfl)
theorem dX5_wipe_9 : decode cX5_wipe 9 = .ok (.istore_n 1, 1) := dk_60 (dk_at dksX5_wipe_0 9 rfl rfl)
theorem dX5_wipe_10 : decode cX5_wipe 10 = .ok (.aload_n 0, 1) := dk_42 (dk_at dksX5_wipe_0 10 rfl rfl)
theorem dX5_wipe_11 : decode cX5_wipe 11 = .ok (.iconst 0, 1) := dk_3 (dk_at dksX5_wipe_0 11 rfl rfl)
theorem dX5_wipe_12 : decode cX5_wipe 12 = .ok (.putfield 118, 3) := dk_181 0 118 (dk_at dksX5_wipe_0 12 rfl rfl)
theorem dX5_wipe_15 : decode cX5_wipe 15 = .ok (.iload_n 1, 1) := dk_27 (dk_at dksX5_wipe_0 15 rfl rfl)
theorem dX5_wipe_16 : decode cX5_wipe 16 = .ok (.ireturn, 1) := dk_172 (dk_at dksX5_wipe_0 16 rfl rfl)
abbrev cX5_method : ByteArray := prog_12_method_39_code
def yX5_method : MethodName := ⟨RX5, "method", "()I"⟩
def dkwX5_method_9 : List UInt8 := [180, 1, 4, 182, 1, 20, 42, 89, 180, 1, 4, 4, 96, 181, 1, 4, 42, 180, 1, 4, 4, 100, 172]
abbrev dktX5_method_9 : List UInt8 := dkwX5_method_9 ++ []
def dkwX5_method_8 : List UInt8 := [180, 0, 27, 42, 180, 1, 4, 32, 80, 42, 180, 0, 30, 42, 180, 1, 4, 21, 4, 79, 42, 42]
abbrev dktX5_method_8 : List UInt8 := dkwX5_method_8 ++ dktX5_method_9
def dkwX5_method_7 : List UInt8 := [155, 0, 12, 42, 8, 42, 180, 0, 118, 182, 0, 157, 42, 180, 0, 123, 158, 0, 5, 2, 172, 42]
abbrev dktX5_method_7 : List UInt8 := dkwX5_method_7 ++ dktX5_method_8
def dkwX5_method_6 : List UInt8 := [180, 0, 123, 154, 0, 31, 42, 180, 1, 4, 16, 16, 159, 0, 13, 42, 32, 21, 4, 182, 1, 16]
abbrev dktX5_method_6 : List UInt8 := dkwX5_method_6 ++ dktX5_method_7
def dkwX5_method_5 : List UInt8 := [42, 16, 61, 182, 1, 10, 42, 21, 4, 181, 0, 202, 42, 180, 0, 123, 154, 0, 7, 42, 182, 1, 13, 42]
abbrev dktX5_method_5 : List UInt8 := dkwX5_method_5 ++ dktX5_method_6
def dkwX5_method_4 : List UInt8 := [4, 42, 180, 0, 147, 182, 0, 157, 42, 89, 180, 0, 147, 4, 96, 181, 0, 147, 42, 16, 41, 182, 1, 10]
abbrev dktX5_method_4 : List UInt8 := dkwX5_method_4 ++ dktX5_method_5
def dkwX5_method_3 : List UInt8 := [16, 48, 100, 54, 4, 42, 180, 0, 123, 154, 0, 23, 21, 4, 155, 0, 9, 21, 4, 6, 164, 0, 12, 42]
abbrev dktX5_method_3 : List UInt8 := dkwX5_method_3 ++ dktX5_method_4
def dkwX5_method_2 : List UInt8 := [180, 0, 137, 65, 42, 27, 181, 0, 147, 42, 16, 40, 182, 1, 10, 42, 42, 180, 0, 147, 182, 0, 130]
abbrev dktX5_method_2 : List UInt8 := dkwX5_method_2 ++ dktX5_method_3
def dkwX5_method_1 : List UInt8 := [16, 12, 182, 0, 157, 167, 0, 18, 42, 3, 27, 182, 0, 211, 154, 0, 9, 42, 4, 3, 182, 0, 157, 42]
abbrev dktX5_method_1 : List UInt8 := dkwX5_method_1 ++ dktX5_method_2
def dkwX5_method_0 : List UInt8 := [42, 182, 1, 7, 42, 3, 181, 0, 150, 42, 3, 182, 0, 205, 60, 27, 16, 12, 164, 0, 13, 42, 6]
abbrev dktX5_method_0 : List UInt8 := dkwX5_method_0 ++ dktX5_method_1
theorem dksX5_method_0 : cX5_method.data.toList.drop 0 = dktX5_method_0 := by decide +kernel
theorem dksX5_method_1 : cX5_method.data.toList.drop 23 = dktX5_method_1 := dk_seg dksX5_method_0 23 rfl rfl
theorem dksX5_method_2 : cX5_method.data.toList.drop 47 = dktX5_method_2 := dk_seg dksX5_method_1 24 rfl rfl
theorem dksX5_method_3 : cX5_method.data.toList.drop 70 = dktX5_method_3 := dk_seg dksX5_method_2 23 rfl rfl
theorem dksX5_method_4 : cX5_method.data.toList.drop 94 = dktX5_method_4 := dk_seg dksX5_method_3 24 rfl rfl
theorem dksX5_method_5 : cX5_method.data.toList.drop 118 = dktX5_method_5 := dk_seg dksX5_method_4 24 rfl rfl
theorem dksX5_method_6 : cX5_method.data.toList.drop 142 = dktX5_method_6 := dk_seg dksX5_method_5 24 rfl rfl
theorem dksX5_method_7 : cX5_method.data.toList.drop 164 = dktX5_method_7 := dk_seg dksX5_method_6 22 rfl rfl
theorem dksX5_method_8 : cX5_method.data.toList.drop 186 = dktX5_method_8 := dk_seg dksX5_method_7 22 rfl rfl
theorem dksX5_method_9 : cX5_method.data.toList.drop 208 = dktX5_method_9 := dk_seg dksX5_method_8 22 rfl rfl
theorem dX5_method_0 : decode cX5_method 0 = .ok (.aload_n 0, 1) := dk_42 (dk_at dksX5_method_0 0 rfl rfl)
theorem dX5_method_1 : decode cX5_method 1 = .ok (.invokevirtual 263, 3) := dk_182 1 7 (dk_at dksX5_method_0 1 rfl rfl)
theorem dX5_method_4 : decode cX5_method 4 = .ok (.aload_n 0, 1) := dk_42 (dk_at dksX5_method_0 4 rfl rfl)
theorem dX5_method_5 : decode cX5_method 5 = .ok (.iconst 0, 1) := dk_3 (dk_at dksX5_method_0 5 rfl rfl)
theorem dX5_method_6 : decode cX5_method 6 = .ok (.putfield 150, 3) := dk_181 0 150 (dk_at dksX5_method_0 6 rfl rfl)
theorem dX5_method_9 : decode cX5_method 9 = .ok (.aload_n 0, 1) := dk_42 (dk_at dksX5_method_0 9 rfl rfl)
theorem dX5_method_10 : decode cX5_method 10 = .ok (.iconst 0, 1) := dk_3 (dk_at dksX5_method_0 10 rfl rfl)
theorem dX5_method_11 : decode cX5_method 11 = .ok (.invokevirtual 205, 3) := dk_182 0 205 (dk_at dksX5_method_0 11 rfl rfl)
theorem dX5_method_14 : decode cX5_method 14 = .ok (.istore_n 1, 1) := dk_60 (dk_at dksX5_method_0 14 rfl rfl)
theorem dX5_method_15 : decode cX5_method 15 = .ok (.iload_n 1, 1) := dk_27 (dk_at dksX5_method_0 15 rfl rfl)
theorem dX5_method_16 : decode cX5_method 16 = .ok (.bipush 12, 2) := dk_16 12 (dk_at dksX5_method_0 16 rfl rfl)
theorem dX5_method_18 : decode cX5_method 18 = .ok (.if_icmp .le 13, 3) := dk_164 0 13 (dk_at dksX5_method_0 18 rfl rfl)
theorem dX5_method_21 : decode cX5_method 21 = .ok (.aload_n 0, 1) := dk_42 (dk_at dksX5_method_0 21 rfl rfl)
theorem dX5_method_22 : decode cX5_method 22 = .ok (.iconst 3, 1) := dk_6 (dk_at dksX5_method_0 22 rfl rfl)
theorem dX5_method_23 : decode cX5_method 23 = .ok (.bipush 12, 2) := dk_16 12 (dk_at dksX5_method_1 0 rfl rfl)
theorem dX5_method_25 : decode cX5_method 25 = .ok (.invokevirtual 157, 3) := dk_182 0 157 (dk_at dksX5_method_1 2 rfl rfl)
theorem dX5_method_28 : decode cX5_method 28 = .ok (.goto 18, 3) := dk_167 0 18 (dk_at dksX5_method_1 5 rfl rfl)
theorem dX5_method_31 : decode cX5_method 31 = .ok (.aload_n 0, 1) := dk_42 (dk_at dksX5_method_1 8 rfl rfl)
theorem dX5_method_32 : decode cX5_method 32 = .ok (.iconst 0, 1) := dk_3 (dk_at dksX5_method_1 9 rfl rfl)
theorem dX5_method_33 : decode cX5_method 33 = .ok (.iload_n 1, 1) := dk_27 (dk_at dksX5_method_1 10 rfl rfl)
theorem dX5_method_34 : decode cX5_method 34 = .ok (.invokevirtual 211, 3) := dk_182 0 211 (dk_at dksX5_method_1 11 rfl rfl)
theorem dX5_method_37 : decode cX5_method 37 = .ok (.ifCond .ne 9, 3) := dk_154 0 9 (dk_at dksX5_method_1 14 rfl rfl)
theorem dX5_method_40 : decode cX5_method 40 = .ok (.aload_n 0, 1) := dk_42 (dk_at dksX5_method_1 17 rfl rfl)
theorem dX5_method_41 : decode cX5_method 41 = .ok (.iconst 1, 1) := dk_4 (dk_at dksX5_method_1 18 rfl rfl)
theorem dX5_method_42 : decode cX5_method 42 = .ok (.iconst 0, 1) := dk_3 (dk_at dksX5_method_1 19 rfl rfl)
theorem dX5_method_43 : decode cX5_method 43 = .ok (.invokevirtual 157, 3) := dk_182 0 157 (dk_at dksX5_method_1 20 rfl rfl)
theorem dX5_method_46 : decode cX5_method 46 = .ok (.aload_n 0, 1) := dk_42 (dk_at dksX5_method_1 23 rfl rfl)
theorem dX5_method_47 : decode cX5_method 47 = .ok (.getfield 137, 3) := dk_180 0 137 (dk_at dksX5_method_2 0 rfl rfl)
theorem dX5_method_50 : decode cX5_method 50 = .ok (.lstore_n 2, 1) := dk_65 (dk_at dksX5_method_2 3 rfl rfl)
theorem dX5_method_51 : decode cX5_method 51 = .ok (.aload_n 0, 1) := dk_42 (dk_at dksX5_method_2 4 rfl rfl)
theorem dX5_method_52 : decode cX5_method 52 = .ok (.iload_n 1, 1) := dk_27 (dk_at dksX5_method_2 5 rfl rfl)
theorem dX5_method_53 : decode cX5_method 53 = .ok (.putfield 147, 3) := dk_181 0 147 (dk_at dksX5_method_2 6 rfl rfl)
theorem dX5_method_56 : decode cX5_method 56 = .ok (.aload_n 0, 1) := dk_42 (dk_at dksX5_method_2 9 rfl rfl)
theorem dX5_method_57 : decode cX5_method 57 = .ok (.bipush 40, 2) := dk_16 40 (dk_at dksX5_method_2 10 rfl rfl)
theorem dX5_method_59 : decode cX5_method 59 = .ok (.invokevirtual 266, 3) := dk_182 1 10 (dk_at dksX5_method_2 12 rfl rfl)
theorem dX5_method_62 : decode cX5_method 62 = .ok (.aload_n 0, 1) := dk_42 (dk_at dksX5_method_2 15 rfl rfl)
theorem dX5_method_63 : decode cX5_method 63 = .ok (.aload_n 0, 1) := dk_42 (dk_at dksX5_method_2 16 rfl rfl)
theorem dX5_method_64 : decode cX5_method 64 = .ok (.getfield 147, 3) := dk_180 0 147 (dk_at dksX5_method_2 17 rfl rfl)
theorem dX5_method_67 : decode cX5_method 67 = .ok (.invokevirtual 130, 3) := dk_182 0 130 (dk_at dksX5_method_2 20 rfl rfl)
theorem dX5_method_70 : decode cX5_method 70 = .ok (.bipush 48, 2) := dk_16 48 (dk_at dksX5_method_3 0 rfl rfl)
theorem dX5_method_72 : decode cX5_method 72 = .ok (.isub, 1) := dk_100 (dk_at dksX5_method_3 2 rfl rfl)
theorem dX5_method_73 : decode cX5_method 73 = .ok (.istore 4, 2) := dk_54 4 (dk_at dksX5_method_3 3 rfl rfl)
theorem dX5_method_75 : decode cX5_method 75 = .ok (.aload_n 0, 1) := dk_42 (dk_at dksX5_method_3 5 rfl rfl)
theorem dX5_method_76 : decode cX5_method 76 = .ok (.getfield 123, 3) := dk_180 0 123 (dk_at dksX5_method_3 6 rfl rfl)
theorem dX5_method_79 : decode cX5_method 79 = .ok (.ifCond .ne 23, 3) := dk_154 0 23 (dk_at dksX5_method_3 9 rfl rfl)
theorem dX5_method_82 : decode cX5_method 82 = .ok (.iload 4, 2) := dk_21 4 (dk_at dksX5_method_3 12 rfl rfl)
theorem dX5_method_84 : decode cX5_method 84 = .ok (.ifCond .lt 9, 3) := dk_155 0 9 (dk_at dksX5_method_3 14 rfl rfl)
theorem dX5_method_87 : decode cX5_method 87 = .ok (.iload 4, 2) := dk_21 4 (dk_at dksX5_method_3 17 rfl rfl)
theorem dX5_method_89 : decode cX5_method 89 = .ok (.iconst 3, 1) := dk_6 (dk_at dksX5_method_3 19 rfl rfl)
theorem dX5_method_90 : decode cX5_method 90 = .ok (.if_icmp .le 12, 3) := dk_164 0 12 (dk_at dksX5_method_3 20 rfl rfl)
theorem dX5_method_93 : decode cX5_method 93 = .ok (.aload_n 0, 1) := dk_42 (dk_at dksX5_method_3 23 rfl rfl)
theorem dX5_method_94 : decode cX5_method 94 = .ok (.iconst 1, 1) := dk_4 (dk_at dksX5_method_4 0 rfl rfl)
theorem dX5_method_95 : decode cX5_method 95 = .ok (.aload_n 0, 1) := dk_42 (dk_at dksX5_method_4 1 rfl rfl)
theorem dX5_method_96 : decode cX5_method 96 = .ok (.getfield 147, 3) := dk_180 0 147 (dk_at dksX5_method_4 2 rfl rfl)
theorem dX5_method_99 : decode cX5_method 99 = .ok (.invokevirtual 157, 3) := dk_182 0 157 (dk_at dksX5_method_4 5 rfl rfl)
theorem dX5_method_102 : decode cX5_method 102 = .ok (.aload_n 0, 1) := dk_42 (dk_at dksX5_method_4 8 rfl rfl)
theorem dX5_method_103 : decode cX5_method 103 = .ok (.dup, 1) := dk_89 (dk_at dksX5_method_4 9 rfl rfl)
theorem dX5_method_104 : decode cX5_method 104 = .ok (.getfield 147, 3) := dk_180 0 147 (dk_at dksX5_method_4 10 rfl rfl)
theorem dX5_method_107 : decode cX5_method 107 = .ok (.iconst 1, 1) := dk_4 (dk_at dksX5_method_4 13 rfl rfl)
theorem dX5_method_108 : decode cX5_method 108 = .ok (.iadd, 1) := dk_96 (dk_at dksX5_method_4 14 rfl rfl)
theorem dX5_method_109 : decode cX5_method 109 = .ok (.putfield 147, 3) := dk_181 0 147 (dk_at dksX5_method_4 15 rfl rfl)
theorem dX5_method_112 : decode cX5_method 112 = .ok (.aload_n 0, 1) := dk_42 (dk_at dksX5_method_4 18 rfl rfl)
theorem dX5_method_113 : decode cX5_method 113 = .ok (.bipush 41, 2) := dk_16 41 (dk_at dksX5_method_4 19 rfl rfl)
theorem dX5_method_115 : decode cX5_method 115 = .ok (.invokevirtual 266, 3) := dk_182 1 10 (dk_at dksX5_method_4 21 rfl rfl)
theorem dX5_method_118 : decode cX5_method 118 = .ok (.aload_n 0, 1) := dk_42 (dk_at dksX5_method_5 0 rfl rfl)
theorem dX5_method_119 : decode cX5_method 119 = .ok (.bipush 61, 2) := dk_16 61 (dk_at dksX5_method_5 1 rfl rfl)
theorem dX5_method_121 : decode cX5_method 121 = .ok (.invokevirtual 266, 3) := dk_182 1 10 (dk_at dksX5_method_5 3 rfl rfl)
theorem dX5_method_124 : decode cX5_method 124 = .ok (.aload_n 0, 1) := dk_42 (dk_at dksX5_method_5 6 rfl rfl)
theorem dX5_method_125 : decode cX5_method 125 = .ok (.iload 4, 2) := dk_21 4 (dk_at dksX5_method_5 7 rfl rfl)
theorem dX5_method_127 : decode cX5_method 127 = .ok (.putfield 202, 3) := dk_181 0 202 (dk_at dksX5_method_5 9 rfl rfl)
theorem dX5_method_130 : decode cX5_method 130 = .ok (.aload_n 0, 1) := dk_42 (dk_at dksX5_method_5 12 rfl rfl)
theorem dX5_method_131 : decode cX5_method 131 = .ok (.getfield 123, 3) := dk_180 0 123 (dk_at dksX5_method_5 13 rfl rfl)
theorem dX5_method_134 : decode cX5_method 134 = .ok (.ifCond .ne 7, 3) := dk_154 0 7 (dk_at dksX5_method_5 16 rfl rfl)
theorem dX5_method_137 : decode cX5_method 137 = .ok (.aload_n 0, 1) := dk_42 (dk_at dksX5_method_5 19 rfl rfl)
theorem dX5_method_138 : decode cX5_method 138 = .ok (.invokevirtual 269, 3) := dk_182 1 13 (dk_at dksX5_method_5 20 rfl rfl)
theorem dX5_method_141 : decode cX5_method 141 = .ok (.aload_n 0, 1) := dk_42 (dk_at dksX5_method_5 23 rfl rfl)
theorem dX5_method_142 : decode cX5_method 142 = .ok (.getfield 123, 3) := dk_180 0 123 (dk_at dksX5_method_6 0 rfl rfl)
theorem dX5_method_145 : decode cX5_method 145 = .ok (.ifCond .ne 31, 3) := dk_154 0 31 (dk_at dksX5_method_6 3 rfl rfl)
theorem dX5_method_148 : decode cX5_method 148 = .ok (.aload_n 0, 1) := dk_42 (dk_at dksX5_method_6 6 rfl rfl)
theorem dX5_method_149 : decode cX5_method 149 = .ok (.getfield 260, 3) := dk_180 1 4 (dk_at dksX5_method_6 7 rfl rfl)
theorem dX5_method_152 : decode cX5_method 152 = .ok (.bipush 16, 2) := dk_16 16 (dk_at dksX5_method_6 10 rfl rfl)
theorem dX5_method_154 : decode cX5_method 154 = .ok (.if_icmp .eq 13, 3) := dk_159 0 13 (dk_at dksX5_method_6 12 rfl rfl)
theorem dX5_method_157 : decode cX5_method 157 = .ok (.aload_n 0, 1) := dk_42 (dk_at dksX5_method_6 15 rfl rfl)
theorem dX5_method_158 : decode cX5_method 158 = .ok (.lload_n 2, 1) := dk_32 (dk_at dksX5_method_6 16 rfl rfl)
theorem dX5_method_159 : decode cX5_method 159 = .ok (.iload 4, 2) := dk_21 4 (dk_at dksX5_method_6 17 rfl rfl)
theorem dX5_method_161 : decode cX5_method 161 = .ok (.invokevirtual 272, 3) := dk_182 1 16 (dk_at dksX5_method_6 19 rfl rfl)
theorem dX5_method_164 : decode cX5_method 164 = .ok (.ifCond .lt 12, 3) := dk_155 0 12 (dk_at dksX5_method_7 0 rfl rfl)
theorem dX5_method_167 : decode cX5_method 167 = .ok (.aload_n 0, 1) := dk_42 (dk_at dksX5_method_7 3 rfl rfl)
theorem dX5_method_168 : decode cX5_method 168 = .ok (.iconst 5, 1) := dk_8 (dk_at dksX5_method_7 4 rfl rfl)
theorem dX5_method_169 : decode cX5_method 169 = .ok (.aload_n 0, 1) := dk_42 (dk_at dksX5_method_7 5 rfl rfl)
theorem dX5_method_170 : decode cX5_method 170 = .ok (.getfield 118, 3) := dk_180 0 118 (dk_at dksX5_method_7 6 rfl rfl)
theorem dX5_method_173 : decode cX5_method 173 = .ok (.invokevirtual 157, 3) := dk_182 0 157 (dk_at dksX5_method_7 9 rfl rfl)
theorem dX5_method_176 : decode cX5_method 176 = .ok (.aload_n 0, 1) := dk_42 (dk_at dksX5_method_7 12 rfl rfl)
theorem dX5_method_177 : decode cX5_method 177 = .ok (.getfield 123, 3) := dk_180 0 123 (dk_at dksX5_method_7 13 rfl rfl)
theorem dX5_method_180 : decode cX5_method 180 = .ok (.ifCond .le 5, 3) := dk_158 0 5 (dk_at dksX5_method_7 16 rfl rfl)
theorem dX5_method_183 : decode cX5_method 183 = .ok (.iconst (-1), 1) := dk_2 (dk_at dksX5_method_7 19 rfl rfl)
theorem dX5_method_184 : decode cX5_method 184 = .ok (.ireturn, 1) := dk_172 (dk_at dksX5_method_7 20 rfl rfl)
theorem dX5_method_185 : decode cX5_method 185 = .ok (.aload_n 0, 1) := dk_42 (dk_at dksX5_method_7 21 rfl rfl)
theorem dX5_method_186 : decode cX5_method 186 = .ok (.getfield 27, 3) := dk_180 0 27 (dk_at dksX5_method_8 0 rfl rfl)
theorem dX5_method_189 : decode cX5_method 189 = .ok (.aload_n 0, 1) := dk_42 (dk_at dksX5_method_8 3 rfl rfl)
theorem dX5_method_190 : decode cX5_method 190 = .ok (.getfield 260, 3) := dk_180 1 4 (dk_at dksX5_method_8 4 rfl rfl)
theorem dX5_method_193 : decode cX5_method 193 = .ok (.lload_n 2, 1) := dk_32 (dk_at dksX5_method_8 7 rfl rfl)
theorem dX5_method_194 : decode cX5_method 194 = .ok (.lastore, 1) := dk_80 (dk_at dksX5_method_8 8 rfl rfl)
theorem dX5_method_195 : decode cX5_method 195 = .ok (.aload_n 0, 1) := dk_42 (dk_at dksX5_method_8 9 rfl rfl)
theorem dX5_method_196 : decode cX5_method 196 = .ok (.getfield 30, 3) := dk_180 0 30 (dk_at dksX5_method_8 10 rfl rfl)
theorem dX5_method_199 : decode cX5_method 199 = .ok (.aload_n 0, 1) := dk_42 (dk_at dksX5_method_8 13 rfl rfl)
theorem dX5_method_200 : decode cX5_method 200 = .ok (.getfield 260, 3) := dk_180 1 4 (dk_at dksX5_method_8 14 rfl rfl)
theorem dX5_method_203 : decode cX5_method 203 = .ok (.iload 4, 2) := dk_21 4 (dk_at dksX5_method_8 17 rfl rfl)
theorem dX5_method_205 : decode cX5_method 205 = .ok (.iastore, 1) := dk_79 (dk_at dksX5_method_8 19 rfl rfl)
theorem dX5_method_206 : decode cX5_method 206 = .ok (.aload_n 0, 1) := dk_42 (dk_at dksX5_method_8 20 rfl rfl)
theorem dX5_method_207 : decode cX5_method 207 = .ok (.aload_n 0, 1) := dk_42 (dk_at dksX5_method_8 21 rfl rfl)
theorem dX5_method_208 : decode cX5_method 208 = .ok (.getfield 260, 3) := dk_180 1 4 (dk_at dksX5_method_9 0 rfl rfl)
theorem dX5_method_211 : decode cX5_method 211 = .ok (.invokevirtual 276, 3) := dk_182 1 20 (dk_at dksX5_method_9 3 rfl rfl)
theorem dX5_method_214 : decode cX5_method 214 = .ok (.aload_n 0, 1) := dk_42 (dk_at dksX5_method_9 6 rfl rfl)
theorem dX5_method_215 : decode cX5_method 215 = .ok (.dup, 1) := dk_89 (dk_at dksX5_method_9 7 rfl rfl)
theorem dX5_method_216 : decode cX5_method 216 = .ok (.getfield 260, 3) := dk_180 1 4 (dk_at dksX5_method_9 8 rfl rfl)
theorem dX5_method_219 : decode cX5_method 219 = .ok (.iconst 1, 1) := dk_4 (dk_at dksX5_method_9 11 rfl rfl)
theorem dX5_method_220 : decode cX5_method 220 = .ok (.iadd, 1) := dk_96 (dk_at dksX5_method_9 12 rfl rfl)
theorem dX5_method_221 : decode cX5_method 221 = .ok (.putfield 260, 3) := dk_181 1 4 (dk_at dksX5_method_9 13 rfl rfl)
theorem dX5_method_224 : decode cX5_method 224 = .ok (.aload_n 0, 1) := dk_42 (dk_at dksX5_method_9 16 rfl rfl)
theorem dX5_method_225 : decode cX5_method 225 = .ok (.getfield 260, 3) := dk_180 1 4 (dk_at dksX5_method_9 17 rfl rfl)
theorem dX5_method_228 : decode cX5_method 228 = .ok (.iconst 1, 1) := dk_4 (dk_at dksX5_method_9 20 rfl rfl)
theorem dX5_method_229 : decode cX5_method 229 = .ok (.isub, 1) := dk_100 (dk_at dksX5_method_9 21 rfl rfl)
theorem dX5_method_230 : decode cX5_method 230 = .ok (.ireturn, 1) := dk_172 (dk_at dksX5_method_9 22 rfl rfl)
abbrev cX5_begin : ByteArray := prog_12_method_36_code
def yX5_begin : MethodName := ⟨RX5, "begin", "()V"⟩
def dkwX5_begin_0 : List UInt8 := [42, 3, 181, 0, 115, 42, 3, 181, 0, 123, 42, 2, 181, 0, 13, 42, 3, 181, 0, 147, 177]
abbrev dktX5_begin_0 : List UInt8 := dkwX5_begin_0 ++ []
theorem dksX5_begin_0 : cX5_begin.data.toList.drop 0 = dktX5_begin_0 := by decide +kernel
theorem dX5_begin_0 : decode cX5_begin 0 = .ok (.aload_n 0, 1) := dk_42 (dk_at dksX5_begin_0 0 rfl rfl)
theorem dX5_begin_1 : decode cX5_begin 1 = .ok (.iconst 0, 1) := dk_3 (dk_at dksX5_begin_0 1 rfl rfl)
theorem dX5_begin_2 : decode cX5_begin 2 = .ok (.putfield 115, 3) := dk_181 0 115 (dk_at dksX5_begin_0 2 rfl rfl)
theorem dX5_begin_5 : decode cX5_begin 5 = .ok (.aload_n 0, 1) := dk_42 (dk_at dksX5_begin_0 5 rfl rfl)
theorem dX5_begin_6 : decode cX5_begin 6 = .ok (.iconst 0, 1) := dk_3 (dk_at dksX5_begin_0 6 rfl rfl)
theorem dX5_begin_7 : decode cX5_begin 7 = .ok (.putfield 123, 3) := dk_181 0 123 (dk_at dksX5_begin_0 7 rfl rfl)
theorem dX5_begin_10 : decode cX5_begin 10 = .ok (.aload_n 0, 1) := dk_42 (dk_at dksX5_begin_0 10 rfl rfl)
theorem dX5_begin_11 : decode cX5_begin 11 = .ok (.iconst (-1), 1) := dk_2 (dk_at dksX5_begin_0 11 rfl rfl)
theorem dX5_begin_12 : decode cX5_begin 12 = .ok (.putfield 13, 3) := dk_181 0 13 (dk_at dksX5_begin_0 12 rfl rfl)
theorem dX5_begin_15 : decode cX5_begin 15 = .ok (.aload_n 0, 1) := dk_42 (dk_at dksX5_begin_0 15 rfl rfl)
theorem dX5_begin_16 : decode cX5_begin 16 = .ok (.iconst 0, 1) := dk_3 (dk_at dksX5_begin_0 16 rfl rfl)
theorem dX5_begin_17 : decode cX5_begin 17 = .ok (.putfield 147, 3) := dk_181 0 147 (dk_at dksX5_begin_0 17 rfl rfl)
theorem dX5_begin_20 : decode cX5_begin 20 = .ok (.return_, 1) := dk_177 (dk_at dksX5_begin_0 20 rfl rfl)
abbrev cX5_rowSize : ByteArray := prog_12_method_10_code
def yX5_rowSize : MethodName := ⟨RX5, "rowSize", "(I)I"⟩
def dkwX5_rowSize_0 : List UInt8 := [3, 61, 42, 27, 28, 96, 182, 0, 130, 184, 0, 134, 153, 0, 9, 132, 2, 1, 167, 255, 240, 28, 172]
abbrev dktX5_rowSize_0 : List UInt8 := dkwX5_rowSize_0 ++ []
theorem dksX5_rowSize_0 : cX5_rowSize.data.toList.drop 0 = dktX5_rowSize_0 := by decide +kernel
theorem dX5_rowSize_0 : decode cX5_rowSize 0 = .ok (.iconst 0, 1) := dk_3 (dk_at dksX5_rowSize_0 0 rfl rfl)
theorem dX5_rowSize_1 : decode cX5_rowSize 1 = .ok (.istore_n 2, 1) := dk_61 (dk_at dksX5_rowSize_0 1 rfl rfl)
theorem dX5_rowSize_2 : decode cX5_rowSize 2 = .ok (.aload_n 0, 1) := dk_42 (dk_at dksX5_rowSize_0 2 rfl rfl)
theorem dX5_rowSize_3 : decode cX5_rowSize 3 = .ok (.iload_n 1, 1) := dk_27 (dk_at dksX5_rowSize_0 3 rfl rfl)
theorem dX5_rowSize_4 : decode cX5_rowSize 4 = .ok (.iload_n 2, 1) := dk_28 (dk_at dksX5_rowSize_0 4 rfl rfl)
theorem dX5_rowSize_5 : decode cX5_rowSize 5 = .ok (.iadd, 1) := dk_96 (dk_at dksX5_rowSize_0 5 rfl rfl)
theorem dX5_rowSize_6 : decode cX5_rowSize 6 = .ok (.invokevirtual 130, 3) := dk_182 0 130 (dk_at dksX5_rowSize_0 6 rfl rfl)
theorem dX5_rowSize_9 : decode cX5_rowSize 9 = .ok (.invokestatic 134, 3) := dk_184 0 134 (dk_at dksX5_rowSize_0 9 rfl rfl)
theorem dX5_rowSize_12 : decode cX5_rowSize 12 = .ok (.ifCond .eq 9, 3) := dk_153 0 9 (dk_at dksX5_rowSize_0 12 rfl rfl)
theorem dX5_rowSize_15 : decode cX5_rowSize 15 = .ok (.iinc 2 1, 3) := dk_132 2 1 (dk_at dksX5_rowSize_0 15 rfl rfl)
theorem dX5_rowSize_18 : decode cX5_rowSize 18 = .ok (.goto (-16), 3) := dk_167 255 240 (dk_at dksX5_rowSize_0 18 rfl rfl)
theorem dX5_rowSize_21 : decode cX5_rowSize 21 = .ok (.iload_n 2, 1) := dk_28 (dk_at dksX5_rowSize_0 21 rfl rfl)
theorem dX5_rowSize_22 : decode cX5_rowSize 22 = .ok (.ireturn, 1) := dk_172 (dk_at dksX5_rowSize_0 22 rfl rfl)
abbrev cX5_byteAt : ByteArray := prog_12_method_6_code
def yX5_byteAt : MethodName := ⟨RX5, "byteAt", "(I)I"⟩
def dkwX5_byteAt_0 : List UInt8 := [27, 42, 180, 0, 118, 162, 0, 12, 42, 180, 0, 7, 27, 46, 167, 0, 4, 2, 172]
abbrev dktX5_byteAt_0 : List UInt8 := dkwX5_byteAt_0 ++ []
theorem dksX5_byteAt_0 : cX5_byteAt.data.toList.drop 0 = dktX5_byteAt_0 := by decide +kernel
theorem dX5_byteAt_0 : decode cX5_byteAt 0 = .ok (.iload_n 1, 1) := dk_27 (dk_at dksX5_byteAt_0 0 rfl rfl)
theorem dX5_byteAt_1 : decode cX5_byteAt 1 = .ok (.aload_n 0, 1) := dk_42 (dk_at dksX5_byteAt_0 1 rfl rfl)
theorem dX5_byteAt_2 : decode cX5_byteAt 2 = .ok (.getfield 118, 3) := dk_180 0 118 (dk_at dksX5_byteAt_0 2 rfl rfl)
theorem dX5_byteAt_5 : decode cX5_byteAt 5 = .ok (.if_icmp .ge 12, 3) := dk_162 0 12 (dk_at dksX5_byteAt_0 5 rfl rfl)
theorem dX5_byteAt_8 : decode cX5_byteAt 8 = .ok (.aload_n 0, 1) := dk_42 (dk_at dksX5_byteAt_0 8 rfl rfl)
theorem dX5_byteAt_9 : decode cX5_byteAt 9 = .ok (.getfield 7, 3) := dk_180 0 7 (dk_at dksX5_byteAt_0 9 rfl rfl)
theorem dX5_byteAt_12 : decode cX5_byteAt 12 = .ok (.iload_n 1, 1) := dk_27 (dk_at dksX5_byteAt_0 12 rfl rfl)
theorem dX5_byteAt_13 : decode cX5_byteAt 13 = .ok (.iaload, 1) := dk_46 (dk_at dksX5_byteAt_0 13 rfl rfl)
theorem dX5_byteAt_14 : decode cX5_byteAt 14 = .ok (.goto 4, 3) := dk_167 0 4 (dk_at dksX5_byteAt_0 14 rfl rfl)
theorem dX5_byteAt_17 : decode cX5_byteAt 17 = .ok (.iconst (-1), 1) := dk_2 (dk_at dksX5_byteAt_0 17 rfl rfl)
theorem dX5_byteAt_18 : decode cX5_byteAt 18 = .ok (.ireturn, 1) := dk_172 (dk_at dksX5_byteAt_0 18 rfl rfl)
abbrev cX5_isOfRow : ByteArray := prog_12_method_9_code
def yX5_isOfRow : MethodName := ⟨RX5, "isOfRow", "(I)Z"⟩
def dkwX5_isOfRow_0 : List UInt8 := [26, 184, 0, 126, 154, 0, 9, 26, 16, 46, 160, 0, 7, 4, 167, 0, 4, 3, 172]
abbrev dktX5_isOfRow_0 : List UInt8 := dkwX5_isOfRow_0 ++ []
theorem dksX5_isOfRow_0 : cX5_isOfRow.data.toList.drop 0 = dktX5_isOfRow_0 := by decide +kernel
theorem dX5_isOfRow_0 : decode cX5_isOfRow 0 = .ok (.iload_n 0, 1) := dk_26 (dk_at dksX5_isOfRow_0 0 rfl rfl)
theorem dX5_isOfRow_1 : decode cX5_isOfRow 1 = .ok (.invokestatic 126, 3) := dk_184 0 126 (dk_at dksX5_isOfRow_0 1 rfl rfl)
theorem dX5_isOfRow_4 : decode cX5_isOfRow 4 = .ok (.ifCond .ne 9, 3) := dk_154 0 9 (dk_at dksX5_isOfRow_0 4 rfl rfl)
theorem dX5_isOfRow_7 : decode cX5_isOfRow 7 = .ok (.iload_n 0, 1) := dk_26 (dk_at dksX5_isOfRow_0 7 rfl rfl)
theorem dX5_isOfRow_8 : decode cX5_isOfRow 8 = .ok (.bipush 46, 2) := dk_16 46 (dk_at dksX5_isOfRow_0 8 rfl rfl)
theorem dX5_isOfRow_10 : decode cX5_isOfRow 10 = .ok (.if_icmp .ne 7, 3) := dk_160 0 7 (dk_at dksX5_isOfRow_0 10 rfl rfl)
theorem dX5_isOfRow_13 : decode cX5_isOfRow 13 = .ok (.iconst 1, 1) := dk_4 (dk_at dksX5_isOfRow_0 13 rfl rfl)
theorem dX5_isOfRow_14 : decode cX5_isOfRow 14 = .ok (.goto 4, 3) := dk_167 0 4 (dk_at dksX5_isOfRow_0 14 rfl rfl)
theorem dX5_isOfRow_17 : decode cX5_isOfRow 17 = .ok (.iconst 0, 1) := dk_3 (dk_at dksX5_isOfRow_0 17 rfl rfl)
theorem dX5_isOfRow_18 : decode cX5_isOfRow 18 = .ok (.ireturn, 1) := dk_172 (dk_at dksX5_isOfRow_0 18 rfl rfl)
abbrev cX5_isLetter : ByteArray := prog_12_method_7_code
def yX5_isLetter : MethodName := ⟨RX5, "isLetter", "(I)Z"⟩
def dkwX5_isLetter_0 : List UInt8 := [26, 16, 97, 161, 0, 13, 26, 16, 122, 163, 0, 7, 4, 167, 0, 4, 3, 172]
abbrev dktX5_isLetter_0 : List UInt8 := dkwX5_isLetter_0 ++ []
theorem dksX5_isLetter_0 : cX5_isLetter.data.toList.drop 0 = dktX5_isLetter_0 := by decide +kernel
theorem dX5_isLetter_0 : decode cX5_isLetter 0 = .ok (.iload_n 0, 1) := dk_26 (dk_at dksX5_isLetter_0 0 rfl rfl)
theorem dX5_isLetter_1 : decode cX5_isLetter 1 = .ok (.bipush 97, 2) := dk_16 97 (dk_at dksX5_isLetter_0 1 rfl rfl)
theorem dX5_isLetter_3 : decode cX5_isLetter 3 = .ok (.if_icmp .lt 13, 3) := dk_161 0 13 (dk_at dksX5_isLetter_0 3 rfl rfl)
theorem dX5_isLetter_6 : decode cX5_isLetter 6 = .ok (.iload_n 0, 1) := dk_26 (dk_at dksX5_isLetter_0 6 rfl rfl)
theorem dX5_isLetter_7 : decode cX5_isLetter 7 = .ok (.bipush 122, 2) := dk_16 122 (dk_at dksX5_isLetter_0 7 rfl rfl)
theorem dX5_isLetter_9 : decode cX5_isLetter 9 = .ok (.if_icmp .gt 7, 3) := dk_163 0 7 (dk_at dksX5_isLetter_0 9 rfl rfl)
theorem dX5_isLetter_12 : decode cX5_isLetter 12 = .ok (.iconst 1, 1) := dk_4 (dk_at dksX5_isLetter_0 12 rfl rfl)
theorem dX5_isLetter_13 : decode cX5_isLetter 13 = .ok (.goto 4, 3) := dk_167 0 4 (dk_at dksX5_isLetter_0 13 rfl rfl)
theorem dX5_isLetter_16 : decode cX5_isLetter 16 = .ok (.iconst 0, 1) := dk_3 (dk_at dksX5_isLetter_0 16 rfl rfl)
theorem dX5_isLetter_17 : decode cX5_isLetter 17 = .ok (.ireturn, 1) := dk_172 (dk_at dksX5_isLetter_0 17 rfl rfl)
abbrev cX5_fail : ByteArray := prog_12_method_5_code
def yX5_fail : MethodName := ⟨RX5, "fail", "(II)V"⟩
def dkwX5_fail_0 : List UInt8 := [42, 180, 0, 123, 154, 0, 13, 42, 27, 181, 0, 123, 42, 28, 181, 0, 13, 177]
abbrev dktX5_fail_0 : List UInt8 := dkwX5_fail_0 ++ []
theorem dksX5_fail_0 : cX5_fail.data.toList.drop 0 = dktX5_fail_0 := by decide +kernel
theorem dX5_fail_0 : decode cX5_fail 0 = .ok (.aload_n 0, 1) := dk_42 (dk_at dksX5_fail_0 0 rfl rfl)
theorem dX5_fail_1 : decode cX5_fail 1 = .ok (.getfield 123, 3) := dk_180 0 123 (dk_at dksX5_fail_0 1 rfl rfl)
theorem dX5_fail_4 : decode cX5_fail 4 = .ok (.ifCond .ne 13, 3) := dk_154 0 13 (dk_at dksX5_fail_0 4 rfl rfl)
theorem dX5_fail_7 : decode cX5_fail 7 = .ok (.aload_n 0, 1) := dk_42 (dk_at dksX5_fail_0 7 rfl rfl)
theorem dX5_fail_8 : decode cX5_fail 8 = .ok (.iload_n 1, 1) := dk_27 (dk_at dksX5_fail_0 8 rfl rfl)
theorem dX5_fail_9 : decode cX5_fail 9 = .ok (.putfield 123, 3) := dk_181 0 123 (dk_at dksX5_fail_0 9 rfl rfl)
theorem dX5_fail_12 : decode cX5_fail 12 = .ok (.aload_n 0, 1) := dk_42 (dk_at dksX5_fail_0 12 rfl rfl)
theorem dX5_fail_13 : decode cX5_fail 13 = .ok (.iload_n 2, 1) := dk_28 (dk_at dksX5_fail_0 13 rfl rfl)
theorem dX5_fail_14 : decode cX5_fail 14 = .ok (.putfield 13, 3) := dk_181 0 13 (dk_at dksX5_fail_0 14 rfl rfl)
theorem dX5_fail_17 : decode cX5_fail 17 = .ok (.return_, 1) := dk_177 (dk_at dksX5_fail_0 17 rfl rfl)
abbrev cX5_isName : ByteArray := prog_12_method_11_code
def yX5_isName : MethodName := ⟨RX5, "isName", "(II)Z"⟩
def dkwX5_isName_4 : List UInt8 := [159, 0, 21, 42, 27, 28, 96, 4, 100, 182, 0, 130, 16, 46, 159, 0, 7, 4, 167, 0, 4, 3, 172]
abbrev dktX5_isName_4 : List UInt8 := dkwX5_isName_4 ++ []
def dkwX5_isName_3 : List UInt8 := [132, 4, 1, 167, 255, 193, 28, 5, 164, 0, 36, 29, 4, 160, 0, 31, 42, 27, 182, 0, 130, 16, 46]
abbrev dktX5_isName_3 : List UInt8 := dkwX5_isName_3 ++ dktX5_isName_4
def dkwX5_isName_2 : List UInt8 := [21, 5, 16, 46, 160, 0, 8, 16, 27, 167, 0, 8, 21, 5, 16, 96, 100, 133, 129, 181, 0, 137]
abbrev dktX5_isName_2 : List UInt8 := dkwX5_isName_2 ++ dktX5_isName_3
def dkwX5_isName_1 : List UInt8 := [54, 5, 21, 5, 16, 46, 160, 0, 9, 29, 4, 96, 167, 0, 4, 29, 62, 42, 42, 180, 0, 137, 8, 121]
abbrev dktX5_isName_1 : List UInt8 := dkwX5_isName_1 ++ dktX5_isName_2
def dkwX5_isName_0 : List UInt8 := [3, 62, 42, 9, 181, 0, 137, 3, 54, 4, 21, 4, 28, 162, 0, 63, 42, 27, 21, 4, 96, 182, 0, 130]
abbrev dktX5_isName_0 : List UInt8 := dkwX5_isName_0 ++ dktX5_isName_1
theorem dksX5_isName_0 : cX5_isName.data.toList.drop 0 = dktX5_isName_0 := by decide +kernel
theorem dksX5_isName_1 : cX5_isName.data.toList.drop 24 = dktX5_isName_1 := dk_seg dksX5_isName_0 24 rfl rfl
theorem dksX5_isName_2 : cX5_isName.data.toList.drop 48 = dktX5_isName_2 := dk_seg dksX5_isName_1 24 rfl rfl
theorem dksX5_isName_3 : cX5_isName.data.toList.drop 70 = dktX5_isName_3 := dk_seg dksX5_isName_2 22 rfl rfl
theorem dksX5_isName_4 : cX5_isName.data.toList.drop 93 = dktX5_isName_4 := dk_seg dksX5_isName_3 23 rfl rfl
theorem dX5_isName_0 : decode cX5_isName 0 = .ok (.iconst 0, 1) := dk_3 (dk_at dksX5_isName_0 0 rfl rfl)
theorem dX5_isName_1 : decode cX5_isName 1 = .ok (.istore_n 3, 1) := dk_62 (dk_at dksX5_isName_0 1 rfl rfl)
theorem dX5_isName_2 : decode cX5_isName 2 = .ok (.aload_n 0, 1) := dk_42 (dk_at dksX5_isName_0 2 rfl rfl)
theorem dX5_isName_3 : decode cX5_isName 3 = .ok (.lconst 0, 1) := dk_9 (dk_at dksX5_isName_0 3 rfl rfl)
theorem dX5_isName_4 : decode cX5_isName 4 = .ok (.putfield 137, 3) := dk_181 0 137 (dk_at dksX5_isName_0 4 rfl rfl)
theorem dX5_isName_7 : decode cX5_isName 7 = .ok (.iconst 0, 1) := dk_3 (dk_at dksX5_isName_0 7 rfl rfl)
theorem dX5_isName_8 : decode cX5_isName 8 = .ok (.istore 4, 2) := dk_54 4 (dk_at dksX5_isName_0 8 rfl rfl)
theorem dX5_isName_10 : decode cX5_isName 10 = .ok (.iload 4, 2) := dk_21 4 (dk_at dksX5_isName_0 10 rfl rfl)
theorem dX5_isName_12 : decode cX5_isName 12 = .ok (.iload_n 2, 1) := dk_28 (dk_at dksX5_isName_0 12 rfl rfl)
theorem dX5_isName_13 : decode cX5_isName 13 = .ok (.if_icmp .ge 63, 3) := dk_162 0 63 (dk_at dksX5_isName_0 13 rfl rfl)
theorem dX5_isName_16 : decode cX5_isName 16 = .ok (.aload_n 0, 1) := dk_42 (dk_at dksX5_isName_0 16 rfl rfl)
theorem dX5_isName_17 : decode cX5_isName 17 = .ok (.iload_n 1, 1) := dk_27 (dk_at dksX5_isName_0 17 rfl rfl)
theorem dX5_isName_18 : decode cX5_isName 18 = .ok (.iload 4, 2) := dk_21 4 (dk_at dksX5_isName_0 18 rfl rfl)
theorem dX5_isName_20 : decode cX5_isName 20 = .ok (.iadd, 1) := dk_96 (dk_at dksX5_isName_0 20 rfl rfl)
theorem dX5_isName_21 : decode cX5_isName 21 = .ok (.invokevirtual 130, 3) := dk_182 0 130 (dk_at dksX5_isName_0 21 rfl rfl)
theorem dX5_isName_24 : decode cX5_isName 24 = .ok (.istore 5, 2) := dk_54 5 (dk_at dksX5_isName_1 0 rfl rfl)
theorem dX5_isName_26 : decode cX5_isName 26 = .ok (.iload 5, 2) := dk_21 5 (dk_at dksX5_isName_1 2 rfl rfl)
theorem dX5_isName_28 : decode cX5_isName 28 = .ok (.bipush 46, 2) := dk_16 46 (dk_at dksX5_isName_1 4 rfl rfl)
theorem dX5_isName_30 : decode cX5_isName 30 = .ok (.if_icmp .ne 9, 3) := dk_160 0 9 (dk_at dksX5_isName_1 6 rfl rfl)
theorem dX5_isName_33 : decode cX5_isName 33 = .ok (.iload_n 3, 1) := dk_29 (dk_at dksX5_isName_1 9 rfl rfl)
theorem dX5_isName_34 : decode cX5_isName 34 = .ok (.iconst 1, 1) := dk_4 (dk_at dksX5_isName_1 10 rfl rfl)
theorem dX5_isName_35 : decode cX5_isName 35 = .ok (.iadd, 1) := dk_96 (dk_at dksX5_isName_1 11 rfl rfl)
theorem dX5_isName_36 : decode cX5_isName 36 = .ok (.goto 4, 3) := dk_167 0 4 (dk_at dksX5_isName_1 12 rfl rfl)
theorem dX5_isName_39 : decode cX5_isName 39 = .ok (.iload_n 3, 1) := dk_29 (dk_at dksX5_isName_1 15 rfl rfl)
theorem dX5_isName_40 : decode cX5_isName 40 = .ok (.istore_n 3, 1) := dk_62 (dk_at dksX5_isName_1 16 rfl rfl)
theorem dX5_isName_41 : decode cX5_isName 41 = .ok (.aload_n 0, 1) := dk_42 (dk_at dksX5_isName_1 17 rfl rfl)
theorem dX5_isName_42 : decode cX5_isName 42 = .ok (.aload_n 0, 1) := dk_42 (dk_at dksX5_isName_1 18 rfl rfl)
theorem dX5_isName_43 : decode cX5_isName 43 = .ok (.getfield 137, 3) := dk_180 0 137 (dk_at dksX5_isName_1 19 rfl rfl)
theorem dX5_isName_46 : decode cX5_isName 46 = .ok (.iconst 5, 1) := dk_8 (dk_at dksX5_isName_1 22 rfl rfl)
theorem dX5_isName_47 : decode cX5_isName 47 = .ok (.lshl, 1) := dk_121 (dk_at dksX5_isName_1 23 rfl rfl)
theorem dX5_isName_48 : decode cX5_isName 48 = .ok (.iload 5, 2) := dk_21 5 (dk_at dksX5_isName_2 0 rfl rfl)
theorem dX5_isName_50 : decode cX5_isName 50 = .ok (.bipush 46, 2) := dk_16 46 (dk_at dksX5_isName_2 2 rfl rfl)
theorem dX5_isName_52 : decode cX5_isName 52 = .ok (.if_icmp .ne 8, 3) := dk_160 0 8 (dk_at dksX5_isName_2 4 rfl rfl)
theorem dX5_isName_55 : decode cX5_isName 55 = .ok (.bipush 27, 2) := dk_16 27 (dk_at dksX5_isName_2 7 rfl rfl)
theorem dX5_isName_57 : decode cX5_isName 57 = .ok (.goto 8, 3) := dk_167 0 8 (dk_at dksX5_isName_2 9 rfl rfl)
theorem dX5_isName_60 : decode cX5_isName 60 = .ok (.iload 5, 2) := dk_21 5 (dk_at dksX5_isName_2 12 rfl rfl)
theorem dX5_isName_62 : decode cX5_isName 62 = .ok (.bipush 96, 2) := dk_16 96 (dk_at dksX5_isName_2 14 rfl rfl)
theorem dX5_isName_64 : decode cX5_isName 64 = .ok (.isub, 1) := dk_100 (dk_at dksX5_isName_2 16 rfl rfl)
theorem dX5_isName_65 : decode cX5_isName 65 = .ok (.i2l, 1) := dk_133 (dk_at dksX5_isName_2 17 rfl rfl)
theorem dX5_isName_66 : decode cX5_isName 66 = .ok (.lor, 1) := dk_129 (dk_at dksX5_isName_2 18 rfl rfl)
theorem dX5_isName_67 : decode cX5_isName 67 = .ok (.putfield 137, 3) := dk_181 0 137 (dk_at dksX5_isName_2 19 rfl rfl)
theorem dX5_isName_70 : decode cX5_isName 70 = .ok (.iinc 4 1, 3) := dk_132 4 1 (dk_at dksX5_isName_3 0 rfl rfl)
theorem dX5_isName_73 : decode cX5_isName 73 = .ok (.goto (-63), 3) := dk_167 255 193 (dk_at dksX5_isName_3 3 rfl rfl)
theorem dX5_isName_76 : decode cX5_isName 76 = .ok (.iload_n 2, 1) := dk_28 (dk_at dksX5_isName_3 6 rfl rfl)
theorem dX5_isName_77 : decode cX5_isName 77 = .ok (.iconst 2, 1) := dk_5 (dk_at dksX5_isName_3 7 rfl rfl)
theorem dX5_isName_78 : decode cX5_isName 78 = .ok (.if_icmp .le 36, 3) := dk_164 0 36 (dk_at dksX5_isName_3 8 rfl rfl)
theorem dX5_isName_81 : decode cX5_isName 81 = .ok (.iload_n 3, 1) := dk_29 (dk_at dksX5_isName_3 11 rfl rfl)
theorem dX5_isName_82 : decode cX5_isName 82 = .ok (.iconst 1, 1) := dk_4 (dk_at dksX5_isName_3 12 rfl rfl)
theorem dX5_isName_83 : decode cX5_isName 83 = .ok (.if_icmp .ne 31, 3) := dk_160 0 31 (dk_at dksX5_isName_3 13 rfl rfl)
theorem dX5_isName_86 : decode cX5_isName 86 = .ok (.aload_n 0, 1) := dk_42 (dk_at dksX5_isName_3 16 rfl rfl)
theorem dX5_isName_87 : decode cX5_isName 87 = .ok (.iload_n 1, 1) := dk_27 (dk_at dksX5_isName_3 17 rfl rfl)
theorem dX5_isName_88 : decode cX5_isName 88 = .ok (.invokevirtual 130, 3) := dk_182 0 130 (dk_at dksX5_isName_3 18 rfl rfl)
theorem dX5_isName_91 : decode cX5_isName 91 = .ok (.bipush 46, 2) := dk_16 46 (dk_at dksX5_isName_3 21 rfl rfl)
theorem dX5_isName_93 : decode cX5_isName 93 = .ok (.if_icmp .eq 21, 3) := dk_159 0 21 (dk_at dksX5_isName_4 0 rfl rfl)
theorem dX5_isName_96 : decode cX5_isName 96 = .ok (.aload_n 0, 1) := dk_42 (dk_at dksX5_isName_4 3 rfl rfl)
theorem dX5_isName_97 : decode cX5_isName 97 = .ok (.iload_n 1, 1) := dk_27 (dk_at dksX5_isName_4 4 rfl rfl)
theorem dX5_isName_98 : decode cX5_isName 98 = .ok (.iload_n 2, 1) := dk_28 (dk_at dksX5_isName_4 5 rfl rfl)
theorem dX5_isName_99 : decode cX5_isName 99 = .ok (.iadd, 1) := dk_96 (dk_at dksX5_isName_4 6 rfl rfl)
theorem dX5_isName_100 : decode cX5_isName 100 = .ok (.iconst 1, 1) := dk_4 (dk_at dksX5_isName_4 7 rfl rfl)
theorem dX5_isName_101 : decode cX5_isName 101 = .ok (.isub, 1) := dk_100 (dk_at dksX5_isName_4 8 rfl rfl)
theorem dX5_isName_102 : decode cX5_isName 102 = .ok (.invokevirtual 130, 3) := dk_182 0 130 (dk_at dksX5_isName_4 9 rfl rfl)
theorem dX5_isName_105 : decode cX5_isName 105 = .ok (.bipush 46, 2) := dk_16 46 (dk_at dksX5_isName_4 12 rfl rfl)
theorem dX5_isName_107 : decode cX5_isName 107 = .ok (.if_icmp .eq 7, 3) := dk_159 0 7 (dk_at dksX5_isName_4 14 rfl rfl)
theorem dX5_isName_110 : decode cX5_isName 110 = .ok (.iconst 1, 1) := dk_4 (dk_at dksX5_isName_4 17 rfl rfl)
theorem dX5_isName_111 : decode cX5_isName 111 = .ok (.goto 4, 3) := dk_167 0 4 (dk_at dksX5_isName_4 18 rfl rfl)
theorem dX5_isName_114 : decode cX5_isName 114 = .ok (.iconst 0, 1) := dk_3 (dk_at dksX5_isName_4 21 rfl rfl)
theorem dX5_isName_115 : decode cX5_isName 115 = .ok (.ireturn, 1) := dk_172 (dk_at dksX5_isName_4 22 rfl rfl)
abbrev cX5_want : ByteArray := prog_12_method_37_code
def yX5_want : MethodName := ⟨RX5, "want", "(I)V"⟩
def dkwX5_want_1 : List UInt8 := [4, 96, 181, 0, 147, 167, 0, 12, 42, 4, 42, 180, 0, 147, 182, 0, 157, 177]
abbrev dktX5_want_1 : List UInt8 := dkwX5_want_1 ++ []
def dkwX5_want_0 : List UInt8 := [42, 180, 0, 123, 154, 0, 37, 42, 42, 180, 0, 147, 182, 0, 130, 27, 160, 0, 16, 42, 89, 180, 0, 147]
abbrev dktX5_want_0 : List UInt8 := dkwX5_want_0 ++ dktX5_want_1
theorem dksX5_want_0 : cX5_want.data.toList.drop 0 = dktX5_want_0 := by decide +kernel
theorem dksX5_want_1 : cX5_want.data.toList.drop 24 = dktX5_want_1 := dk_seg dksX5_want_0 24 rfl rfl
theorem dX5_want_0 : decode cX5_want 0 = .ok (.aload_n 0, 1) := dk_42 (dk_at dksX5_want_0 0 rfl rfl)
theorem dX5_want_1 : decode cX5_want 1 = .ok (.getfield 123, 3) := dk_180 0 123 (dk_at dksX5_want_0 1 rfl rfl)
theorem dX5_want_4 : decode cX5_want 4 = .ok (.ifCond .ne 37, 3) := dk_154 0 37 (dk_at dksX5_want_0 4 rfl rfl)
theorem dX5_want_7 : decode cX5_want 7 = .ok (.aload_n 0, 1) := dk_42 (dk_at dksX5_want_0 7 rfl rfl)
theorem dX5_want_8 : decode cX5_want 8 = .ok (.aload_n 0, 1) := dk_42 (dk_at dksX5_want_0 8 rfl rfl)
theorem dX5_want_9 : decode cX5_want 9 = .ok (.getfield 147, 3) := dk_180 0 147 (dk_at dksX5_want_0 9 rfl rfl)
theorem dX5_want_12 : decode cX5_want 12 = .ok (.invokevirtual 130, 3) := dk_182 0 130 (dk_at dksX5_want_0 12 rfl rfl)
theorem dX5_want_15 : decode cX5_want 15 = .ok (.iload_n 1, 1) := dk_27 (dk_at dksX5_want_0 15 rfl rfl)
theorem dX5_want_16 : decode cX5_want 16 = .ok (.if_icmp .ne 16, 3) := dk_160 0 16 (dk_at dksX5_want_0 16 rfl rfl)
theorem dX5_want_19 : decode cX5_want 19 = .ok (.aload_n 0, 1) := dk_42 (dk_at dksX5_want_0 19 rfl rfl)
theorem dX5_want_20 : decode cX5_want 20 = .ok (.dup, 1) := dk_89 (dk_at dksX5_want_0 20 rfl rfl)
theorem dX5_want_21 : decode cX5_want 21 = .ok (.getfield 147, 3) := dk_180 0 147 (dk_at dksX5_want_0 21 rfl rfl)
theorem dX5_want_24 : decode cX5_want 24 = .ok (.iconst 1, 1) := dk_4 (dk_at dksX5_want_1 0 rfl rfl)
theorem dX5_want_25 : decode cX5_want 25 = .ok (.iadd, 1) := dk_96 (dk_at dksX5_want_1 1 rfl rfl)
theorem dX5_want_26 : decode cX5_want 26 = .ok (.putfield 147, 3) := dk_181 0 147 (dk_at dksX5_want_1 2 rfl rfl)
theorem dX5_want_29 : decode cX5_want 29 = .ok (.goto 12, 3) := dk_167 0 12 (dk_at dksX5_want_1 5 rfl rfl)
theorem dX5_want_32 : decode cX5_want 32 = .ok (.aload_n 0, 1) := dk_42 (dk_at dksX5_want_1 8 rfl rfl)
theorem dX5_want_33 : decode cX5_want 33 = .ok (.iconst 1, 1) := dk_4 (dk_at dksX5_want_1 9 rfl rfl)
theorem dX5_want_34 : decode cX5_want 34 = .ok (.aload_n 0, 1) := dk_42 (dk_at dksX5_want_1 10 rfl rfl)
theorem dX5_want_35 : decode cX5_want 35 = .ok (.getfield 147, 3) := dk_180 0 147 (dk_at dksX5_want_1 11 rfl rfl)
theorem dX5_want_38 : decode cX5_want 38 = .ok (.invokevirtual 157, 3) := dk_182 0 157 (dk_at dksX5_want_1 14 rfl rfl)
theorem dX5_want_41 : decode cX5_want 41 = .ok (.return_, 1) := dk_177 (dk_at dksX5_want_1 17 rfl rfl)
abbrev cX5_readExpression : ByteArray := prog_12_method_34_code
def yX5_readExpression : MethodName := ⟨RX5, "readExpression", "()V"⟩
def dkwX5_readExpression_6 : List UInt8 := [158, 0, 12, 42, 4, 42, 180, 0, 147, 182, 0, 157, 177]
abbrev dktX5_readExpression_6 : List UInt8 := dkwX5_readExpression_6 ++ []
def dkwX5_readExpression_5 : List UInt8 := [182, 1, 1, 60, 167, 255, 169, 42, 180, 0, 123, 154, 0, 23, 42, 182, 0, 235, 42, 180, 0, 161]
abbrev dktX5_readExpression_5 : List UInt8 := dkwX5_readExpression_5 ++ dktX5_readExpression_6
def dkwX5_readExpression_4 : List UInt8 := [180, 0, 147, 61, 42, 29, 182, 0, 253, 154, 0, 7, 4, 167, 0, 4, 3, 60, 167, 255, 177, 42]
abbrev dktX5_readExpression_4 : List UInt8 := dkwX5_readExpression_4 ++ dktX5_readExpression_5
def dkwX5_readExpression_3 : List UInt8 := [182, 0, 130, 16, 40, 160, 0, 15, 28, 42, 180, 0, 147, 159, 0, 7, 4, 167, 0, 4, 3, 62, 42]
abbrev dktX5_readExpression_3 : List UInt8 := dkwX5_readExpression_3 ++ dktX5_readExpression_4
def dkwX5_readExpression_2 : List UInt8 := [154, 0, 75, 27, 153, 0, 63, 42, 182, 0, 218, 16, 8, 160, 0, 30, 42, 42, 180, 0, 147, 4, 100]
abbrev dktX5_readExpression_2 : List UInt8 := dkwX5_readExpression_2 ++ dktX5_readExpression_3
def dkwX5_readExpression_1 : List UInt8 := [181, 0, 195, 4, 60, 2, 61, 42, 180, 0, 123, 154, 0, 86, 27, 154, 0, 10, 42, 182, 0, 222]
abbrev dktX5_readExpression_1 : List UInt8 := dkwX5_readExpression_1 ++ dktX5_readExpression_2
def dkwX5_readExpression_0 : List UInt8 := [42, 3, 181, 0, 144, 42, 3, 181, 0, 154, 42, 3, 181, 0, 161, 42, 3, 181, 0, 164, 42, 3]
abbrev dktX5_readExpression_0 : List UInt8 := dkwX5_readExpression_0 ++ dktX5_readExpression_1
theorem dksX5_readExpression_0 : cX5_readExpression.data.toList.drop 0 = dktX5_readExpression_0 := by decide +kernel
theorem dksX5_readExpression_1 : cX5_readExpression.data.toList.drop 22 = dktX5_readExpression_1 := dk_seg dksX5_readExpression_0 22 rfl rfl
theorem dksX5_readExpression_2 : cX5_readExpression.data.toList.drop 44 = dktX5_readExpression_2 := dk_seg dksX5_readExpression_1 22 rfl rfl
theorem dksX5_readExpression_3 : cX5_readExpression.data.toList.drop 67 = dktX5_readExpression_3 := dk_seg dksX5_readExpression_2 23 rfl rfl
theorem dksX5_readExpression_4 : cX5_readExpression.data.toList.drop 90 = dktX5_readExpression_4 := dk_seg dksX5_readExpression_3 23 rfl rfl
theorem dksX5_readExpression_5 : cX5_readExpression.data.toList.drop 112 = dktX5_readExpression_5 := dk_seg dksX5_readExpression_4 22 rfl rfl
theorem dksX5_readExpression_6 : cX5_readExpression.data.toList.drop 134 = dktX5_readExpression_6 := dk_seg dksX5_readExpression_5 22 rfl rfl
theorem dX5_readExpression_0 : decode cX5_readExpression 0 = .ok (.aload_n 0, 1) := dk_42 (dk_at dksX5_readExpression_0 0 rfl rfl)
theorem dX5_readExpression_1 : decode cX5_readExpression 1 = .ok (.iconst 0, 1) := dk_3 (dk_at dksX5_readExpression_0 1 rfl rfl)
theorem dX5_readExpression_2 : decode cX5_readExpression 2 = .ok (.putfield 144, 3) := dk_181 0 144 (dk_at dksX5_readExpression_0 2 rfl rfl)
theorem dX5_readExpression_5 : decode cX5_readExpression 5 = .ok (.aload_n 0, 1) := dk_42 (dk_at dksX5_readExpression_0 5 rfl rfl)
theorem dX5_readExpression_6 : decode cX5_readExpression 6 = .ok (.iconst 0, 1) := dk_3 (dk_at dksX5_readExpression_0 6 rfl rfl)
theorem dX5_readExpression_7 : decode cX5_readExpression 7 = .ok (.putfield 154, 3) := dk_181 0 154 (dk_at dksX5_readExpression_0 7 rfl rfl)
theorem dX5_readExpression_10 : decode cX5_readExpression 10 = .ok (.aload_n 0, 1) := dk_42 (dk_at dksX5_readExpression_0 10 rfl rfl)
theorem dX5_readExpression_11 : decode cX5_readExpression 11 = .ok (.iconst 0, 1) := dk_3 (dk_at dksX5_readExpression_0 11 rfl rfl)
theorem dX5_readExpression_12 : decode cX5_readExpression 12 = .ok (.putfield 161, 3) := dk_181 0 161 (dk_at dksX5_readExpression_0 12 rfl rfl)
theorem dX5_readExpression_15 : decode cX5_readExpression 15 = .ok (.aload_n 0, 1) := dk_42 (dk_at dksX5_readExpression_0 15 rfl rfl)
theorem dX5_readExpression_16 : decode cX5_readExpression 16 = .ok (.iconst 0, 1) := dk_3 (dk_at dksX5_readExpression_0 16 rfl rfl)
theorem dX5_readExpression_17 : decode cX5_readExpression 17 = .ok (.putfield 164, 3) := dk_181 0 164 (dk_at dksX5_readExpression_0 17 rfl rfl)
theorem dX5_readExpression_20 : decode cX5_readExpression 20 = .ok (.aload_n 0, 1) := dk_42 (dk_at dksX5_readExpression_0 20 rfl rfl)
theorem dX5_readExpression_21 : decode cX5_readExpression 21 = .ok (.iconst 0, 1) := dk_3 (dk_at dksX5_readExpression_0 21 rfl rfl)
theorem dX5_readExpression_22 : decode cX5_readExpression 22 = .ok (.putfield 195, 3) := dk_181 0 195 (dk_at dksX5_readExpression_1 0 rfl rfl)
theorem dX5_readExpression_25 : decode cX5_readExpression 25 = .ok (.iconst 1, 1) := dk_4 (dk_at dksX5_readExpression_1 3 rfl rfl)
theorem dX5_readExpression_26 : decode cX5_readExpression 26 = .ok (.istore_n 1, 1) := dk_60 (dk_at dksX5_readExpression_1 4 rfl rfl)
theorem dX5_readExpression_27 : decode cX5_readExpression 27 = .ok (.iconst (-1), 1) := dk_2 (dk_at dksX5_readExpression_1 5 rfl rfl)
theorem dX5_readExpression_28 : decode cX5_readExpression 28 = .ok (.istore_n 2, 1) := dk_61 (dk_at dksX5_readExpression_1 6 rfl rfl)
theorem dX5_readExpression_29 : decode cX5_readExpression 29 = .ok (.aload_n 0, 1) := dk_42 (dk_at dksX5_readExpression_1 7 rfl rfl)
theorem dX5_readExpression_30 : decode cX5_readExpression 30 = .ok (.getfield 123, 3) := dk_180 0 123 (dk_at dksX5_readExpression_1 8 rfl rfl)
theorem dX5_readExpression_33 : decode cX5_readExpression 33 = .ok (.ifCond .ne 86, 3) := dk_154 0 86 (dk_at dksX5_readExpression_1 11 rfl rfl)
theorem dX5_readExpression_36 : decode cX5_readExpression 36 = .ok (.iload_n 1, 1) := dk_27 (dk_at dksX5_readExpression_1 14 rfl rfl)
theorem dX5_readExpression_37 : decode cX5_readExpression 37 = .ok (.ifCond .ne 10, 3) := dk_154 0 10 (dk_at dksX5_readExpression_1 15 rfl rfl)
theorem dX5_readExpression_40 : decode cX5_readExpression 40 = .ok (.aload_n 0, 1) := dk_42 (dk_at dksX5_readExpression_1 18 rfl rfl)
theorem dX5_readExpression_41 : decode cX5_readExpression 41 = .ok (.invokevirtual 222, 3) := dk_182 0 222 (dk_at dksX5_readExpression_1 19 rfl rfl)
theorem dX5_readExpression_44 : decode cX5_readExpression 44 = .ok (.ifCond .ne 75, 3) := dk_154 0 75 (dk_at dksX5_readExpression_2 0 rfl rfl)
theorem dX5_readExpression_47 : decode cX5_readExpression 47 = .ok (.iload_n 1, 1) := dk_27 (dk_at dksX5_readExpression_2 3 rfl rfl)
theorem dX5_readExpression_48 : decode cX5_readExpression 48 = .ok (.ifCond .eq 63, 3) := dk_153 0 63 (dk_at dksX5_readExpression_2 4 rfl rfl)
theorem dX5_readExpression_51 : decode cX5_readExpression 51 = .ok (.aload_n 0, 1) := dk_42 (dk_at dksX5_readExpression_2 7 rfl rfl)
theorem dX5_readExpression_52 : decode cX5_readExpression 52 = .ok (.invokevirtual 218, 3) := dk_182 0 218 (dk_at dksX5_readExpression_2 8 rfl rfl)
theorem dX5_readExpression_55 : decode cX5_readExpression 55 = .ok (.bipush 8, 2) := dk_16 8 (dk_at dksX5_readExpression_2 11 rfl rfl)
theorem dX5_readExpression_57 : decode cX5_readExpression 57 = .ok (.if_icmp .ne 30, 3) := dk_160 0 30 (dk_at dksX5_readExpression_2 13 rfl rfl)
theorem dX5_readExpression_60 : decode cX5_readExpression 60 = .ok (.aload_n 0, 1) := dk_42 (dk_at dksX5_readExpression_2 16 rfl rfl)
theorem dX5_readExpression_61 : decode cX5_readExpression 61 = .ok (.aload_n 0, 1) := dk_42 (dk_at dksX5_readExpression_2 17 rfl rfl)
theorem dX5_readExpression_62 : decode cX5_readExpression 62 = .ok (.getfield 147, 3) := dk_180 0 147 (dk_at dksX5_readExpression_2 18 rfl rfl)
theorem dX5_readExpression_65 : decode cX5_readExpression 65 = .ok (.iconst 1, 1) := dk_4 (dk_at dksX5_readExpression_2 21 rfl rfl)
theorem dX5_readExpression_66 : decode cX5_readExpression 66 = .ok (.isub, 1) := dk_100 (dk_at dksX5_readExpression_2 22 rfl rfl)
theorem dX5_readExpression_67 : decode cX5_readExpression 67 = .ok (.invokevirtual 130, 3) := dk_182 0 130 (dk_at dksX5_readExpression_3 0 rfl rfl)
theorem dX5_readExpression_70 : decode cX5_readExpression 70 = .ok (.bipush 40, 2) := dk_16 40 (dk_at dksX5_readExpression_3 3 rfl rfl)
theorem dX5_readExpression_72 : decode cX5_readExpression 72 = .ok (.if_icmp .ne 15, 3) := dk_160 0 15 (dk_at dksX5_readExpression_3 5 rfl rfl)
theorem dX5_readExpression_75 : decode cX5_readExpression 75 = .ok (.iload_n 2, 1) := dk_28 (dk_at dksX5_readExpression_3 8 rfl rfl)
theorem dX5_readExpression_76 : decode cX5_readExpression 76 = .ok (.aload_n 0, 1) := dk_42 (dk_at dksX5_readExpression_3 9 rfl rfl)
theorem dX5_readExpression_77 : decode cX5_readExpression 77 = .ok (.getfield 147, 3) := dk_180 0 147 (dk_at dksX5_readExpression_3 10 rfl rfl)
theorem dX5_readExpression_80 : decode cX5_readExpression 80 = .ok (.if_icmp .eq 7, 3) := dk_159 0 7 (dk_at dksX5_readExpression_3 13 rfl rfl)
theorem dX5_readExpression_83 : decode cX5_readExpression 83 = .ok (.iconst 1, 1) := dk_4 (dk_at dksX5_readExpression_3 16 rfl rfl)
theorem dX5_readExpression_84 : decode cX5_readExpression 84 = .ok (.goto 4, 3) := dk_167 0 4 (dk_at dksX5_readExpression_3 17 rfl rfl)
theorem dX5_readExpression_87 : decode cX5_readExpression 87 = .ok (.iconst 0, 1) := dk_3 (dk_at dksX5_readExpression_3 20 rfl rfl)
theorem dX5_readExpression_88 : decode cX5_readExpression 88 = .ok (.istore_n 3, 1) := dk_62 (dk_at dksX5_readExpression_3 21 rfl rfl)
theorem dX5_readExpression_89 : decode cX5_readExpression 89 = .ok (.aload_n 0, 1) := dk_42 (dk_at dksX5_readExpression_3 22 rfl rfl)
theorem dX5_readExpression_90 : decode cX5_readExpression 90 = .ok (.getfield 147, 3) := dk_180 0 147 (dk_at dksX5_readExpression_4 0 rfl rfl)
theorem dX5_readExpression_93 : decode cX5_readExpression 93 = .ok (.istore_n 2, 1) := dk_61 (dk_at dksX5_readExpression_4 3 rfl rfl)
theorem dX5_readExpression_94 : decode cX5_readExpression 94 = .ok (.aload_n 0, 1) := dk_42 (dk_at dksX5_readExpression_4 4 rfl rfl)
theorem dX5_readExpression_95 : decode cX5_readExpression 95 = .ok (.iload_n 3, 1) := dk_29 (dk_at dksX5_readExpression_4 5 rfl rfl)
theorem dX5_readExpression_96 : decode cX5_readExpression 96 = .ok (.invokevirtual 253, 3) := dk_182 0 253 (dk_at dksX5_readExpression_4 6 rfl rfl)
theorem dX5_readExpression_99 : decode cX5_readExpression 99 = .ok (.ifCond .ne 7, 3) := dk_154 0 7 (dk_at dksX5_readExpression_4 9 rfl rfl)
theorem dX5_readExpression_102 : decode cX5_readExpression 102 = .ok (.iconst 1, 1) := dk_4 (dk_at dksX5_readExpression_4 12 rfl rfl)
theorem dX5_readExpression_103 : decode cX5_readExpression 103 = .ok (.goto 4, 3) := dk_167 0 4 (dk_at dksX5_readExpression_4 13 rfl rfl)
theorem dX5_readExpression_106 : decode cX5_readExpression 106 = .ok (.iconst 0, 1) := dk_3 (dk_at dksX5_readExpression_4 16 rfl rfl)
theorem dX5_readExpression_107 : decode cX5_readExpression 107 = .ok (.istore_n 1, 1) := dk_60 (dk_at dksX5_readExpression_4 17 rfl rfl)
theorem dX5_readExpression_108 : decode cX5_readExpression 108 = .ok (.goto (-79), 3) := dk_167 255 177 (dk_at dksX5_readExpression_4 18 rfl rfl)
theorem dX5_readExpression_111 : decode cX5_readExpression 111 = .ok (.aload_n 0, 1) := dk_42 (dk_at dksX5_readExpression_4 21 rfl rfl)
theorem dX5_readExpression_112 : decode cX5_readExpression 112 = .ok (.invokevirtual 257, 3) := dk_182 1 1 (dk_at dksX5_readExpression_5 0 rfl rfl)
theorem dX5_readExpression_115 : decode cX5_readExpression 115 = .ok (.istore_n 1, 1) := dk_60 (dk_at dksX5_readExpression_5 3 rfl rfl)
theorem dX5_readExpression_116 : decode cX5_readExpression 116 = .ok (.goto (-87), 3) := dk_167 255 169 (dk_at dksX5_readExpression_5 4 rfl rfl)
theorem dX5_readExpression_119 : decode cX5_readExpression 119 = .ok (.aload_n 0, 1) := dk_42 (dk_at dksX5_readExpression_5 7 rfl rfl)
theorem dX5_readExpression_120 : decode cX5_readExpression 120 = .ok (.getfield 123, 3) := dk_180 0 123 (dk_at dksX5_readExpression_5 8 rfl rfl)
theorem dX5_readExpression_123 : decode cX5_readExpression 123 = .ok (.ifCond .ne 23, 3) := dk_154 0 23 (dk_at dksX5_readExpression_5 11 rfl rfl)
theorem dX5_readExpression_126 : decode cX5_readExpression 126 = .ok (.aload_n 0, 1) := dk_42 (dk_at dksX5_readExpression_5 14 rfl rfl)
theorem dX5_readExpression_127 : decode cX5_readExpression 127 = .ok (.invokevirtual 235, 3) := dk_182 0 235 (dk_at dksX5_readExpression_5 15 rfl rfl)
theorem dX5_readExpression_130 : decode cX5_readExpression 130 = .ok (.aload_n 0, 1) := dk_42 (dk_at dksX5_readExpression_5 18 rfl rfl)
theorem dX5_readExpression_131 : decode cX5_readExpression 131 = .ok (.getfield 161, 3) := dk_180 0 161 (dk_at dksX5_readExpression_5 19 rfl rfl)
theorem dX5_readExpression_134 : decode cX5_readExpression 134 = .ok (.ifCond .le 12, 3) := dk_158 0 12 (dk_at dksX5_readExpression_6 0 rfl rfl)
theorem dX5_readExpression_137 : decode cX5_readExpression 137 = .ok (.aload_n 0, 1) := dk_42 (dk_at dksX5_readExpression_6 3 rfl rfl)
theorem dX5_readExpression_138 : decode cX5_readExpression 138 = .ok (.iconst 1, 1) := dk_4 (dk_at dksX5_readExpression_6 4 rfl rfl)
theorem dX5_readExpression_139 : decode cX5_readExpression 139 = .ok (.aload_n 0, 1) := dk_42 (dk_at dksX5_readExpression_6 5 rfl rfl)
theorem dX5_readExpression_140 : decode cX5_readExpression 140 = .ok (.getfield 147, 3) := dk_180 0 147 (dk_at dksX5_readExpression_6 6 rfl rfl)
theorem dX5_readExpression_143 : decode cX5_readExpression 143 = .ok (.invokevirtual 157, 3) := dk_182 0 157 (dk_at dksX5_readExpression_6 9 rfl rfl)
theorem dX5_readExpression_146 : decode cX5_readExpression 146 = .ok (.return_, 1) := dk_177 (dk_at dksX5_readExpression_6 12 rfl rfl)
abbrev cX5_ended : ByteArray := prog_12_method_14_code
def yX5_ended : MethodName := ⟨RX5, "ended", "()Z"⟩
def dkwX5_ended_1 : List UInt8 := [163, 0, 7, 4, 167, 0, 4, 3, 172]
abbrev dktX5_ended_1 : List UInt8 := dkwX5_ended_1 ++ []
def dkwX5_ended_0 : List UInt8 := [42, 42, 180, 0, 147, 182, 0, 130, 60, 27, 155, 0, 16, 42, 180, 0, 150, 153, 0, 13, 27, 16, 32]
abbrev dktX5_ended_0 : List UInt8 := dkwX5_ended_0 ++ dktX5_ended_1
theorem dksX5_ended_0 : cX5_ended.data.toList.drop 0 = dktX5_ended_0 := by decide +kernel
theorem dksX5_ended_1 : cX5_ended.data.toList.drop 23 = dktX5_ended_1 := dk_seg dksX5_ended_0 23 rfl rfl
theorem dX5_ended_0 : decode cX5_ended 0 = .ok (.aload_n 0, 1) := dk_42 (dk_at dksX5_ended_0 0 rfl rfl)
theorem dX5_ended_1 : decode cX5_ended 1 = .ok (.aload_n 0, 1) := dk_42 (dk_at dksX5_ended_0 1 rfl rfl)
theorem dX5_ended_2 : decode cX5_ended 2 = .ok (.getfield 147, 3) := dk_180 0 147 (dk_at dksX5_ended_0 2 rfl rfl)
theorem dX5_ended_5 : decode cX5_ended 5 = .ok (.invokevirtual 130, 3) := dk_182 0 130 (dk_at dksX5_ended_0 5 rfl rfl)
theorem dX5_ended_8 : decode cX5_ended 8 = .ok (.istore_n 1, 1) := dk_60 (dk_at dksX5_ended_0 8 rfl rfl)
theorem dX5_ended_9 : decode cX5_ended 9 = .ok (.iload_n 1, 1) := dk_27 (dk_at dksX5_ended_0 9 rfl rfl)
theorem dX5_ended_10 : decode cX5_ended 10 = .ok (.ifCond .lt 16, 3) := dk_155 0 16 (dk_at dksX5_ended_0 10 rfl rfl)
theorem dX5_ended_13 : decode cX5_ended 13 = .ok (.aload_n 0, 1) := dk_42 (dk_at dksX5_ended_0 13 rfl rfl)
theorem dX5_ended_14 : decode cX5_ended 14 = .ok (.getfield 150, 3) := dk_180 0 150 (dk_at dksX5_ended_0 14 rfl rfl)
theorem dX5_ended_17 : decode cX5_ended 17 = .ok (.ifCond .eq 13, 3) := dk_153 0 13 (dk_at dksX5_ended_0 17 rfl rfl)
theorem dX5_ended_20 : decode cX5_ended 20 = .ok (.iload_n 1, 1) := dk_27 (dk_at dksX5_ended_0 20 rfl rfl)
theorem dX5_ended_21 : decode cX5_ended 21 = .ok (.bipush 32, 2) := dk_16 32 (dk_at dksX5_ended_0 21 rfl rfl)
theorem dX5_ended_23 : decode cX5_ended 23 = .ok (.if_icmp .gt 7, 3) := dk_163 0 7 (dk_at dksX5_ended_1 0 rfl rfl)
theorem dX5_ended_26 : decode cX5_ended 26 = .ok (.iconst 1, 1) := dk_4 (dk_at dksX5_ended_1 3 rfl rfl)
theorem dX5_ended_27 : decode cX5_ended 27 = .ok (.goto 4, 3) := dk_167 0 4 (dk_at dksX5_ended_1 4 rfl rfl)
theorem dX5_ended_30 : decode cX5_ended 30 = .ok (.iconst 0, 1) := dk_3 (dk_at dksX5_ended_1 7 rfl rfl)
theorem dX5_ended_31 : decode cX5_ended 31 = .ok (.ireturn, 1) := dk_172 (dk_at dksX5_ended_1 8 rfl rfl)
abbrev cX5_last : ByteArray := prog_12_method_21_code
def yX5_last : MethodName := ⟨RX5, "last", "()I"⟩
def dkwX5_last_0 : List UInt8 := [42, 180, 0, 161, 154, 0, 7, 2, 167, 0, 14, 42, 180, 0, 33, 42, 180, 0, 161, 4, 100, 46, 172]
abbrev dktX5_last_0 : List UInt8 := dkwX5_last_0 ++ []
theorem dksX5_last_0 : cX5_last.data.toList.drop 0 = dktX5_last_0 := by decide +kernel
theorem dX5_last_0 : decode cX5_last 0 = .ok (.aload_n 0, 1) := dk_42 (dk_at dksX5_last_0 0 rfl rfl)
theorem dX5_last_1 : decode cX5_last 1 = .ok (.getfield 161, 3) := dk_180 0 161 (dk_at dksX5_last_0 1 rfl rfl)
theorem dX5_last_4 : decode cX5_last 4 = .ok (.ifCond .ne 7, 3) := dk_154 0 7 (dk_at dksX5_last_0 4 rfl rfl)
theorem dX5_last_7 : decode cX5_last 7 = .ok (.iconst (-1), 1) := dk_2 (dk_at dksX5_last_0 7 rfl rfl)
theorem dX5_last_8 : decode cX5_last 8 = .ok (.goto 14, 3) := dk_167 0 14 (dk_at dksX5_last_0 8 rfl rfl)
theorem dX5_last_11 : decode cX5_last 11 = .ok (.aload_n 0, 1) := dk_42 (dk_at dksX5_last_0 11 rfl rfl)
theorem dX5_last_12 : decode cX5_last 12 = .ok (.getfield 33, 3) := dk_180 0 33 (dk_at dksX5_last_0 12 rfl rfl)
theorem dX5_last_15 : decode cX5_last 15 = .ok (.aload_n 0, 1) := dk_42 (dk_at dksX5_last_0 15 rfl rfl)
theorem dX5_last_16 : decode cX5_last 16 = .ok (.getfield 161, 3) := dk_180 0 161 (dk_at dksX5_last_0 16 rfl rfl)
theorem dX5_last_19 : decode cX5_last 19 = .ok (.iconst 1, 1) := dk_4 (dk_at dksX5_last_0 19 rfl rfl)
theorem dX5_last_20 : decode cX5_last 20 = .ok (.isub, 1) := dk_100 (dk_at dksX5_last_0 20 rfl rfl)
theorem dX5_last_21 : decode cX5_last 21 = .ok (.iaload, 1) := dk_46 (dk_at dksX5_last_0 21 rfl rfl)
theorem dX5_last_22 : decode cX5_last 22 = .ok (.ireturn, 1) := dk_172 (dk_at dksX5_last_0 22 rfl rfl)
abbrev cX5_readOperand : ByteArray := prog_12_method_26_code
def yX5_readOperand : MethodName := ⟨RX5, "readOperand", "(Z)Z"⟩
def dkwX5_readOperand_8 : List UInt8 := [180, 0, 147, 182, 0, 157, 3, 172]
abbrev dktX5_readOperand_8 : List UInt8 := dkwX5_readOperand_8 ++ []
def dkwX5_readOperand_7 : List UInt8 := [3, 3, 182, 0, 215, 167, 0, 24, 28, 184, 0, 134, 153, 0, 8, 42, 182, 0, 232, 172, 42, 4, 42]
abbrev dktX5_readOperand_7 : List UInt8 := dkwX5_readOperand_7 ++ dktX5_readOperand_8
def dkwX5_readOperand_6 : List UInt8 := [28, 182, 0, 198, 42, 89, 180, 0, 147, 4, 96, 181, 0, 147, 167, 0, 39, 28, 16, 40, 160, 0, 12, 42]
abbrev dktX5_readOperand_6 : List UInt8 := dkwX5_readOperand_6 ++ dktX5_readOperand_7
def dkwX5_readOperand_5 : List UInt8 := [159, 0, 9, 28, 16, 33, 160, 0, 35, 42, 42, 180, 0, 147, 182, 0, 178, 153, 0, 60, 42, 16, 6, 3]
abbrev dktX5_readOperand_5 : List UInt8 := dkwX5_readOperand_5 ++ dktX5_readOperand_6
def dkwX5_readOperand_4 : List UInt8 := [182, 0, 157, 167, 0, 96, 28, 184, 0, 181, 153, 0, 9, 42, 182, 0, 229, 4, 172, 28, 16, 45]
abbrev dktX5_readOperand_4 : List UInt8 := dkwX5_readOperand_4 ++ dktX5_readOperand_5
def dkwX5_readOperand_3 : List UInt8 := [160, 0, 30, 42, 180, 0, 39, 42, 180, 0, 161, 4, 100, 46, 6, 160, 0, 15, 42, 6, 42, 180, 0, 147]
abbrev dktX5_readOperand_3 : List UInt8 := dkwX5_readOperand_3 ++ dktX5_readOperand_4
def dkwX5_readOperand_2 : List UInt8 := [29, 153, 0, 15, 28, 16, 41, 160, 0, 9, 42, 182, 0, 226, 4, 172, 42, 182, 0, 218, 16, 8]
abbrev dktX5_readOperand_2 : List UInt8 := dkwX5_readOperand_2 ++ dktX5_readOperand_3
def dkwX5_readOperand_1 : List UInt8 := [167, 0, 4, 3, 62, 42, 182, 0, 222, 153, 0, 15, 42, 4, 42, 180, 0, 147, 182, 0, 157, 167, 0, 148]
abbrev dktX5_readOperand_1 : List UInt8 := dkwX5_readOperand_1 ++ dktX5_readOperand_2
def dkwX5_readOperand_0 : List UInt8 := [42, 42, 180, 0, 147, 182, 0, 130, 61, 27, 153, 0, 16, 42, 182, 0, 218, 16, 8, 160, 0, 7, 4]
abbrev dktX5_readOperand_0 : List UInt8 := dkwX5_readOperand_0 ++ dktX5_readOperand_1
theorem dksX5_readOperand_0 : cX5_readOperand.data.toList.drop 0 = dktX5_readOperand_0 := by decide +kernel
theorem dksX5_readOperand_1 : cX5_readOperand.data.toList.drop 23 = dktX5_readOperand_1 := dk_seg dksX5_readOperand_0 23 rfl rfl
theorem dksX5_readOperand_2 : cX5_readOperand.data.toList.drop 47 = dktX5_readOperand_2 := dk_seg dksX5_readOperand_1 24 rfl rfl
theorem dksX5_readOperand_3 : cX5_readOperand.data.toList.drop 69 = dktX5_readOperand_3 := dk_seg dksX5_readOperand_2 22 rfl rfl
theorem dksX5_readOperand_4 : cX5_readOperand.data.toList.drop 93 = dktX5_readOperand_4 := dk_seg dksX5_readOperand_3 24 rfl rfl
theorem dksX5_readOperand_5 : cX5_readOperand.data.toList.drop 115 = dktX5_readOperand_5 := dk_seg dksX5_readOperand_4 22 rfl rfl
theorem dksX5_readOperand_6 : cX5_readOperand.data.toList.drop 139 = dktX5_readOperand_6 := dk_seg dksX5_readOperand_5 24 rfl rfl
theorem dksX5_readOperand_7 : cX5_readOperand.data.toList.drop 163 = dktX5_readOperand_7 := dk_seg dksX5_readOperand_6 24 rfl rfl
theorem dksX5_readOperand_8 : cX5_readOperand.data.toList.drop 186 = dktX5_readOperand_8 := dk_seg dksX5_readOperand_7 23 rfl rfl
theorem dX5_readOperand_0 : decode cX5_readOperand 0 = .ok (.aload_n 0, 1) := dk_42 (dk_at dksX5_readOperand_0 0 rfl rfl)
theorem dX5_readOperand_1 : decode cX5_readOperand 1 = .ok (.aload_n 0, 1) := dk_42 (dk_at dksX5_readOperand_0 1 rfl rfl)
theorem dX5_readOperand_2 : decode cX5_readOperand 2 = .ok (.getfield 147, 3) := dk_180 0 147 (dk_at dksX5_readOperand_0 2 rfl rfl)
theorem dX5_readOperand_5 : decode cX5_readOperand 5 = .ok (.invokevirtual 130, 3) := dk_182 0 130 (dk_at dksX5_readOperand_0 5 rfl rfl)
theorem dX5_readOperand_8 : decode cX5_readOperand 8 = .ok (.istore_n 2, 1) := dk_61 (dk_at dksX5_readOperand_0 8 rfl rfl)
theorem dX5_readOperand_9 : decode cX5_readOperand 9 = .ok (.iload_n 1, 1) := dk_27 (dk_at dksX5_readOperand_0 9 rfl rfl)
theorem dX5_readOperand_10 : decode cX5_readOperand 10 = .ok (.ifCond .eq 16, 3) := dk_153 0 16 (dk_at dksX5_readOperand_0 10 rfl rfl)
theorem dX5_readOperand_13 : decode cX5_readOperand 13 = .ok (.aload_n 0, 1) := dk_42 (dk_at dksX5_readOperand_0 13 rfl rfl)
theorem dX5_readOperand_14 : decode cX5_readOperand 14 = .ok (.invokevirtual 218, 3) := dk_182 0 218 (dk_at dksX5_readOperand_0 14 rfl rfl)
theorem dX5_readOperand_17 : decode cX5_readOperand 17 = .ok (.bipush 8, 2) := dk_16 8 (dk_at dksX5_readOperand_0 17 rfl rfl)
theorem dX5_readOperand_19 : decode cX5_readOperand 19 = .ok (.if_icmp .ne 7, 3) := dk_160 0 7 (dk_at dksX5_readOperand_0 19 rfl rfl)
theorem dX5_readOperand_22 : decode cX5_readOperand 22 = .ok (.iconst 1, 1) := dk_4 (dk_at dksX5_readOperand_0 22 rfl rfl)
theorem dX5_readOperand_23 : decode cX5_readOperand 23 = .ok (.goto 4, 3) := dk_167 0 4 (dk_at dksX5_readOperand_1 0 rfl rfl)
theorem dX5_readOperand_26 : decode cX5_readOperand 26 = .ok (.iconst 0, 1) := dk_3 (dk_at dksX5_readOperand_1 3 rfl rfl)
theorem dX5_readOperand_27 : decode cX5_readOperand 27 = .ok (.istore_n 3, 1) := dk_62 (dk_at dksX5_readOperand_1 4 rfl rfl)
theorem dX5_readOperand_28 : decode cX5_readOperand 28 = .ok (.aload_n 0, 1) := dk_42 (dk_at dksX5_readOperand_1 5 rfl rfl)
theorem dX5_readOperand_29 : decode cX5_readOperand 29 = .ok (.invokevirtual 222, 3) := dk_182 0 222 (dk_at dksX5_readOperand_1 6 rfl rfl)
theorem dX5_readOperand_32 : decode cX5_readOperand 32 = .ok (.ifCond .eq 15, 3) := dk_153 0 15 (dk_at dksX5_readOperand_1 9 rfl rfl)
theorem dX5_readOperand_35 : decode cX5_readOperand 35 = .ok (.aload_n 0, 1) := dk_42 (dk_at dksX5_readOperand_1 12 rfl rfl)
theorem dX5_readOperand_36 : decode cX5_readOperand 36 = .ok (.iconst 1, 1) := dk_4 (dk_at dksX5_readOperand_1 13 rfl rfl)
theorem dX5_readOperand_37 : decode cX5_readOperand 37 = .ok (.aload_n 0, 1) := dk_42 (dk_at dksX5_readOperand_1 14 rfl rfl)
theorem dX5_readOperand_38 : decode cX5_readOperand 38 = .ok (.getfield 147, 3) := dk_180 0 147 (dk_at dksX5_readOperand_1 15 rfl rfl)
theorem dX5_readOperand_41 : decode cX5_readOperand 41 = .ok (.invokevirtual 157, 3) := dk_182 0 157 (dk_at dksX5_readOperand_1 18 rfl rfl)
theorem dX5_readOperand_44 : decode cX5_readOperand 44 = .ok (.goto 148, 3) := dk_167 0 148 (dk_at dksX5_readOperand_1 21 rfl rfl)
theorem dX5_readOperand_47 : decode cX5_readOperand 47 = .ok (.iload_n 3, 1) := dk_29 (dk_at dksX5_readOperand_2 0 rfl rfl)
theorem dX5_readOperand_48 : decode cX5_readOperand 48 = .ok (.ifCond .eq 15, 3) := dk_153 0 15 (dk_at dksX5_readOperand_2 1 rfl rfl)
theorem dX5_readOperand_51 : decode cX5_readOperand 51 = .ok (.iload_n 2, 1) := dk_28 (dk_at dksX5_readOperand_2 4 rfl rfl)
theorem dX5_readOperand_52 : decode cX5_readOperand 52 = .ok (.bipush 41, 2) := dk_16 41 (dk_at dksX5_readOperand_2 5 rfl rfl)
theorem dX5_readOperand_54 : decode cX5_readOperand 54 = .ok (.if_icmp .ne 9, 3) := dk_160 0 9 (dk_at dksX5_readOperand_2 7 rfl rfl)
theorem dX5_readOperand_57 : decode cX5_readOperand 57 = .ok (.aload_n 0, 1) := dk_42 (dk_at dksX5_readOperand_2 10 rfl rfl)
theorem dX5_readOperand_58 : decode cX5_readOperand 58 = .ok (.invokevirtual 226, 3) := dk_182 0 226 (dk_at dksX5_readOperand_2 11 rfl rfl)
theorem dX5_readOperand_61 : decode cX5_readOperand 61 = .ok (.iconst 1, 1) := dk_4 (dk_at dksX5_readOperand_2 14 rfl rfl)
theorem dX5_readOperand_62 : decode cX5_readOperand 62 = .ok (.ireturn, 1) := dk_172 (dk_at dksX5_readOperand_2 15 rfl rfl)
theorem dX5_readOperand_63 : decode cX5_readOperand 63 = .ok (.aload_n 0, 1) := dk_42 (dk_at dksX5_readOperand_2 16 rfl rfl)
theorem dX5_readOperand_64 : decode cX5_readOperand 64 = .ok (.invokevirtual 218, 3) := dk_182 0 218 (dk_at dksX5_readOperand_2 17 rfl rfl)
theorem dX5_readOperand_67 : decode cX5_readOperand 67 = .ok (.bipush 8, 2) := dk_16 8 (dk_at dksX5_readOperand_2 20 rfl rfl)
theorem dX5_readOperand_69 : decode cX5_readOperand 69 = .ok (.if_icmp .ne 30, 3) := dk_160 0 30 (dk_at dksX5_readOperand_3 0 rfl rfl)
theorem dX5_readOperand_72 : decode cX5_readOperand 72 = .ok (.aload_n 0, 1) := dk_42 (dk_at dksX5_readOperand_3 3 rfl rfl)
theorem dX5_readOperand_73 : decode cX5_readOperand 73 = .ok (.getfield 39, 3) := dk_180 0 39 (dk_at dksX5_readOperand_3 4 rfl rfl)
theorem dX5_readOperand_76 : decode cX5_readOperand 76 = .ok (.aload_n 0, 1) := dk_42 (dk_at dksX5_readOperand_3 7 rfl rfl)
theorem dX5_readOperand_77 : decode cX5_readOperand 77 = .ok (.getfield 161, 3) := dk_180 0 161 (dk_at dksX5_readOperand_3 8 rfl rfl)
theorem dX5_readOperand_80 : decode cX5_readOperand 80 = .ok (.iconst 1, 1) := dk_4 (dk_at dksX5_readOperand_3 11 rfl rfl)
theorem dX5_readOperand_81 : decode cX5_readOperand 81 = .ok (.isub, 1) := dk_100 (dk_at dksX5_readOperand_3 12 rfl rfl)
theorem dX5_readOperand_82 : decode cX5_readOperand 82 = .ok (.iaload, 1) := dk_46 (dk_at dksX5_readOperand_3 13 rfl rfl)
theorem dX5_readOperand_83 : decode cX5_readOperand 83 = .ok (.iconst 3, 1) := dk_6 (dk_at dksX5_readOperand_3 14 rfl rfl)
theorem dX5_readOperand_84 : decode cX5_readOperand 84 = .ok (.if_icmp .ne 15, 3) := dk_160 0 15 (dk_at dksX5_readOperand_3 15 rfl rfl)
theorem dX5_readOperand_87 : decode cX5_readOperand 87 = .ok (.aload_n 0, 1) := dk_42 (dk_at dksX5_readOperand_3 18 rfl rfl)
theorem dX5_readOperand_88 : decode cX5_readOperand 88 = .ok (.iconst 3, 1) := dk_6 (dk_at dksX5_readOperand_3 19 rfl rfl)
theorem dX5_readOperand_89 : decode cX5_readOperand 89 = .ok (.aload_n 0, 1) := dk_42 (dk_at dksX5_readOperand_3 20 rfl rfl)
theorem dX5_readOperand_90 : decode cX5_readOperand 90 = .ok (.getfield 147, 3) := dk_180 0 147 (dk_at dksX5_readOperand_3 21 rfl rfl)
theorem dX5_readOperand_93 : decode cX5_readOperand 93 = .ok (.invokevirtual 157, 3) := dk_182 0 157 (dk_at dksX5_readOperand_4 0 rfl rfl)
theorem dX5_readOperand_96 : decode cX5_readOperand 96 = .ok (.goto 96, 3) := dk_167 0 96 (dk_at dksX5_readOperand_4 3 rfl rfl)
theorem dX5_readOperand_99 : decode cX5_readOperand 99 = .ok (.iload_n 2, 1) := dk_28 (dk_at dksX5_readOperand_4 6 rfl rfl)
theorem dX5_readOperand_100 : decode cX5_readOperand 100 = .ok (.invokestatic 181, 3) := dk_184 0 181 (dk_at dksX5_readOperand_4 7 rfl rfl)
theorem dX5_readOperand_103 : decode cX5_readOperand 103 = .ok (.ifCond .eq 9, 3) := dk_153 0 9 (dk_at dksX5_readOperand_4 10 rfl rfl)
theorem dX5_readOperand_106 : decode cX5_readOperand 106 = .ok (.aload_n 0, 1) := dk_42 (dk_at dksX5_readOperand_4 13 rfl rfl)
theorem dX5_readOperand_107 : decode cX5_readOperand 107 = .ok (.invokevirtual 229, 3) := dk_182 0 229 (dk_at dksX5_readOperand_4 14 rfl rfl)
theorem dX5_readOperand_110 : decode cX5_readOperand 110 = .ok (.iconst 1, 1) := dk_4 (dk_at dksX5_readOperand_4 17 rfl rfl)
theorem dX5_readOperand_111 : decode cX5_readOperand 111 = .ok (.ireturn, 1) := dk_172 (dk_at dksX5_readOperand_4 18 rfl rfl)
theorem dX5_readOperand_112 : decode cX5_readOperand 112 = .ok (.iload_n 2, 1) := dk_28 (dk_at dksX5_readOperand_4 19 rfl rfl)
theorem dX5_readOperand_113 : decode cX5_readOperand 113 = .ok (.bipush 45, 2) := dk_16 45 (dk_at dksX5_readOperand_4 20 rfl rfl)
theorem dX5_readOperand_115 : decode cX5_readOperand 115 = .ok (.if_icmp .eq 9, 3) := dk_159 0 9 (dk_at dksX5_readOperand_5 0 rfl rfl)
theorem dX5_readOperand_118 : decode cX5_readOperand 118 = .ok (.iload_n 2, 1) := dk_28 (dk_at dksX5_readOperand_5 3 rfl rfl)
theorem dX5_readOperand_119 : decode cX5_readOperand 119 = .ok (.bipush 33, 2) := dk_16 33 (dk_at dksX5_readOperand_5 4 rfl rfl)
theorem dX5_readOperand_121 : decode cX5_readOperand 121 = .ok (.if_icmp .ne 35, 3) := dk_160 0 35 (dk_at dksX5_readOperand_5 6 rfl rfl)
theorem dX5_readOperand_124 : decode cX5_readOperand 124 = .ok (.aload_n 0, 1) := dk_42 (dk_at dksX5_readOperand_5 9 rfl rfl)
theorem dX5_readOperand_125 : decode cX5_readOperand 125 = .ok (.aload_n 0, 1) := dk_42 (dk_at dksX5_readOperand_5 10 rfl rfl)
theorem dX5_readOperand_126 : decode cX5_readOperand 126 = .ok (.getfield 147, 3) := dk_180 0 147 (dk_at dksX5_readOperand_5 11 rfl rfl)
theorem dX5_readOperand_129 : decode cX5_readOperand 129 = .ok (.invokevirtual 178, 3) := dk_182 0 178 (dk_at dksX5_readOperand_5 14 rfl rfl)
theorem dX5_readOperand_132 : decode cX5_readOperand 132 = .ok (.ifCond .eq 60, 3) := dk_153 0 60 (dk_at dksX5_readOperand_5 17 rfl rfl)
theorem dX5_readOperand_135 : decode cX5_readOperand 135 = .ok (.aload_n 0, 1) := dk_42 (dk_at dksX5_readOperand_5 20 rfl rfl)
theorem dX5_readOperand_136 : decode cX5_readOperand 136 = .ok (.bipush 6, 2) := dk_16 6 (dk_at dksX5_readOperand_5 21 rfl rfl)
theorem dX5_readOperand_138 : decode cX5_readOperand 138 = .ok (.iconst 0, 1) := dk_3 (dk_at dksX5_readOperand_5 23 rfl rfl)
theorem dX5_readOperand_139 : decode cX5_readOperand 139 = .ok (.iload_n 2, 1) := dk_28 (dk_at dksX5_readOperand_6 0 rfl rfl)
theorem dX5_readOperand_140 : decode cX5_readOperand 140 = .ok (.invokevirtual 198, 3) := dk_182 0 198 (dk_at dksX5_readOperand_6 1 rfl rfl)
theorem dX5_readOperand_143 : decode cX5_readOperand 143 = .ok (.aload_n 0, 1) := dk_42 (dk_at dksX5_readOperand_6 4 rfl rfl)
theorem dX5_readOperand_144 : decode cX5_readOperand 144 = .ok (.dup, 1) := dk_89 (dk_at dksX5_readOperand_6 5 rfl rfl)
theorem dX5_readOperand_145 : decode cX5_readOperand 145 = .ok (.getfield 147, 3) := dk_180 0 147 (dk_at dksX5_readOperand_6 6 rfl rfl)
theorem dX5_readOperand_148 : decode cX5_readOperand 148 = .ok (.iconst 1, 1) := dk_4 (dk_at dksX5_readOperand_6 9 rfl rfl)
theorem dX5_readOperand_149 : decode cX5_readOperand 149 = .ok (.iadd, 1) := dk_96 (dk_at dksX5_readOperand_6 10 rfl rfl)
theorem dX5_readOperand_150 : decode cX5_readOperand 150 = .ok (.putfield 147, 3) := dk_181 0 147 (dk_at dksX5_readOperand_6 11 rfl rfl)
theorem dX5_readOperand_153 : decode cX5_readOperand 153 = .ok (.goto 39, 3) := dk_167 0 39 (dk_at dksX5_readOperand_6 14 rfl rfl)
theorem dX5_readOperand_156 : decode cX5_readOperand 156 = .ok (.iload_n 2, 1) := dk_28 (dk_at dksX5_readOperand_6 17 rfl rfl)
theorem dX5_readOperand_157 : decode cX5_readOperand 157 = .ok (.bipush 40, 2) := dk_16 40 (dk_at dksX5_readOperand_6 18 rfl rfl)
theorem dX5_readOperand_159 : decode cX5_readOperand 159 = .ok (.if_icmp .ne 12, 3) := dk_160 0 12 (dk_at dksX5_readOperand_6 20 rfl rfl)
theorem dX5_readOperand_162 : decode cX5_readOperand 162 = .ok (.aload_n 0, 1) := dk_42 (dk_at dksX5_readOperand_6 23 rfl rfl)
theorem dX5_readOperand_163 : decode cX5_readOperand 163 = .ok (.iconst 0, 1) := dk_3 (dk_at dksX5_readOperand_7 0 rfl rfl)
theorem dX5_readOperand_164 : decode cX5_readOperand 164 = .ok (.iconst 0, 1) := dk_3 (dk_at dksX5_readOperand_7 1 rfl rfl)
theorem dX5_readOperand_165 : decode cX5_readOperand 165 = .ok (.invokevirtual 215, 3) := dk_182 0 215 (dk_at dksX5_readOperand_7 2 rfl rfl)
theorem dX5_readOperand_168 : decode cX5_readOperand 168 = .ok (.goto 24, 3) := dk_167 0 24 (dk_at dksX5_readOperand_7 5 rfl rfl)
theorem dX5_readOperand_171 : decode cX5_readOperand 171 = .ok (.iload_n 2, 1) := dk_28 (dk_at dksX5_readOperand_7 8 rfl rfl)
theorem dX5_readOperand_172 : decode cX5_readOperand 172 = .ok (.invokestatic 134, 3) := dk_184 0 134 (dk_at dksX5_readOperand_7 9 rfl rfl)
theorem dX5_readOperand_175 : decode cX5_readOperand 175 = .ok (.ifCond .eq 8, 3) := dk_153 0 8 (dk_at dksX5_readOperand_7 12 rfl rfl)
theorem dX5_readOperand_178 : decode cX5_readOperand 178 = .ok (.aload_n 0, 1) := dk_42 (dk_at dksX5_readOperand_7 15 rfl rfl)
theorem dX5_readOperand_179 : decode cX5_readOperand 179 = .ok (.invokevirtual 232, 3) := dk_182 0 232 (dk_at dksX5_readOperand_7 16 rfl rfl)
theorem dX5_readOperand_182 : decode cX5_readOperand 182 = .ok (.ireturn, 1) := dk_172 (dk_at dksX5_readOperand_7 19 rfl rfl)
theorem dX5_readOperand_183 : decode cX5_readOperand 183 = .ok (.aload_n 0, 1) := dk_42 (dk_at dksX5_readOperand_7 20 rfl rfl)
theorem dX5_readOperand_184 : decode cX5_readOperand 184 = .ok (.iconst 1, 1) := dk_4 (dk_at dksX5_readOperand_7 21 rfl rfl)
theorem dX5_readOperand_185 : decode cX5_readOperand 185 = .ok (.aload_n 0, 1) := dk_42 (dk_at dksX5_readOperand_7 22 rfl rfl)
theorem dX5_readOperand_186 : decode cX5_readOperand 186 = .ok (.getfield 147, 3) := dk_180 0 147 (dk_at dksX5_readOperand_8 0 rfl rfl)
theorem dX5_readOperand_189 : decode cX5_readOperand 189 = .ok (.invokevirtual 157, 3) := dk_182 0 157 (dk_at dksX5_readOperand_8 3 rfl rfl)
theorem dX5_readOperand_192 : decode cX5_readOperand 192 = .ok (.iconst 0, 1) := dk_3 (dk_at dksX5_readOperand_8 6 rfl rfl)
theorem dX5_readOperand_193 : decode cX5_readOperand 193 = .ok (.ireturn, 1) := dk_172 (dk_at dksX5_readOperand_8 7 rfl rfl)
abbrev cX5_close : ByteArray := prog_12_method_27_code
def yX5_close : MethodName := ⟨RX5, "close", "()V"⟩
def dkwX5_close_7 : List UInt8 := [182, 0, 157, 177]
abbrev dktX5_close_7 : List UInt8 := dkwX5_close_7 ++ []
def dkwX5_close_6 : List UInt8 := [129, 182, 0, 167, 42, 89, 180, 0, 147, 4, 96, 181, 0, 147, 167, 0, 12, 42, 4, 42, 180, 0, 147]
abbrev dktX5_close_6 : List UInt8 := dkwX5_close_6 ++ dktX5_close_7
def dkwX5_close_5 : List UInt8 := [181, 0, 164, 42, 27, 182, 0, 192, 42, 16, 9, 42, 180, 0, 42, 42, 180, 0, 161, 47, 5, 121, 28, 133]
abbrev dktX5_close_5 : List UInt8 := dkwX5_close_5 ++ dktX5_close_6
def dkwX5_close_4 : List UInt8 := [167, 0, 14, 42, 180, 0, 39, 42, 180, 0, 161, 46, 4, 96, 61, 42, 42, 180, 0, 164, 28, 100]
abbrev dktX5_close_4 : List UInt8 := dkwX5_close_4 ++ dktX5_close_5
def dkwX5_close_3 : List UInt8 := [100, 181, 0, 195, 42, 180, 0, 36, 42, 180, 0, 161, 46, 60, 42, 180, 0, 144, 27, 160, 0, 7, 3]
abbrev dktX5_close_3 : List UInt8 := dkwX5_close_3 ++ dktX5_close_4
def dkwX5_close_2 : List UInt8 := [182, 0, 218, 16, 8, 160, 0, 105, 42, 89, 180, 0, 161, 4, 100, 181, 0, 161, 42, 89, 180, 0, 195, 4]
abbrev dktX5_close_2 : List UInt8 := dkwX5_close_2 ++ dktX5_close_3
def dkwX5_close_1 : List UInt8 := [180, 0, 195, 4, 100, 181, 0, 195, 42, 89, 180, 0, 147, 4, 96, 181, 0, 147, 167, 0, 123, 42]
abbrev dktX5_close_1 : List UInt8 := dkwX5_close_1 ++ dktX5_close_2
def dkwX5_close_0 : List UInt8 := [42, 182, 0, 235, 42, 182, 0, 218, 154, 0, 36, 42, 89, 180, 0, 161, 4, 100, 181, 0, 161, 42, 89]
abbrev dktX5_close_0 : List UInt8 := dkwX5_close_0 ++ dktX5_close_1
theorem dksX5_close_0 : cX5_close.data.toList.drop 0 = dktX5_close_0 := by decide +kernel
theorem dksX5_close_1 : cX5_close.data.toList.drop 23 = dktX5_close_1 := dk_seg dksX5_close_0 23 rfl rfl
theorem dksX5_close_2 : cX5_close.data.toList.drop 45 = dktX5_close_2 := dk_seg dksX5_close_1 22 rfl rfl
theorem dksX5_close_3 : cX5_close.data.toList.drop 69 = dktX5_close_3 := dk_seg dksX5_close_2 24 rfl rfl
theorem dksX5_close_4 : cX5_close.data.toList.drop 92 = dktX5_close_4 := dk_seg dksX5_close_3 23 rfl rfl
theorem dksX5_close_5 : cX5_close.data.toList.drop 114 = dktX5_close_5 := dk_seg dksX5_close_4 22 rfl rfl
theorem dksX5_close_6 : cX5_close.data.toList.drop 138 = dktX5_close_6 := dk_seg dksX5_close_5 24 rfl rfl
theorem dksX5_close_7 : cX5_close.data.toList.drop 161 = dktX5_close_7 := dk_seg dksX5_close_6 23 rfl rfl
theorem dX5_close_0 : decode cX5_close 0 = .ok (.aload_n 0, 1) := dk_42 (dk_at dksX5_close_0 0 rfl rfl)
theorem dX5_close_1 : decode cX5_close 1 = .ok (.invokevirtual 235, 3) := dk_182 0 235 (dk_at dksX5_close_0 1 rfl rfl)
theorem dX5_close_4 : decode cX5_close 4 = .ok (.aload_n 0, 1) := dk_42 (dk_at dksX5_close_0 4 rfl rfl)
theorem dX5_close_5 : decode cX5_close 5 = .ok (.invokevirtual 218, 3) := dk_182 0 218 (dk_at dksX5_close_0 5 rfl rfl)
theorem dX5_close_8 : decode cX5_close 8 = .ok (.ifCond .ne 36, 3) := dk_154 0 36 (dk_at dksX5_close_0 8 rfl rfl)
theorem dX5_close_11 : decode cX5_close 11 = .ok (.aload_n 0, 1) := dk_42 (dk_at dksX5_close_0 11 rfl rfl)
theorem dX5_close_12 : decode cX5_close 12 = .ok (.dup, 1) := dk_89 (dk_at dksX5_close_0 12 rfl rfl)
theorem dX5_close_13 : decode cX5_close 13 = .ok (.getfield 161, 3) := dk_180 0 161 (dk_at dksX5_close_0 13 rfl rfl)
theorem dX5_close_16 : decode cX5_close 16 = .ok (.iconst 1, 1) := dk_4 (dk_at dksX5_close_0 16 rfl rfl)
theorem dX5_close_17 : decode cX5_close 17 = .ok (.isub, 1) := dk_100 (dk_at dksX5_close_0 17 rfl rfl)
theorem dX5_close_18 : decode cX5_close 18 = .ok (.putfield 161, 3) := dk_181 0 161 (dk_at dksX5_close_0 18 rfl rfl)
theorem dX5_close_21 : decode cX5_close 21 = .ok (.aload_n 0, 1) := dk_42 (dk_at dksX5_close_0 21 rfl rfl)
theorem dX5_close_22 : decode cX5_close 22 = .ok (.dup, 1) := dk_89 (dk_at dksX5_close_0 22 rfl rfl)
theorem dX5_close_23 : decode cX5_close 23 = .ok (.getfield 195, 3) := dk_180 0 195 (dk_at dksX5_close_1 0 rfl rfl)
theorem dX5_close_26 : decode cX5_close 26 = .ok (.iconst 1, 1) := dk_4 (dk_at dksX5_close_1 3 rfl rfl)
theorem dX5_close_27 : decode cX5_close 27 = .ok (.isub, 1) := dk_100 (dk_at dksX5_close_1 4 rfl rfl)
theorem dX5_close_28 : decode cX5_close 28 = .ok (.putfield 195, 3) := dk_181 0 195 (dk_at dksX5_close_1 5 rfl rfl)
theorem dX5_close_31 : decode cX5_close 31 = .ok (.aload_n 0, 1) := dk_42 (dk_at dksX5_close_1 8 rfl rfl)
theorem dX5_close_32 : decode cX5_close 32 = .ok (.dup, 1) := dk_89 (dk_at dksX5_close_1 9 rfl rfl)
theorem dX5_close_33 : decode cX5_close 33 = .ok (.getfield 147, 3) := dk_180 0 147 (dk_at dksX5_close_1 10 rfl rfl)
theorem dX5_close_36 : decode cX5_close 36 = .ok (.iconst 1, 1) := dk_4 (dk_at dksX5_close_1 13 rfl rfl)
theorem dX5_close_37 : decode cX5_close 37 = .ok (.iadd, 1) := dk_96 (dk_at dksX5_close_1 14 rfl rfl)
theorem dX5_close_38 : decode cX5_close 38 = .ok (.putfield 147, 3) := dk_181 0 147 (dk_at dksX5_close_1 15 rfl rfl)
theorem dX5_close_41 : decode cX5_close 41 = .ok (.goto 123, 3) := dk_167 0 123 (dk_at dksX5_close_1 18 rfl rfl)
theorem dX5_close_44 : decode cX5_close 44 = .ok (.aload_n 0, 1) := dk_42 (dk_at dksX5_close_1 21 rfl rfl)
theorem dX5_close_45 : decode cX5_close 45 = .ok (.invokevirtual 218, 3) := dk_182 0 218 (dk_at dksX5_close_2 0 rfl rfl)
theorem dX5_close_48 : decode cX5_close 48 = .ok (.bipush 8, 2) := dk_16 8 (dk_at dksX5_close_2 3 rfl rfl)
theorem dX5_close_50 : decode cX5_close 50 = .ok (.if_icmp .ne 105, 3) := dk_160 0 105 (dk_at dksX5_close_2 5 rfl rfl)
theorem dX5_close_53 : decode cX5_close 53 = .ok (.aload_n 0, 1) := dk_42 (dk_at dksX5_close_2 8 rfl rfl)
theorem dX5_close_54 : decode cX5_close 54 = .ok (.dup, 1) := dk_89 (dk_at dksX5_close_2 9 rfl rfl)
theorem dX5_close_55 : decode cX5_close 55 = .ok (.getfield 161, 3) := dk_180 0 161 (dk_at dksX5_close_2 10 rfl rfl)
theorem dX5_close_58 : decode cX5_close 58 = .ok (.iconst 1, 1) := dk_4 (dk_at dksX5_close_2 13 rfl rfl)
theorem dX5_close_59 : decode cX5_close 59 = .ok (.isub, 1) := dk_100 (dk_at dksX5_close_2 14 rfl rfl)
theorem dX5_close_60 : decode cX5_close 60 = .ok (.putfield 161, 3) := dk_181 0 161 (dk_at dksX5_close_2 15 rfl rfl)
theorem dX5_close_63 : decode cX5_close 63 = .ok (.aload_n 0, 1) := dk_42 (dk_at dksX5_close_2 18 rfl rfl)
theorem dX5_close_64 : decode cX5_close 64 = .ok (.dup, 1) := dk_89 (dk_at dksX5_close_2 19 rfl rfl)
theorem dX5_close_65 : decode cX5_close 65 = .ok (.getfield 195, 3) := dk_180 0 195 (dk_at dksX5_close_2 20 rfl rfl)
theorem dX5_close_68 : decode cX5_close 68 = .ok (.iconst 1, 1) := dk_4 (dk_at dksX5_close_2 23 rfl rfl)
theorem dX5_close_69 : decode cX5_close 69 = .ok (.isub, 1) := dk_100 (dk_at dksX5_close_3 0 rfl rfl)
theorem dX5_close_70 : decode cX5_close 70 = .ok (.putfield 195, 3) := dk_181 0 195 (dk_at dksX5_close_3 1 rfl rfl)
theorem dX5_close_73 : decode cX5_close 73 = .ok (.aload_n 0, 1) := dk_42 (dk_at dksX5_close_3 4 rfl rfl)
theorem dX5_close_74 : decode cX5_close 74 = .ok (.getfield 36, 3) := dk_180 0 36 (dk_at dksX5_close_3 5 rfl rfl)
theorem dX5_close_77 : decode cX5_close 77 = .ok (.aload_n 0, 1) := dk_42 (dk_at dksX5_close_3 8 rfl rfl)
theorem dX5_close_78 : decode cX5_close 78 = .ok (.getfield 161, 3) := dk_180 0 161 (dk_at dksX5_close_3 9 rfl rfl)
theorem dX5_close_81 : decode cX5_close 81 = .ok (.iaload, 1) := dk_46 (dk_at dksX5_close_3 12 rfl rfl)
theorem dX5_close_82 : decode cX5_close 82 = .ok (.istore_n 1, 1) := dk_60 (dk_at dksX5_close_3 13 rfl rfl)
theorem dX5_close_83 : decode cX5_close 83 = .ok (.aload_n 0, 1) := dk_42 (dk_at dksX5_close_3 14 rfl rfl)
theorem dX5_close_84 : decode cX5_close 84 = .ok (.getfield 144, 3) := dk_180 0 144 (dk_at dksX5_close_3 15 rfl rfl)
theorem dX5_close_87 : decode cX5_close 87 = .ok (.iload_n 1, 1) := dk_27 (dk_at dksX5_close_3 18 rfl rfl)
theorem dX5_close_88 : decode cX5_close 88 = .ok (.if_icmp .ne 7, 3) := dk_160 0 7 (dk_at dksX5_close_3 19 rfl rfl)
theorem dX5_close_91 : decode cX5_close 91 = .ok (.iconst 0, 1) := dk_3 (dk_at dksX5_close_3 22 rfl rfl)
theorem dX5_close_92 : decode cX5_close 92 = .ok (.goto 14, 3) := dk_167 0 14 (dk_at dksX5_close_4 0 rfl rfl)
theorem dX5_close_95 : decode cX5_close 95 = .ok (.aload_n 0, 1) := dk_42 (dk_at dksX5_close_4 3 rfl rfl)
theorem dX5_close_96 : decode cX5_close 96 = .ok (.getfield 39, 3) := dk_180 0 39 (dk_at dksX5_close_4 4 rfl rfl)
theorem dX5_close_99 : decode cX5_close 99 = .ok (.aload_n 0, 1) := dk_42 (dk_at dksX5_close_4 7 rfl rfl)
theorem dX5_close_100 : decode cX5_close 100 = .ok (.getfield 161, 3) := dk_180 0 161 (dk_at dksX5_close_4 8 rfl rfl)
theorem dX5_close_103 : decode cX5_close 103 = .ok (.iaload, 1) := dk_46 (dk_at dksX5_close_4 11 rfl rfl)
theorem dX5_close_104 : decode cX5_close 104 = .ok (.iconst 1, 1) := dk_4 (dk_at dksX5_close_4 12 rfl rfl)
theorem dX5_close_105 : decode cX5_close 105 = .ok (.iadd, 1) := dk_96 (dk_at dksX5_close_4 13 rfl rfl)
theorem dX5_close_106 : decode cX5_close 106 = .ok (.istore_n 2, 1) := dk_61 (dk_at dksX5_close_4 14 rfl rfl)
theorem dX5_close_107 : decode cX5_close 107 = .ok (.aload_n 0, 1) := dk_42 (dk_at dksX5_close_4 15 rfl rfl)
theorem dX5_close_108 : decode cX5_close 108 = .ok (.aload_n 0, 1) := dk_42 (dk_at dksX5_close_4 16 rfl rfl)
theorem dX5_close_109 : decode cX5_close 109 = .ok (.getfield 164, 3) := dk_180 0 164 (dk_at dksX5_close_4 17 rfl rfl)
theorem dX5_close_112 : decode cX5_close 112 = .ok (.iload_n 2, 1) := dk_28 (dk_at dksX5_close_4 20 rfl rfl)
theorem dX5_close_113 : decode cX5_close 113 = .ok (.isub, 1) := dk_100 (dk_at dksX5_close_4 21 rfl rfl)
theorem dX5_close_114 : decode cX5_close 114 = .ok (.putfield 164, 3) := dk_181 0 164 (dk_at dksX5_close_5 0 rfl rfl)
theorem dX5_close_117 : decode cX5_close 117 = .ok (.aload_n 0, 1) := dk_42 (dk_at dksX5_close_5 3 rfl rfl)
theorem dX5_close_118 : decode cX5_close 118 = .ok (.iload_n 1, 1) := dk_27 (dk_at dksX5_close_5 4 rfl rfl)
theorem dX5_close_119 : decode cX5_close 119 = .ok (.invokevirtual 192, 3) := dk_182 0 192 (dk_at dksX5_close_5 5 rfl rfl)
theorem dX5_close_122 : decode cX5_close 122 = .ok (.aload_n 0, 1) := dk_42 (dk_at dksX5_close_5 8 rfl rfl)
theorem dX5_close_123 : decode cX5_close 123 = .ok (.bipush 9, 2) := dk_16 9 (dk_at dksX5_close_5 9 rfl rfl)
theorem dX5_close_125 : decode cX5_close 125 = .ok (.aload_n 0, 1) := dk_42 (dk_at dksX5_close_5 11 rfl rfl)
theorem dX5_close_126 : decode cX5_close 126 = .ok (.getfield 42, 3) := dk_180 0 42 (dk_at dksX5_close_5 12 rfl rfl)
theorem dX5_close_129 : decode cX5_close 129 = .ok (.aload_n 0, 1) := dk_42 (dk_at dksX5_close_5 15 rfl rfl)
theorem dX5_close_130 : decode cX5_close 130 = .ok (.getfield 161, 3) := dk_180 0 161 (dk_at dksX5_close_5 16 rfl rfl)
theorem dX5_close_133 : decode cX5_close 133 = .ok (.laload, 1) := dk_47 (dk_at dksX5_close_5 19 rfl rfl)
theorem dX5_close_134 : decode cX5_close 134 = .ok (.iconst 2, 1) := dk_5 (dk_at dksX5_close_5 20 rfl rfl)
theorem dX5_close_135 : decode cX5_close 135 = .ok (.lshl, 1) := dk_121 (dk_at dksX5_close_5 21 rfl rfl)
theorem dX5_close_136 : decode cX5_close 136 = .ok (.iload_n 2, 1) := dk_28 (dk_at dksX5_close_5 22 rfl rfl)
theorem dX5_close_137 : decode cX5_close 137 = .ok (.i2l, 1) := dk_133 (dk_at dksX5_close_5 23 rfl rfl)
theorem dX5_close_138 : decode cX5_close 138 = .ok (.lor, 1) := dk_129 (dk_at dksX5_close_6 0 rfl rfl)
theorem dX5_close_139 : decode cX5_close 139 = .ok (.invokevirtual 167, 3) := dk_182 0 167 (dk_at dksX5_close_6 1 rfl rfl)
theorem dX5_close_142 : decode cX5_close 142 = .ok (.aload_n 0, 1) := dk_42 (dk_at dksX5_close_6 4 rfl rfl)
theorem dX5_close_143 : decode cX5_close 143 = .ok (.dup, 1) := dk_89 (dk_at dksX5_close_6 5 rfl rfl)
theorem dX5_close_144 : decode cX5_close 144 = .ok (.getfield 147, 3) := dk_180 0 147 (dk_at dksX5_close_6 6 rfl rfl)
theorem dX5_close_147 : decode cX5_close 147 = .ok (.iconst 1, 1) := dk_4 (dk_at dksX5_close_6 9 rfl rfl)
theorem dX5_close_148 : decode cX5_close 148 = .ok (.iadd, 1) := dk_96 (dk_at dksX5_close_6 10 rfl rfl)
theorem dX5_close_149 : decode cX5_close 149 = .ok (.putfield 147, 3) := dk_181 0 147 (dk_at dksX5_close_6 11 rfl rfl)
theorem dX5_close_152 : decode cX5_close 152 = .ok (.goto 12, 3) := dk_167 0 12 (dk_at dksX5_close_6 14 rfl rfl)
theorem dX5_close_155 : decode cX5_close 155 = .ok (.aload_n 0, 1) := dk_42 (dk_at dksX5_close_6 17 rfl rfl)
theorem dX5_close_156 : decode cX5_close 156 = .ok (.iconst 1, 1) := dk_4 (dk_at dksX5_close_6 18 rfl rfl)
theorem dX5_close_157 : decode cX5_close 157 = .ok (.aload_n 0, 1) := dk_42 (dk_at dksX5_close_6 19 rfl rfl)
theorem dX5_close_158 : decode cX5_close 158 = .ok (.getfield 147, 3) := dk_180 0 147 (dk_at dksX5_close_6 20 rfl rfl)
theorem dX5_close_161 : decode cX5_close 161 = .ok (.invokevirtual 157, 3) := dk_182 0 157 (dk_at dksX5_close_7 0 rfl rfl)
theorem dX5_close_164 : decode cX5_close 164 = .ok (.return_, 1) := dk_177 (dk_at dksX5_close_7 3 rfl rfl)
abbrev cX5_reduceAll : ByteArray := prog_12_method_20_code
def yX5_reduceAll : MethodName := ⟨RX5, "reduceAll", "()V"⟩
def dkwX5_reduceAll_0 : List UInt8 := [42, 4, 182, 0, 174, 177]
abbrev dktX5_reduceAll_0 : List UInt8 := dkwX5_reduceAll_0 ++ []
theorem dksX5_reduceAll_0 : cX5_reduceAll.data.toList.drop 0 = dktX5_reduceAll_0 := by decide +kernel
theorem dX5_reduceAll_0 : decode cX5_reduceAll 0 = .ok (.aload_n 0, 1) := dk_42 (dk_at dksX5_reduceAll_0 0 rfl rfl)
theorem dX5_reduceAll_1 : decode cX5_reduceAll 1 = .ok (.iconst 1, 1) := dk_4 (dk_at dksX5_reduceAll_0 1 rfl rfl)
theorem dX5_reduceAll_2 : decode cX5_reduceAll 2 = .ok (.invokevirtual 174, 3) := dk_182 0 174 (dk_at dksX5_reduceAll_0 2 rfl rfl)
theorem dX5_reduceAll_5 : decode cX5_reduceAll 5 = .ok (.return_, 1) := dk_177 (dk_at dksX5_reduceAll_0 5 rfl rfl)
abbrev cX5_reduceTo : ByteArray := prog_12_method_19_code
def yX5_reduceTo : MethodName := ⟨RX5, "reduceTo", "(I)V"⟩
def dkwX5_reduceTo_1 : List UInt8 := [180, 0, 33, 42, 180, 0, 161, 4, 100, 46, 16, 6, 163, 0, 10, 42, 182, 0, 171, 167, 255, 214, 177]
abbrev dktX5_reduceTo_1 : List UInt8 := dkwX5_reduceTo_1 ++ []
def dkwX5_reduceTo_0 : List UInt8 := [42, 180, 0, 161, 158, 0, 41, 42, 180, 0, 33, 42, 180, 0, 161, 4, 100, 46, 27, 161, 0, 26, 42]
abbrev dktX5_reduceTo_0 : List UInt8 := dkwX5_reduceTo_0 ++ dktX5_reduceTo_1
theorem dksX5_reduceTo_0 : cX5_reduceTo.data.toList.drop 0 = dktX5_reduceTo_0 := by decide +kernel
theorem dksX5_reduceTo_1 : cX5_reduceTo.data.toList.drop 23 = dktX5_reduceTo_1 := dk_seg dksX5_reduceTo_0 23 rfl rfl
theorem dX5_reduceTo_0 : decode cX5_reduceTo 0 = .ok (.aload_n 0, 1) := dk_42 (dk_at dksX5_reduceTo_0 0 rfl rfl)
theorem dX5_reduceTo_1 : decode cX5_reduceTo 1 = .ok (.getfield 161, 3) := dk_180 0 161 (dk_at dksX5_reduceTo_0 1 rfl rfl)
theorem dX5_reduceTo_4 : decode cX5_reduceTo 4 = .ok (.ifCond .le 41, 3) := dk_158 0 41 (dk_at dksX5_reduceTo_0 4 rfl rfl)
theorem dX5_reduceTo_7 : decode cX5_reduceTo 7 = .ok (.aload_n 0, 1) := dk_42 (dk_at dksX5_reduceTo_0 7 rfl rfl)
theorem dX5_reduceTo_8 : decode cX5_reduceTo 8 = .ok (.getfield 33, 3) := dk_180 0 33 (dk_at dksX5_reduceTo_0 8 rfl rfl)
theorem dX5_reduceTo_11 : decode cX5_reduceTo 11 = .ok (.aload_n 0, 1) := dk_42 (dk_at dksX5_reduceTo_0 11 rfl rfl)
theorem dX5_reduceTo_12 : decode cX5_reduceTo 12 = .ok (.getfield 161, 3) := dk_180 0 161 (dk_at dksX5_reduceTo_0 12 rfl rfl)
theorem dX5_reduceTo_15 : decode cX5_reduceTo 15 = .ok (.iconst 1, 1) := dk_4 (dk_at dksX5_reduceTo_0 15 rfl rfl)
theorem dX5_reduceTo_16 : decode cX5_reduceTo 16 = .ok (.isub, 1) := dk_100 (dk_at dksX5_reduceTo_0 16 rfl rfl)
theorem dX5_reduceTo_17 : decode cX5_reduceTo 17 = .ok (.iaload, 1) := dk_46 (dk_at dksX5_reduceTo_0 17 rfl rfl)
theorem dX5_reduceTo_18 : decode cX5_reduceTo 18 = .ok (.iload_n 1, 1) := dk_27 (dk_at dksX5_reduceTo_0 18 rfl rfl)
theorem dX5_reduceTo_19 : decode cX5_reduceTo 19 = .ok (.if_icmp .lt 26, 3) := dk_161 0 26 (dk_at dksX5_reduceTo_0 19 rfl rfl)
theorem dX5_reduceTo_22 : decode cX5_reduceTo 22 = .ok (.aload_n 0, 1) := dk_42 (dk_at dksX5_reduceTo_0 22 rfl rfl)
theorem dX5_reduceTo_23 : decode cX5_reduceTo 23 = .ok (.getfield 33, 3) := dk_180 0 33 (dk_at dksX5_reduceTo_1 0 rfl rfl)
theorem dX5_reduceTo_26 : decode cX5_reduceTo 26 = .ok (.aload_n 0, 1) := dk_42 (dk_at dksX5_reduceTo_1 3 rfl rfl)
theorem dX5_reduceTo_27 : decode cX5_reduceTo 27 = .ok (.getfield 161, 3) := dk_180 0 161 (dk_at dksX5_reduceTo_1 4 rfl rfl)
theorem dX5_reduceTo_30 : decode cX5_reduceTo 30 = .ok (.iconst 1, 1) := dk_4 (dk_at dksX5_reduceTo_1 7 rfl rfl)
theorem dX5_reduceTo_31 : decode cX5_reduceTo 31 = .ok (.isub, 1) := dk_100 (dk_at dksX5_reduceTo_1 8 rfl rfl)
theorem dX5_reduceTo_32 : decode cX5_reduceTo 32 = .ok (.iaload, 1) := dk_46 (dk_at dksX5_reduceTo_1 9 rfl rfl)
theorem dX5_reduceTo_33 : decode cX5_reduceTo 33 = .ok (.bipush 6, 2) := dk_16 6 (dk_at dksX5_reduceTo_1 10 rfl rfl)
theorem dX5_reduceTo_35 : decode cX5_reduceTo 35 = .ok (.if_icmp .gt 10, 3) := dk_163 0 10 (dk_at dksX5_reduceTo_1 12 rfl rfl)
theorem dX5_reduceTo_38 : decode cX5_reduceTo 38 = .ok (.aload_n 0, 1) := dk_42 (dk_at dksX5_reduceTo_1 15 rfl rfl)
theorem dX5_reduceTo_39 : decode cX5_reduceTo 39 = .ok (.invokevirtual 171, 3) := dk_182 0 171 (dk_at dksX5_reduceTo_1 16 rfl rfl)
theorem dX5_reduceTo_42 : decode cX5_reduceTo 42 = .ok (.goto (-42), 3) := dk_167 255 214 (dk_at dksX5_reduceTo_1 19 rfl rfl)
theorem dX5_reduceTo_45 : decode cX5_reduceTo 45 = .ok (.return_, 1) := dk_177 (dk_at dksX5_reduceTo_1 22 rfl rfl)
abbrev cX5_reduce : ByteArray := prog_12_method_18_code
def yX5_reduce : MethodName := ⟨RX5, "reduce", "()V"⟩
def dkwX5_reduce_7 : List UInt8 := [177]
abbrev dktX5_reduce_7 : List UInt8 := dkwX5_reduce_7 ++ []
def dkwX5_reduce_6 : List UInt8 := [9, 182, 0, 167, 167, 0, 20, 42, 5, 29, 133, 182, 0, 167, 42, 89, 180, 0, 164, 4, 100, 181, 0, 164]
abbrev dktX5_reduce_6 : List UInt8 := dkwX5_reduce_6 ++ dktX5_reduce_7
def dkwX5_reduce_5 : List UInt8 := [100, 29, 79, 167, 0, 45, 27, 16, 6, 160, 0, 22, 42, 29, 16, 45, 160, 0, 7, 6, 167, 0, 4, 7]
abbrev dktX5_reduce_5 : List UInt8 := dkwX5_reduce_5 ++ dktX5_reduce_6
def dkwX5_reduce_4 : List UInt8 := [184, 0, 141, 28, 96, 42, 180, 0, 144, 28, 100, 4, 100, 133, 80, 42, 180, 0, 45, 42, 180, 0, 164, 4]
abbrev dktX5_reduce_4 : List UInt8 := dkwX5_reduce_4 ++ dktX5_reduce_5
def dkwX5_reduce_3 : List UInt8 := [180, 0, 164, 4, 100, 181, 0, 164, 167, 0, 86, 27, 5, 160, 0, 39, 42, 180, 0, 20, 16, 32]
abbrev dktX5_reduce_3 : List UInt8 := dkwX5_reduce_3 ++ dktX5_reduce_4
def dkwX5_reduce_2 : List UInt8 := [180, 0, 20, 16, 32, 184, 0, 141, 28, 96, 42, 180, 0, 144, 28, 100, 4, 100, 133, 80, 42, 89]
abbrev dktX5_reduce_2 : List UInt8 := dkwX5_reduce_2 ++ dktX5_reduce_3
def dkwX5_reduce_1 : List UInt8 := [42, 180, 0, 161, 46, 61, 42, 180, 0, 39, 42, 180, 0, 161, 46, 62, 27, 4, 160, 0, 37, 42]
abbrev dktX5_reduce_1 : List UInt8 := dkwX5_reduce_1 ++ dktX5_reduce_2
def dkwX5_reduce_0 : List UInt8 := [42, 89, 180, 0, 161, 4, 100, 181, 0, 161, 42, 180, 0, 33, 42, 180, 0, 161, 46, 60, 42, 180, 0, 36]
abbrev dktX5_reduce_0 : List UInt8 := dkwX5_reduce_0 ++ dktX5_reduce_1
theorem dksX5_reduce_0 : cX5_reduce.data.toList.drop 0 = dktX5_reduce_0 := by decide +kernel
theorem dksX5_reduce_1 : cX5_reduce.data.toList.drop 24 = dktX5_reduce_1 := dk_seg dksX5_reduce_0 24 rfl rfl
theorem dksX5_reduce_2 : cX5_reduce.data.toList.drop 46 = dktX5_reduce_2 := dk_seg dksX5_reduce_1 22 rfl rfl
theorem dksX5_reduce_3 : cX5_reduce.data.toList.drop 68 = dktX5_reduce_3 := dk_seg dksX5_reduce_2 22 rfl rfl
theorem dksX5_reduce_4 : cX5_reduce.data.toList.drop 90 = dktX5_reduce_4 := dk_seg dksX5_reduce_3 22 rfl rfl
theorem dksX5_reduce_5 : cX5_reduce.data.toList.drop 114 = dktX5_reduce_5 := dk_seg dksX5_reduce_4 24 rfl rfl
theorem dksX5_reduce_6 : cX5_reduce.data.toList.drop 138 = dktX5_reduce_6 := dk_seg dksX5_reduce_5 24 rfl rfl
theorem dksX5_reduce_7 : cX5_reduce.data.toList.drop 162 = dktX5_reduce_7 := dk_seg dksX5_reduce_6 24 rfl rfl
theorem dX5_reduce_0 : decode cX5_reduce 0 = .ok (.aload_n 0, 1) := dk_42 (dk_at dksX5_reduce_0 0 rfl rfl)
theorem dX5_reduce_1 : decode cX5_reduce 1 = .ok (.dup, 1) := dk_89 (dk_at dksX5_reduce_0 1 rfl rfl)
theorem dX5_reduce_2 : decode cX5_reduce 2 = .ok (.getfield 161, 3) := dk_180 0 161 (dk_at dksX5_reduce_0 2 rfl rfl)
theorem dX5_reduce_5 : decode cX5_reduce 5 = .ok (.iconst 1, 1) := dk_4 (dk_at dksX5_reduce_0 5 rfl rfl)
theorem dX5_reduce_6 : decode cX5_reduce 6 = .ok (.isub, 1) := dk_100 (dk_at dksX5_reduce_0 6 rfl rfl)
theorem dX5_reduce_7 : decode cX5_reduce 7 = .ok (.putfield 161, 3) := dk_181 0 161 (dk_at dksX5_reduce_0 7 rfl rfl)
theorem dX5_reduce_10 : decode cX5_reduce 10 = .ok (.aload_n 0, 1) := dk_42 (dk_at dksX5_reduce_0 10 rfl rfl)
theorem dX5_reduce_11 : decode cX5_reduce 11 = .ok (.getfield 33, 3) := dk_180 0 33 (dk_at dksX5_reduce_0 11 rfl rfl)
theorem dX5_reduce_14 : decode cX5_reduce 14 = .ok (.aload_n 0, 1) := dk_42 (dk_at dksX5_reduce_0 14 rfl rfl)
theorem dX5_reduce_15 : decode cX5_reduce 15 = .ok (.getfield 161, 3) := dk_180 0 161 (dk_at dksX5_reduce_0 15 rfl rfl)
theorem dX5_reduce_18 : decode cX5_reduce 18 = .ok (.iaload, 1) := dk_46 (dk_at dksX5_reduce_0 18 rfl rfl)
theorem dX5_reduce_19 : decode cX5_reduce 19 = .ok (.istore_n 1, 1) := dk_60 (dk_at dksX5_reduce_0 19 rfl rfl)
theorem dX5_reduce_20 : decode cX5_reduce 20 = .ok (.aload_n 0, 1) := dk_42 (dk_at dksX5_reduce_0 20 rfl rfl)
theorem dX5_reduce_21 : decode cX5_reduce 21 = .ok (.getfield 36, 3) := dk_180 0 36 (dk_at dksX5_reduce_0 21 rfl rfl)
theorem dX5_reduce_24 : decode cX5_reduce 24 = .ok (.aload_n 0, 1) := dk_42 (dk_at dksX5_reduce_1 0 rfl rfl)
theorem dX5_reduce_25 : decode cX5_reduce 25 = .ok (.getfield 161, 3) := dk_180 0 161 (dk_at dksX5_reduce_1 1 rfl rfl)
theorem dX5_reduce_28 : decode cX5_reduce 28 = .ok (.iaload, 1) := dk_46 (dk_at dksX5_reduce_1 4 rfl rfl)
theorem dX5_reduce_29 : decode cX5_reduce 29 = .ok (.istore_n 2, 1) := dk_61 (dk_at dksX5_reduce_1 5 rfl rfl)
theorem dX5_reduce_30 : decode cX5_reduce 30 = .ok (.aload_n 0, 1) := dk_42 (dk_at dksX5_reduce_1 6 rfl rfl)
theorem dX5_reduce_31 : decode cX5_reduce 31 = .ok (.getfield 39, 3) := dk_180 0 39 (dk_at dksX5_reduce_1 7 rfl rfl)
theorem dX5_reduce_34 : decode cX5_reduce 34 = .ok (.aload_n 0, 1) := dk_42 (dk_at dksX5_reduce_1 10 rfl rfl)
theorem dX5_reduce_35 : decode cX5_reduce 35 = .ok (.getfield 161, 3) := dk_180 0 161 (dk_at dksX5_reduce_1 11 rfl rfl)
theorem dX5_reduce_38 : decode cX5_reduce 38 = .ok (.iaload, 1) := dk_46 (dk_at dksX5_reduce_1 14 rfl rfl)
theorem dX5_reduce_39 : decode cX5_reduce 39 = .ok (.istore_n 3, 1) := dk_62 (dk_at dksX5_reduce_1 15 rfl rfl)
theorem dX5_reduce_40 : decode cX5_reduce 40 = .ok (.iload_n 1, 1) := dk_27 (dk_at dksX5_reduce_1 16 rfl rfl)
theorem dX5_reduce_41 : decode cX5_reduce 41 = .ok (.iconst 1, 1) := dk_4 (dk_at dksX5_reduce_1 17 rfl rfl)
theorem dX5_reduce_42 : decode cX5_reduce 42 = .ok (.if_icmp .ne 37, 3) := dk_160 0 37 (dk_at dksX5_reduce_1 18 rfl rfl)
theorem dX5_reduce_45 : decode cX5_reduce 45 = .ok (.aload_n 0, 1) := dk_42 (dk_at dksX5_reduce_1 21 rfl rfl)
theorem dX5_reduce_46 : decode cX5_reduce 46 = .ok (.getfield 20, 3) := dk_180 0 20 (dk_at dksX5_reduce_2 0 rfl rfl)
theorem dX5_reduce_49 : decode cX5_reduce 49 = .ok (.bipush 32, 2) := dk_16 32 (dk_at dksX5_reduce_2 3 rfl rfl)
theorem dX5_reduce_51 : decode cX5_reduce 51 = .ok (.invokestatic 141, 3) := dk_184 0 141 (dk_at dksX5_reduce_2 5 rfl rfl)
theorem dX5_reduce_54 : decode cX5_reduce 54 = .ok (.iload_n 2, 1) := dk_28 (dk_at dksX5_reduce_2 8 rfl rfl)
theorem dX5_reduce_55 : decode cX5_reduce 55 = .ok (.iadd, 1) := dk_96 (dk_at dksX5_reduce_2 9 rfl rfl)
theorem dX5_reduce_56 : decode cX5_reduce 56 = .ok (.aload_n 0, 1) := dk_42 (dk_at dksX5_reduce_2 10 rfl rfl)
theorem dX5_reduce_57 : decode cX5_reduce 57 = .ok (.getfield 144, 3) := dk_180 0 144 (dk_at dksX5_reduce_2 11 rfl rfl)
theorem dX5_reduce_60 : decode cX5_reduce 60 = .ok (.iload_n 2, 1) := dk_28 (dk_at dksX5_reduce_2 14 rfl rfl)
theorem dX5_reduce_61 : decode cX5_reduce 61 = .ok (.isub, 1) := dk_100 (dk_at dksX5_reduce_2 15 rfl rfl)
theorem dX5_reduce_62 : decode cX5_reduce 62 = .ok (.iconst 1, 1) := dk_4 (dk_at dksX5_reduce_2 16 rfl rfl)
theorem dX5_reduce_63 : decode cX5_reduce 63 = .ok (.isub, 1) := dk_100 (dk_at dksX5_reduce_2 17 rfl rfl)
theorem dX5_reduce_64 : decode cX5_reduce 64 = .ok (.i2l, 1) := dk_133 (dk_at dksX5_reduce_2 18 rfl rfl)
theorem dX5_reduce_65 : decode cX5_reduce 65 = .ok (.lastore, 1) := dk_80 (dk_at dksX5_reduce_2 19 rfl rfl)
theorem dX5_reduce_66 : decode cX5_reduce 66 = .ok (.aload_n 0, 1) := dk_42 (dk_at dksX5_reduce_2 20 rfl rfl)
theorem dX5_reduce_67 : decode cX5_reduce 67 = .ok (.dup, 1) := dk_89 (dk_at dksX5_reduce_2 21 rfl rfl)
theorem dX5_reduce_68 : decode cX5_reduce 68 = .ok (.getfield 164, 3) := dk_180 0 164 (dk_at dksX5_reduce_3 0 rfl rfl)
theorem dX5_reduce_71 : decode cX5_reduce 71 = .ok (.iconst 1, 1) := dk_4 (dk_at dksX5_reduce_3 3 rfl rfl)
theorem dX5_reduce_72 : decode cX5_reduce 72 = .ok (.isub, 1) := dk_100 (dk_at dksX5_reduce_3 4 rfl rfl)
theorem dX5_reduce_73 : decode cX5_reduce 73 = .ok (.putfield 164, 3) := dk_181 0 164 (dk_at dksX5_reduce_3 5 rfl rfl)
theorem dX5_reduce_76 : decode cX5_reduce 76 = .ok (.goto 86, 3) := dk_167 0 86 (dk_at dksX5_reduce_3 8 rfl rfl)
theorem dX5_reduce_79 : decode cX5_reduce 79 = .ok (.iload_n 1, 1) := dk_27 (dk_at dksX5_reduce_3 11 rfl rfl)
theorem dX5_reduce_80 : decode cX5_reduce 80 = .ok (.iconst 2, 1) := dk_5 (dk_at dksX5_reduce_3 12 rfl rfl)
theorem dX5_reduce_81 : decode cX5_reduce 81 = .ok (.if_icmp .ne 39, 3) := dk_160 0 39 (dk_at dksX5_reduce_3 13 rfl rfl)
theorem dX5_reduce_84 : decode cX5_reduce 84 = .ok (.aload_n 0, 1) := dk_42 (dk_at dksX5_reduce_3 16 rfl rfl)
theorem dX5_reduce_85 : decode cX5_reduce 85 = .ok (.getfield 20, 3) := dk_180 0 20 (dk_at dksX5_reduce_3 17 rfl rfl)
theorem dX5_reduce_88 : decode cX5_reduce 88 = .ok (.bipush 32, 2) := dk_16 32 (dk_at dksX5_reduce_3 20 rfl rfl)
theorem dX5_reduce_90 : decode cX5_reduce 90 = .ok (.invokestatic 141, 3) := dk_184 0 141 (dk_at dksX5_reduce_4 0 rfl rfl)
theorem dX5_reduce_93 : decode cX5_reduce 93 = .ok (.iload_n 2, 1) := dk_28 (dk_at dksX5_reduce_4 3 rfl rfl)
theorem dX5_reduce_94 : decode cX5_reduce 94 = .ok (.iadd, 1) := dk_96 (dk_at dksX5_reduce_4 4 rfl rfl)
theorem dX5_reduce_95 : decode cX5_reduce 95 = .ok (.aload_n 0, 1) := dk_42 (dk_at dksX5_reduce_4 5 rfl rfl)
theorem dX5_reduce_96 : decode cX5_reduce 96 = .ok (.getfield 144, 3) := dk_180 0 144 (dk_at dksX5_reduce_4 6 rfl rfl)
theorem dX5_reduce_99 : decode cX5_reduce 99 = .ok (.iload_n 2, 1) := dk_28 (dk_at dksX5_reduce_4 9 rfl rfl)
theorem dX5_reduce_100 : decode cX5_reduce 100 = .ok (.isub, 1) := dk_100 (dk_at dksX5_reduce_4 10 rfl rfl)
theorem dX5_reduce_101 : decode cX5_reduce 101 = .ok (.iconst 1, 1) := dk_4 (dk_at dksX5_reduce_4 11 rfl rfl)
theorem dX5_reduce_102 : decode cX5_reduce 102 = .ok (.isub, 1) := dk_100 (dk_at dksX5_reduce_4 12 rfl rfl)
theorem dX5_reduce_103 : decode cX5_reduce 103 = .ok (.i2l, 1) := dk_133 (dk_at dksX5_reduce_4 13 rfl rfl)
theorem dX5_reduce_104 : decode cX5_reduce 104 = .ok (.lastore, 1) := dk_80 (dk_at dksX5_reduce_4 14 rfl rfl)
theorem dX5_reduce_105 : decode cX5_reduce 105 = .ok (.aload_n 0, 1) := dk_42 (dk_at dksX5_reduce_4 15 rfl rfl)
theorem dX5_reduce_106 : decode cX5_reduce 106 = .ok (.getfield 45, 3) := dk_180 0 45 (dk_at dksX5_reduce_4 16 rfl rfl)
theorem dX5_reduce_109 : decode cX5_reduce 109 = .ok (.aload_n 0, 1) := dk_42 (dk_at dksX5_reduce_4 19 rfl rfl)
theorem dX5_reduce_110 : decode cX5_reduce 110 = .ok (.getfield 164, 3) := dk_180 0 164 (dk_at dksX5_reduce_4 20 rfl rfl)
theorem dX5_reduce_113 : decode cX5_reduce 113 = .ok (.iconst 1, 1) := dk_4 (dk_at dksX5_reduce_4 23 rfl rfl)
theorem dX5_reduce_114 : decode cX5_reduce 114 = .ok (.isub, 1) := dk_100 (dk_at dksX5_reduce_5 0 rfl rfl)
theorem dX5_reduce_115 : decode cX5_reduce 115 = .ok (.iload_n 3, 1) := dk_29 (dk_at dksX5_reduce_5 1 rfl rfl)
theorem dX5_reduce_116 : decode cX5_reduce 116 = .ok (.iastore, 1) := dk_79 (dk_at dksX5_reduce_5 2 rfl rfl)
theorem dX5_reduce_117 : decode cX5_reduce 117 = .ok (.goto 45, 3) := dk_167 0 45 (dk_at dksX5_reduce_5 3 rfl rfl)
theorem dX5_reduce_120 : decode cX5_reduce 120 = .ok (.iload_n 1, 1) := dk_27 (dk_at dksX5_reduce_5 6 rfl rfl)
theorem dX5_reduce_121 : decode cX5_reduce 121 = .ok (.bipush 6, 2) := dk_16 6 (dk_at dksX5_reduce_5 7 rfl rfl)
theorem dX5_reduce_123 : decode cX5_reduce 123 = .ok (.if_icmp .ne 22, 3) := dk_160 0 22 (dk_at dksX5_reduce_5 9 rfl rfl)
theorem dX5_reduce_126 : decode cX5_reduce 126 = .ok (.aload_n 0, 1) := dk_42 (dk_at dksX5_reduce_5 12 rfl rfl)
theorem dX5_reduce_127 : decode cX5_reduce 127 = .ok (.iload_n 3, 1) := dk_29 (dk_at dksX5_reduce_5 13 rfl rfl)
theorem dX5_reduce_128 : decode cX5_reduce 128 = .ok (.bipush 45, 2) := dk_16 45 (dk_at dksX5_reduce_5 14 rfl rfl)
theorem dX5_reduce_130 : decode cX5_reduce 130 = .ok (.if_icmp .ne 7, 3) := dk_160 0 7 (dk_at dksX5_reduce_5 16 rfl rfl)
theorem dX5_reduce_133 : decode cX5_reduce 133 = .ok (.iconst 3, 1) := dk_6 (dk_at dksX5_reduce_5 19 rfl rfl)
theorem dX5_reduce_134 : decode cX5_reduce 134 = .ok (.goto 4, 3) := dk_167 0 4 (dk_at dksX5_reduce_5 20 rfl rfl)
theorem dX5_reduce_137 : decode cX5_reduce 137 = .ok (.iconst 4, 1) := dk_7 (dk_at dksX5_reduce_5 23 rfl rfl)
theorem dX5_reduce_138 : decode cX5_reduce 138 = .ok (.lconst 0, 1) := dk_9 (dk_at dksX5_reduce_6 0 rfl rfl)
theorem dX5_reduce_139 : decode cX5_reduce 139 = .ok (.invokevirtual 167, 3) := dk_182 0 167 (dk_at dksX5_reduce_6 1 rfl rfl)
theorem dX5_reduce_142 : decode cX5_reduce 142 = .ok (.goto 20, 3) := dk_167 0 20 (dk_at dksX5_reduce_6 4 rfl rfl)
theorem dX5_reduce_145 : decode cX5_reduce 145 = .ok (.aload_n 0, 1) := dk_42 (dk_at dksX5_reduce_6 7 rfl rfl)
theorem dX5_reduce_146 : decode cX5_reduce 146 = .ok (.iconst 2, 1) := dk_5 (dk_at dksX5_reduce_6 8 rfl rfl)
theorem dX5_reduce_147 : decode cX5_reduce 147 = .ok (.iload_n 3, 1) := dk_29 (dk_at dksX5_reduce_6 9 rfl rfl)
theorem dX5_reduce_148 : decode cX5_reduce 148 = .ok (.i2l, 1) := dk_133 (dk_at dksX5_reduce_6 10 rfl rfl)
theorem dX5_reduce_149 : decode cX5_reduce 149 = .ok (.invokevirtual 167, 3) := dk_182 0 167 (dk_at dksX5_reduce_6 11 rfl rfl)
theorem dX5_reduce_152 : decode cX5_reduce 152 = .ok (.aload_n 0, 1) := dk_42 (dk_at dksX5_reduce_6 14 rfl rfl)
theorem dX5_reduce_153 : decode cX5_reduce 153 = .ok (.dup, 1) := dk_89 (dk_at dksX5_reduce_6 15 rfl rfl)
theorem dX5_reduce_154 : decode cX5_reduce 154 = .ok (.getfield 164, 3) := dk_180 0 164 (dk_at dksX5_reduce_6 16 rfl rfl)
theorem dX5_reduce_157 : decode cX5_reduce 157 = .ok (.iconst 1, 1) := dk_4 (dk_at dksX5_reduce_6 19 rfl rfl)
theorem dX5_reduce_158 : decode cX5_reduce 158 = .ok (.isub, 1) := dk_100 (dk_at dksX5_reduce_6 20 rfl rfl)
theorem dX5_reduce_159 : decode cX5_reduce 159 = .ok (.putfield 164, 3) := dk_181 0 164 (dk_at dksX5_reduce_6 21 rfl rfl)
theorem dX5_reduce_162 : decode cX5_reduce 162 = .ok (.return_, 1) := dk_177 (dk_at dksX5_reduce_7 0 rfl rfl)
abbrev cX5_rowOf : ByteArray := prog_12_method_12_code
def yX5_rowOf : MethodName := ⟨RX5, "rowOf", "(I)I"⟩
def dkwX5_rowOf_0 : List UInt8 := [16, 64, 26, 104, 172]
abbrev dktX5_rowOf_0 : List UInt8 := dkwX5_rowOf_0 ++ []
theorem dksX5_rowOf_0 : cX5_rowOf.data.toList.drop 0 = dktX5_rowOf_0 := by decide +kernel
theorem dX5_rowOf_0 : decode cX5_rowOf 0 = .ok (.bipush 64, 2) := dk_16 64 (dk_at dksX5_rowOf_0 0 rfl rfl)
theorem dX5_rowOf_2 : decode cX5_rowOf 2 = .ok (.iload_n 0, 1) := dk_26 (dk_at dksX5_rowOf_0 2 rfl rfl)
theorem dX5_rowOf_3 : decode cX5_rowOf 3 = .ok (.imul, 1) := dk_104 (dk_at dksX5_rowOf_0 3 rfl rfl)
theorem dX5_rowOf_4 : decode cX5_rowOf 4 = .ok (.ireturn, 1) := dk_172 (dk_at dksX5_rowOf_0 4 rfl rfl)
abbrev cX5_put : ByteArray := prog_12_method_13_code
def yX5_put : MethodName := ⟨RX5, "put", "(IJ)V"⟩
def dkwX5_put_1 : List UInt8 := [184, 0, 141, 42, 180, 0, 144, 96, 32, 80, 42, 89, 180, 0, 144, 4, 96, 181, 0, 144, 177]
abbrev dktX5_put_1 : List UInt8 := dkwX5_put_1 ++ []
def dkwX5_put_0 : List UInt8 := [42, 180, 0, 17, 16, 32, 184, 0, 141, 42, 180, 0, 144, 96, 27, 79, 42, 180, 0, 20, 16, 32]
abbrev dktX5_put_0 : List UInt8 := dkwX5_put_0 ++ dktX5_put_1
theorem dksX5_put_0 : cX5_put.data.toList.drop 0 = dktX5_put_0 := by decide +kernel
theorem dksX5_put_1 : cX5_put.data.toList.drop 22 = dktX5_put_1 := dk_seg dksX5_put_0 22 rfl rfl
theorem dX5_put_0 : decode cX5_put 0 = .ok (.aload_n 0, 1) := dk_42 (dk_at dksX5_put_0 0 rfl rfl)
theorem dX5_put_1 : decode cX5_put 1 = .ok (.getfield 17, 3) := dk_180 0 17 (dk_at dksX5_put_0 1 rfl rfl)
theorem dX5_put_4 : decode cX5_put 4 = .ok (.bipush 32, 2) := dk_16 32 (dk_at dksX5_put_0 4 rfl rfl)
theorem dX5_put_6 : decode cX5_put 6 = .ok (.invokestatic 141, 3) := dk_184 0 141 (dk_at dksX5_put_0 6 rfl rfl)
theorem dX5_put_9 : decode cX5_put 9 = .ok (.aload_n 0, 1) := dk_42 (dk_at dksX5_put_0 9 rfl rfl)
theorem dX5_put_10 : decode cX5_put 10 = .ok (.getfield 144, 3) := dk_180 0 144 (dk_at dksX5_put_0 10 rfl rfl)
theorem dX5_put_13 : decode cX5_put 13 = .ok (.iadd, 1) := dk_96 (dk_at dksX5_put_0 13 rfl rfl)
theorem dX5_put_14 : decode cX5_put 14 = .ok (.iload_n 1, 1) := dk_27 (dk_at dksX5_put_0 14 rfl rfl)
theorem dX5_put_15 : decode cX5_put 15 = .ok (.iastore, 1) := dk_79 (dk_at dksX5_put_0 15 rfl rfl)
theorem dX5_put_16 : decode cX5_put 16 = .ok (.aload_n 0, 1) := dk_42 (dk_at dksX5_put_0 16 rfl rfl)
theorem dX5_put_17 : decode cX5_put 17 = .ok (.getfield 20, 3) := dk_180 0 20 (dk_at dksX5_put_0 17 rfl rfl)
theorem dX5_put_20 : decode cX5_put 20 = .ok (.bipush 32, 2) := dk_16 32 (dk_at dksX5_put_0 20 rfl rfl)
theorem dX5_put_22 : decode cX5_put 22 = .ok (.invokestatic 141, 3) := dk_184 0 141 (dk_at dksX5_put_1 0 rfl rfl)
theorem dX5_put_25 : decode cX5_put 25 = .ok (.aload_n 0, 1) := dk_42 (dk_at dksX5_put_1 3 rfl rfl)
theorem dX5_put_26 : decode cX5_put 26 = .ok (.getfield 144, 3) := dk_180 0 144 (dk_at dksX5_put_1 4 rfl rfl)
theorem dX5_put_29 : decode cX5_put 29 = .ok (.iadd, 1) := dk_96 (dk_at dksX5_put_1 7 rfl rfl)
theorem dX5_put_30 : decode cX5_put 30 = .ok (.lload_n 2, 1) := dk_32 (dk_at dksX5_put_1 8 rfl rfl)
theorem dX5_put_31 : decode cX5_put 31 = .ok (.lastore, 1) := dk_80 (dk_at dksX5_put_1 9 rfl rfl)
theorem dX5_put_32 : decode cX5_put 32 = .ok (.aload_n 0, 1) := dk_42 (dk_at dksX5_put_1 10 rfl rfl)
theorem dX5_put_33 : decode cX5_put 33 = .ok (.dup, 1) := dk_89 (dk_at dksX5_put_1 11 rfl rfl)
theorem dX5_put_34 : decode cX5_put 34 = .ok (.getfield 144, 3) := dk_180 0 144 (dk_at dksX5_put_1 12 rfl rfl)
theorem dX5_put_37 : decode cX5_put 37 = .ok (.iconst 1, 1) := dk_4 (dk_at dksX5_put_1 15 rfl rfl)
theorem dX5_put_38 : decode cX5_put 38 = .ok (.iadd, 1) := dk_96 (dk_at dksX5_put_1 16 rfl rfl)
theorem dX5_put_39 : decode cX5_put 39 = .ok (.putfield 144, 3) := dk_181 0 144 (dk_at dksX5_put_1 17 rfl rfl)
theorem dX5_put_42 : decode cX5_put 42 = .ok (.return_, 1) := dk_177 (dk_at dksX5_put_1 20 rfl rfl)
abbrev cX5_operand : ByteArray := prog_12_method_17_code
def yX5_operand : MethodName := ⟨RX5, "operand", "(I)V"⟩
def dkwX5_operand_0 : List UInt8 := [42, 180, 0, 45, 42, 180, 0, 164, 27, 79, 42, 89, 180, 0, 164, 4, 96, 181, 0, 164, 177]
abbrev dktX5_operand_0 : List UInt8 := dkwX5_operand_0 ++ []
theorem dksX5_operand_0 : cX5_operand.data.toList.drop 0 = dktX5_operand_0 := by decide +kernel
theorem dX5_operand_0 : decode cX5_operand 0 = .ok (.aload_n 0, 1) := dk_42 (dk_at dksX5_operand_0 0 rfl rfl)
theorem dX5_operand_1 : decode cX5_operand 1 = .ok (.getfield 45, 3) := dk_180 0 45 (dk_at dksX5_operand_0 1 rfl rfl)
theorem dX5_operand_4 : decode cX5_operand 4 = .ok (.aload_n 0, 1) := dk_42 (dk_at dksX5_operand_0 4 rfl rfl)
theorem dX5_operand_5 : decode cX5_operand 5 = .ok (.getfield 164, 3) := dk_180 0 164 (dk_at dksX5_operand_0 5 rfl rfl)
theorem dX5_operand_8 : decode cX5_operand 8 = .ok (.iload_n 1, 1) := dk_27 (dk_at dksX5_operand_0 8 rfl rfl)
theorem dX5_operand_9 : decode cX5_operand 9 = .ok (.iastore, 1) := dk_79 (dk_at dksX5_operand_0 9 rfl rfl)
theorem dX5_operand_10 : decode cX5_operand 10 = .ok (.aload_n 0, 1) := dk_42 (dk_at dksX5_operand_0 10 rfl rfl)
theorem dX5_operand_11 : decode cX5_operand 11 = .ok (.dup, 1) := dk_89 (dk_at dksX5_operand_0 11 rfl rfl)
theorem dX5_operand_12 : decode cX5_operand 12 = .ok (.getfield 164, 3) := dk_180 0 164 (dk_at dksX5_operand_0 12 rfl rfl)
theorem dX5_operand_15 : decode cX5_operand 15 = .ok (.iconst 1, 1) := dk_4 (dk_at dksX5_operand_0 15 rfl rfl)
theorem dX5_operand_16 : decode cX5_operand 16 = .ok (.iadd, 1) := dk_96 (dk_at dksX5_operand_0 16 rfl rfl)
theorem dX5_operand_17 : decode cX5_operand 17 = .ok (.putfield 164, 3) := dk_181 0 164 (dk_at dksX5_operand_0 17 rfl rfl)
theorem dX5_operand_20 : decode cX5_operand 20 = .ok (.return_, 1) := dk_177 (dk_at dksX5_operand_0 20 rfl rfl)
abbrev cX5_isFigure : ByteArray := prog_12_method_8_code
def yX5_isFigure : MethodName := ⟨RX5, "isFigure", "(I)Z"⟩
def dkwX5_isFigure_0 : List UInt8 := [26, 16, 48, 161, 0, 13, 26, 16, 57, 163, 0, 7, 4, 167, 0, 4, 3, 172]
abbrev dktX5_isFigure_0 : List UInt8 := dkwX5_isFigure_0 ++ []
theorem dksX5_isFigure_0 : cX5_isFigure.data.toList.drop 0 = dktX5_isFigure_0 := by decide +kernel
theorem dX5_isFigure_0 : decode cX5_isFigure 0 = .ok (.iload_n 0, 1) := dk_26 (dk_at dksX5_isFigure_0 0 rfl rfl)
theorem dX5_isFigure_1 : decode cX5_isFigure 1 = .ok (.bipush 48, 2) := dk_16 48 (dk_at dksX5_isFigure_0 1 rfl rfl)
theorem dX5_isFigure_3 : decode cX5_isFigure 3 = .ok (.if_icmp .lt 13, 3) := dk_161 0 13 (dk_at dksX5_isFigure_0 3 rfl rfl)
theorem dX5_isFigure_6 : decode cX5_isFigure 6 = .ok (.iload_n 0, 1) := dk_26 (dk_at dksX5_isFigure_0 6 rfl rfl)
theorem dX5_isFigure_7 : decode cX5_isFigure 7 = .ok (.bipush 57, 2) := dk_16 57 (dk_at dksX5_isFigure_0 7 rfl rfl)
theorem dX5_isFigure_9 : decode cX5_isFigure 9 = .ok (.if_icmp .gt 7, 3) := dk_163 0 7 (dk_at dksX5_isFigure_0 9 rfl rfl)
theorem dX5_isFigure_12 : decode cX5_isFigure 12 = .ok (.iconst 1, 1) := dk_4 (dk_at dksX5_isFigure_0 12 rfl rfl)
theorem dX5_isFigure_13 : decode cX5_isFigure 13 = .ok (.goto 4, 3) := dk_167 0 4 (dk_at dksX5_isFigure_0 13 rfl rfl)
theorem dX5_isFigure_16 : decode cX5_isFigure 16 = .ok (.iconst 0, 1) := dk_3 (dk_at dksX5_isFigure_0 16 rfl rfl)
theorem dX5_isFigure_17 : decode cX5_isFigure 17 = .ok (.ireturn, 1) := dk_172 (dk_at dksX5_isFigure_0 17 rfl rfl)
abbrev cX5_readNumber : ByteArray := prog_12_method_22_code
def yX5_readNumber : MethodName := ⟨RX5, "readNumber", "()V"⟩
def dkwX5_readNumber_4 : List UInt8 := [180, 0, 144, 182, 0, 192, 42, 3, 32, 182, 0, 167, 177]
abbrev dktX5_readNumber_4 : List UInt8 := dkwX5_readNumber_4 ++ []
def dkwX5_readNumber_3 : List UInt8 := [96, 181, 0, 147, 167, 255, 196, 32, 20, 0, 190, 148, 158, 0, 9, 42, 5, 27, 182, 0, 157, 42, 42]
abbrev dktX5_readNumber_3 : List UInt8 := dkwX5_readNumber_3 ++ dktX5_readNumber_4
def dkwX5_readNumber_2 : List UInt8 := [101, 65, 32, 20, 0, 188, 148, 158, 0, 9, 20, 0, 188, 167, 0, 4, 32, 65, 42, 89, 180, 0, 147, 4]
abbrev dktX5_readNumber_2 : List UInt8 := dkwX5_readNumber_2 ++ dktX5_readNumber_3
def dkwX5_readNumber_1 : List UInt8 := [184, 0, 181, 153, 0, 52, 32, 20, 0, 184, 105, 42, 42, 180, 0, 147, 182, 0, 130, 133, 97, 20, 0, 186]
abbrev dktX5_readNumber_1 : List UInt8 := dkwX5_readNumber_1 ++ dktX5_readNumber_2
def dkwX5_readNumber_0 : List UInt8 := [42, 180, 0, 147, 60, 42, 27, 182, 0, 178, 154, 0, 4, 177, 9, 65, 42, 42, 180, 0, 147, 182, 0, 130]
abbrev dktX5_readNumber_0 : List UInt8 := dkwX5_readNumber_0 ++ dktX5_readNumber_1
theorem dksX5_readNumber_0 : cX5_readNumber.data.toList.drop 0 = dktX5_readNumber_0 := by decide +kernel
theorem dksX5_readNumber_1 : cX5_readNumber.data.toList.drop 24 = dktX5_readNumber_1 := dk_seg dksX5_readNumber_0 24 rfl rfl
theorem dksX5_readNumber_2 : cX5_readNumber.data.toList.drop 48 = dktX5_readNumber_2 := dk_seg dksX5_readNumber_1 24 rfl rfl
theorem dksX5_readNumber_3 : cX5_readNumber.data.toList.drop 72 = dktX5_readNumber_3 := dk_seg dksX5_readNumber_2 24 rfl rfl
theorem dksX5_readNumber_4 : cX5_readNumber.data.toList.drop 95 = dktX5_readNumber_4 := dk_seg dksX5_readNumber_3 23 rfl rfl
theorem dX5_readNumber_0 : decode cX5_readNumber 0 = .ok (.aload_n 0, 1) := dk_42 (dk_at dksX5_readNumber_0 0 rfl rfl)
theorem dX5_readNumber_1 : decode cX5_readNumber 1 = .ok (.getfield 147, 3) := dk_180 0 147 (dk_at dksX5_readNumber_0 1 rfl rfl)
theorem dX5_readNumber_4 : decode cX5_readNumber 4 = .ok (.istore_n 1, 1) := dk_60 (dk_at dksX5_readNumber_0 4 rfl rfl)
theorem dX5_readNumber_5 : decode cX5_readNumber 5 = .ok (.aload_n 0, 1) := dk_42 (dk_at dksX5_readNumber_0 5 rfl rfl)
theorem dX5_readNumber_6 : decode cX5_readNumber 6 = .ok (.iload_n 1, 1) := dk_27 (dk_at dksX5_readNumber_0 6 rfl rfl)
theorem dX5_readNumber_7 : decode cX5_readNumber 7 = .ok (.invokevirtual 178, 3) := dk_182 0 178 (dk_at dksX5_readNumber_0 7 rfl rfl)
theorem dX5_readNumber_10 : decode cX5_readNumber 10 = .ok (.ifCond .ne 4, 3) := dk_154 0 4 (dk_at dksX5_readNumber_0 10 rfl rfl)
theorem dX5_readNumber_13 : decode cX5_readNumber 13 = .ok (.return_, 1) := dk_177 (dk_at dksX5_readNumber_0 13 rfl rfl)
theorem dX5_readNumber_14 : decode cX5_readNumber 14 = .ok (.lconst 0, 1) := dk_9 (dk_at dksX5_readNumber_0 14 rfl rfl)
theorem dX5_readNumber_15 : decode cX5_readNumber 15 = .ok (.lstore_n 2, 1) := dk_65 (dk_at dksX5_readNumber_0 15 rfl rfl)
theorem dX5_readNumber_16 : decode cX5_readNumber 16 = .ok (.aload_n 0, 1) := dk_42 (dk_at dksX5_readNumber_0 16 rfl rfl)
theorem dX5_readNumber_17 : decode cX5_readNumber 17 = .ok (.aload_n 0, 1) := dk_42 (dk_at dksX5_readNumber_0 17 rfl rfl)
theorem dX5_readNumber_18 : decode cX5_readNumber 18 = .ok (.getfield 147, 3) := dk_180 0 147 (dk_at dksX5_readNumber_0 18 rfl rfl)
theorem dX5_readNumber_21 : decode cX5_readNumber 21 = .ok (.invokevirtual 130, 3) := dk_182 0 130 (dk_at dksX5_readNumber_0 21 rfl rfl)
theorem dX5_readNumber_24 : decode cX5_readNumber 24 = .ok (.invokestatic 181, 3) := dk_184 0 181 (dk_at dksX5_readNumber_1 0 rfl rfl)
theorem dX5_readNumber_27 : decode cX5_readNumber 27 = .ok (.ifCond .eq 52, 3) := dk_153 0 52 (dk_at dksX5_readNumber_1 3 rfl rfl)
theorem dX5_readNumber_30 : decode cX5_readNumber 30 = .ok (.lload_n 2, 1) := dk_32 (dk_at dksX5_readNumber_1 6 rfl rfl)
theorem dX5_readNumber_31 : decode cX5_readNumber 31 = .ok (.ldc2_w 184, 3) := dk_20 0 184 (dk_at dksX5_readNumber_1 7 rfl rfl)
theorem dX5_readNumber_34 : decode cX5_readNumber 34 = .ok (.lmul, 1) := dk_105 (dk_at dksX5_readNumber_1 10 rfl rfl)
theorem dX5_readNumber_35 : decode cX5_readNumber 35 = .ok (.aload_n 0, 1) := dk_42 (dk_at dksX5_readNumber_1 11 rfl rfl)
theorem dX5_readNumber_36 : decode cX5_readNumber 36 = .ok (.aload_n 0, 1) := dk_42 (dk_at dksX5_readNumber_1 12 rfl rfl)
theorem dX5_readNumber_37 : decode cX5_readNumber 37 = .ok (.getfield 147, 3) := dk_180 0 147 (dk_at dksX5_readNumber_1 13 rfl rfl)
theorem dX5_readNumber_40 : decode cX5_readNumber 40 = .ok (.invokevirtual 130, 3) := dk_182 0 130 (dk_at dksX5_readNumber_1 16 rfl rfl)
theorem dX5_readNumber_43 : decode cX5_readNumber 43 = .ok (.i2l, 1) := dk_133 (dk_at dksX5_readNumber_1 19 rfl rfl)
theorem dX5_readNumber_44 : decode cX5_readNumber 44 = .ok (.ladd, 1) := dk_97 (dk_at dksX5_readNumber_1 20 rfl rfl)
theorem dX5_readNumber_45 : decode cX5_readNumber 45 = .ok (.ldc2_w 186, 3) := dk_20 0 186 (dk_at dksX5_readNumber_1 21 rfl rfl)
theorem dX5_readNumber_48 : decode cX5_readNumber 48 = .ok (.lsub, 1) := dk_101 (dk_at dksX5_readNumber_2 0 rfl rfl)
theorem dX5_readNumber_49 : decode cX5_readNumber 49 = .ok (.lstore_n 2, 1) := dk_65 (dk_at dksX5_readNumber_2 1 rfl rfl)
theorem dX5_readNumber_50 : decode cX5_readNumber 50 = .ok (.lload_n 2, 1) := dk_32 (dk_at dksX5_readNumber_2 2 rfl rfl)
theorem dX5_readNumber_51 : decode cX5_readNumber 51 = .ok (.ldc2_w 188, 3) := dk_20 0 188 (dk_at dksX5_readNumber_2 3 rfl rfl)
theorem dX5_readNumber_54 : decode cX5_readNumber 54 = .ok (.lcmp, 1) := dk_148 (dk_at dksX5_readNumber_2 6 rfl rfl)
theorem dX5_readNumber_55 : decode cX5_readNumber 55 = .ok (.ifCond .le 9, 3) := dk_158 0 9 (dk_at dksX5_readNumber_2 7 rfl rfl)
theorem dX5_readNumber_58 : decode cX5_readNumber 58 = .ok (.ldc2_w 188, 3) := dk_20 0 188 (dk_at dksX5_readNumber_2 10 rfl rfl)
theorem dX5_readNumber_61 : decode cX5_readNumber 61 = .ok (.goto 4, 3) := dk_167 0 4 (dk_at dksX5_readNumber_2 13 rfl rfl)
theorem dX5_readNumber_64 : decode cX5_readNumber 64 = .ok (.lload_n 2, 1) := dk_32 (dk_at dksX5_readNumber_2 16 rfl rfl)
theorem dX5_readNumber_65 : decode cX5_readNumber 65 = .ok (.lstore_n 2, 1) := dk_65 (dk_at dksX5_readNumber_2 17 rfl rfl)
theorem dX5_readNumber_66 : decode cX5_readNumber 66 = .ok (.aload_n 0, 1) := dk_42 (dk_at dksX5_readNumber_2 18 rfl rfl)
theorem dX5_readNumber_67 : decode cX5_readNumber 67 = .ok (.dup, 1) := dk_89 (dk_at dksX5_readNumber_2 19 rfl rfl)
theorem dX5_readNumber_68 : decode cX5_readNumber 68 = .ok (.getfield 147, 3) := dk_180 0 147 (dk_at dksX5_readNumber_2 20 rfl rfl)
theorem dX5_readNumber_71 : decode cX5_readNumber 71 = .ok (.iconst 1, 1) := dk_4 (dk_at dksX5_readNumber_2 23 rfl rfl)
theorem dX5_readNumber_72 : decode cX5_readNumber 72 = .ok (.iadd, 1) := dk_96 (dk_at dksX5_readNumber_3 0 rfl rfl)
theorem dX5_readNumber_73 : decode cX5_readNumber 73 = .ok (.putfield 147, 3) := dk_181 0 147 (dk_at dksX5_readNumber_3 1 rfl rfl)
theorem dX5_readNumber_76 : decode cX5_readNumber 76 = .ok (.goto (-60), 3) := dk_167 255 196 (dk_at dksX5_readNumber_3 4 rfl rfl)
theorem dX5_readNumber_79 : decode cX5_readNumber 79 = .ok (.lload_n 2, 1) := dk_32 (dk_at dksX5_readNumber_3 7 rfl rfl)
theorem dX5_readNumber_80 : decode cX5_readNumber 80 = .ok (.ldc2_w 190, 3) := dk_20 0 190 (dk_at dksX5_readNumber_3 8 rfl rfl)
theorem dX5_readNumber_83 : decode cX5_readNumber 83 = .ok (.lcmp, 1) := dk_148 (dk_at dksX5_readNumber_3 11 rfl rfl)
theorem dX5_readNumber_84 : decode cX5_readNumber 84 = .ok (.ifCond .le 9, 3) := dk_158 0 9 (dk_at dksX5_readNumber_3 12 rfl rfl)
theorem dX5_readNumber_87 : decode cX5_readNumber 87 = .ok (.aload_n 0, 1) := dk_42 (dk_at dksX5_readNumber_3 15 rfl rfl)
theorem dX5_readNumber_88 : decode cX5_readNumber 88 = .ok (.iconst 2, 1) := dk_5 (dk_at dksX5_readNumber_3 16 rfl rfl)
theorem dX5_readNumber_89 : decode cX5_readNumber 89 = .ok (.iload_n 1, 1) := dk_27 (dk_at dksX5_readNumber_3 17 rfl rfl)
theorem dX5_readNumber_90 : decode cX5_readNumber 90 = .ok (.invokevirtual 157, 3) := dk_182 0 157 (dk_at dksX5_readNumber_3 18 rfl rfl)
theorem dX5_readNumber_93 : decode cX5_readNumber 93 = .ok (.aload_n 0, 1) := dk_42 (dk_at dksX5_readNumber_3 21 rfl rfl)
theorem dX5_readNumber_94 : decode cX5_readNumber 94 = .ok (.aload_n 0, 1) := dk_42 (dk_at dksX5_readNumber_3 22 rfl rfl)
theorem dX5_readNumber_95 : decode cX5_readNumber 95 = .ok (.getfield 144, 3) := dk_180 0 144 (dk_at dksX5_readNumber_4 0 rfl rfl)
theorem dX5_readNumber_98 : decode cX5_readNumber 98 = .ok (.invokevirtual 192, 3) := dk_182 0 192 (dk_at dksX5_readNumber_4 3 rfl rfl)
theorem dX5_readNumber_101 : decode cX5_readNumber 101 = .ok (.aload_n 0, 1) := dk_42 (dk_at dksX5_readNumber_4 6 rfl rfl)
theorem dX5_readNumber_102 : decode cX5_readNumber 102 = .ok (.iconst 0, 1) := dk_3 (dk_at dksX5_readNumber_4 7 rfl rfl)
theorem dX5_readNumber_103 : decode cX5_readNumber 103 = .ok (.lload_n 2, 1) := dk_32 (dk_at dksX5_readNumber_4 8 rfl rfl)
theorem dX5_readNumber_104 : decode cX5_readNumber 104 = .ok (.invokevirtual 167, 3) := dk_182 0 167 (dk_at dksX5_readNumber_4 9 rfl rfl)
theorem dX5_readNumber_107 : decode cX5_readNumber 107 = .ok (.return_, 1) := dk_177 (dk_at dksX5_readNumber_4 12 rfl rfl)
abbrev cX5_count : ByteArray := prog_12_method_15_code
def yX5_count : MethodName := ⟨RX5, "count", "(I)Z"⟩
def dkwX5_count_1 : List UInt8 := [181, 0, 154, 4, 172]
abbrev dktX5_count_1 : List UInt8 := dkwX5_count_1 ++ []
def dkwX5_count_0 : List UInt8 := [42, 180, 0, 154, 16, 20, 160, 0, 11, 42, 6, 27, 182, 0, 157, 3, 172, 42, 89, 180, 0, 154, 4, 96]
abbrev dktX5_count_0 : List UInt8 := dkwX5_count_0 ++ dktX5_count_1
theorem dksX5_count_0 : cX5_count.data.toList.drop 0 = dktX5_count_0 := by decide +kernel
theorem dksX5_count_1 : cX5_count.data.toList.drop 24 = dktX5_count_1 := dk_seg dksX5_count_0 24 rfl rfl
theorem dX5_count_0 : decode cX5_count 0 = .ok (.aload_n 0, 1) := dk_42 (dk_at dksX5_count_0 0 rfl rfl)
theorem dX5_count_1 : decode cX5_count 1 = .ok (.getfield 154, 3) := dk_180 0 154 (dk_at dksX5_count_0 1 rfl rfl)
theorem dX5_count_4 : decode cX5_count 4 = .ok (.bipush 20, 2) := dk_16 20 (dk_at dksX5_count_0 4 rfl rfl)
theorem dX5_count_6 : decode cX5_count 6 = .ok (.if_icmp .ne 11, 3) := dk_160 0 11 (dk_at dksX5_count_0 6 rfl rfl)
theorem dX5_count_9 : decode cX5_count 9 = .ok (.aload_n 0, 1) := dk_42 (dk_at dksX5_count_0 9 rfl rfl)
theorem dX5_count_10 : decode cX5_count 10 = .ok (.iconst 3, 1) := dk_6 (dk_at dksX5_count_0 10 rfl rfl)
theorem dX5_count_11 : decode cX5_count 11 = .ok (.iload_n 1, 1) := dk_27 (dk_at dksX5_count_0 11 rfl rfl)
theorem dX5_count_12 : decode cX5_count 12 = .ok (.invokevirtual 157, 3) := dk_182 0 157 (dk_at dksX5_count_0 12 rfl rfl)
theorem dX5_count_15 : decode cX5_count 15 = .ok (.iconst 0, 1) := dk_3 (dk_at dksX5_count_0 15 rfl rfl)
theorem dX5_count_16 : decode cX5_count 16 = .ok (.ireturn, 1) := dk_172 (dk_at dksX5_count_0 16 rfl rfl)
theorem dX5_count_17 : decode cX5_count 17 = .ok (.aload_n 0, 1) := dk_42 (dk_at dksX5_count_0 17 rfl rfl)
theorem dX5_count_18 : decode cX5_count 18 = .ok (.dup, 1) := dk_89 (dk_at dksX5_count_0 18 rfl rfl)
theorem dX5_count_19 : decode cX5_count 19 = .ok (.getfield 154, 3) := dk_180 0 154 (dk_at dksX5_count_0 19 rfl rfl)
theorem dX5_count_22 : decode cX5_count 22 = .ok (.iconst 1, 1) := dk_4 (dk_at dksX5_count_0 22 rfl rfl)
theorem dX5_count_23 : decode cX5_count 23 = .ok (.iadd, 1) := dk_96 (dk_at dksX5_count_0 23 rfl rfl)
theorem dX5_count_24 : decode cX5_count 24 = .ok (.putfield 154, 3) := dk_181 0 154 (dk_at dksX5_count_1 0 rfl rfl)
theorem dX5_count_27 : decode cX5_count 27 = .ok (.iconst 1, 1) := dk_4 (dk_at dksX5_count_1 3 rfl rfl)
theorem dX5_count_28 : decode cX5_count 28 = .ok (.ireturn, 1) := dk_172 (dk_at dksX5_count_1 4 rfl rfl)
abbrev cX5_wait : ByteArray := prog_12_method_16_code
def yX5_wait : MethodName := ⟨RX5, "wait", "(III)V"⟩
def dkwX5_wait_1 : List UInt8 := [42, 180, 0, 161, 29, 79, 42, 89, 180, 0, 161, 4, 96, 181, 0, 161, 177]
abbrev dktX5_wait_1 : List UInt8 := dkwX5_wait_1 ++ []
def dkwX5_wait_0 : List UInt8 := [42, 180, 0, 33, 42, 180, 0, 161, 27, 79, 42, 180, 0, 36, 42, 180, 0, 161, 28, 79, 42, 180, 0, 39]
abbrev dktX5_wait_0 : List UInt8 := dkwX5_wait_0 ++ dktX5_wait_1
theorem dksX5_wait_0 : cX5_wait.data.toList.drop 0 = dktX5_wait_0 := by decide +kernel
theorem dksX5_wait_1 : cX5_wait.data.toList.drop 24 = dktX5_wait_1 := dk_seg dksX5_wait_0 24 rfl rfl
theorem dX5_wait_0 : decode cX5_wait 0 = .ok (.aload_n 0, 1) := dk_42 (dk_at dksX5_wait_0 0 rfl rfl)
theorem dX5_wait_1 : decode cX5_wait 1 = .ok (.getfield 33, 3) := dk_180 0 33 (dk_at dksX5_wait_0 1 rfl rfl)
theorem dX5_wait_4 : decode cX5_wait 4 = .ok (.aload_n 0, 1) := dk_42 (dk_at dksX5_wait_0 4 rfl rfl)
theorem dX5_wait_5 : decode cX5_wait 5 = .ok (.getfield 161, 3) := dk_180 0 161 (dk_at dksX5_wait_0 5 rfl rfl)
theorem dX5_wait_8 : decode cX5_wait 8 = .ok (.iload_n 1, 1) := dk_27 (dk_at dksX5_wait_0 8 rfl rfl)
theorem dX5_wait_9 : decode cX5_wait 9 = .ok (.iastore, 1) := dk_79 (dk_at dksX5_wait_0 9 rfl rfl)
theorem dX5_wait_10 : decode cX5_wait 10 = .ok (.aload_n 0, 1) := dk_42 (dk_at dksX5_wait_0 10 rfl rfl)
theorem dX5_wait_11 : decode cX5_wait 11 = .ok (.getfield 36, 3) := dk_180 0 36 (dk_at dksX5_wait_0 11 rfl rfl)
theorem dX5_wait_14 : decode cX5_wait 14 = .ok (.aload_n 0, 1) := dk_42 (dk_at dksX5_wait_0 14 rfl rfl)
theorem dX5_wait_15 : decode cX5_wait 15 = .ok (.getfield 161, 3) := dk_180 0 161 (dk_at dksX5_wait_0 15 rfl rfl)
theorem dX5_wait_18 : decode cX5_wait 18 = .ok (.iload_n 2, 1) := dk_28 (dk_at dksX5_wait_0 18 rfl rfl)
theorem dX5_wait_19 : decode cX5_wait 19 = .ok (.iastore, 1) := dk_79 (dk_at dksX5_wait_0 19 rfl rfl)
theorem dX5_wait_20 : decode cX5_wait 20 = .ok (.aload_n 0, 1) := dk_42 (dk_at dksX5_wait_0 20 rfl rfl)
theorem dX5_wait_21 : decode cX5_wait 21 = .ok (.getfield 39, 3) := dk_180 0 39 (dk_at dksX5_wait_0 21 rfl rfl)
theorem dX5_wait_24 : decode cX5_wait 24 = .ok (.aload_n 0, 1) := dk_42 (dk_at dksX5_wait_1 0 rfl rfl)
theorem dX5_wait_25 : decode cX5_wait 25 = .ok (.getfield 161, 3) := dk_180 0 161 (dk_at dksX5_wait_1 1 rfl rfl)
theorem dX5_wait_28 : decode cX5_wait 28 = .ok (.iload_n 3, 1) := dk_29 (dk_at dksX5_wait_1 4 rfl rfl)
theorem dX5_wait_29 : decode cX5_wait 29 = .ok (.iastore, 1) := dk_79 (dk_at dksX5_wait_1 5 rfl rfl)
theorem dX5_wait_30 : decode cX5_wait 30 = .ok (.aload_n 0, 1) := dk_42 (dk_at dksX5_wait_1 6 rfl rfl)
theorem dX5_wait_31 : decode cX5_wait 31 = .ok (.dup, 1) := dk_89 (dk_at dksX5_wait_1 7 rfl rfl)
theorem dX5_wait_32 : decode cX5_wait 32 = .ok (.getfield 161, 3) := dk_180 0 161 (dk_at dksX5_wait_1 8 rfl rfl)
theorem dX5_wait_35 : decode cX5_wait 35 = .ok (.iconst 1, 1) := dk_4 (dk_at dksX5_wait_1 11 rfl rfl)
theorem dX5_wait_36 : decode cX5_wait 36 = .ok (.iadd, 1) := dk_96 (dk_at dksX5_wait_1 12 rfl rfl)
theorem dX5_wait_37 : decode cX5_wait 37 = .ok (.putfield 161, 3) := dk_181 0 161 (dk_at dksX5_wait_1 13 rfl rfl)
theorem dX5_wait_40 : decode cX5_wait 40 = .ok (.return_, 1) := dk_177 (dk_at dksX5_wait_1 16 rfl rfl)
abbrev cX5_open : ByteArray := prog_12_method_23_code
def yX5_open : MethodName := ⟨RX5, "open", "(II)V"⟩
def dkwX5_open_2 : List UInt8 := [180, 0, 137, 80, 42, 89, 180, 0, 147, 4, 96, 181, 0, 147, 177]
abbrev dktX5_open_2 : List UInt8 := dkwX5_open_2 ++ []
def dkwX5_open_1 : List UInt8 := [4, 96, 181, 0, 195, 42, 27, 28, 3, 182, 0, 198, 42, 180, 0, 42, 42, 180, 0, 161, 4, 100, 42]
abbrev dktX5_open_1 : List UInt8 := dkwX5_open_1 ++ dktX5_open_2
def dkwX5_open_0 : List UInt8 := [42, 180, 0, 195, 16, 12, 160, 0, 13, 42, 6, 42, 180, 0, 147, 182, 0, 157, 177, 42, 89, 180, 0, 195]
abbrev dktX5_open_0 : List UInt8 := dkwX5_open_0 ++ dktX5_open_1
theorem dksX5_open_0 : cX5_open.data.toList.drop 0 = dktX5_open_0 := by decide +kernel
theorem dksX5_open_1 : cX5_open.data.toList.drop 24 = dktX5_open_1 := dk_seg dksX5_open_0 24 rfl rfl
theorem dksX5_open_2 : cX5_open.data.toList.drop 47 = dktX5_open_2 := dk_seg dksX5_open_1 23 rfl rfl
theorem dX5_open_0 : decode cX5_open 0 = .ok (.aload_n 0, 1) := dk_42 (dk_at dksX5_open_0 0 rfl rfl)
theorem dX5_open_1 : decode cX5_open 1 = .ok (.getfield 195, 3) := dk_180 0 195 (dk_at dksX5_open_0 1 rfl rfl)
theorem dX5_open_4 : decode cX5_open 4 = .ok (.bipush 12, 2) := dk_16 12 (dk_at dksX5_open_0 4 rfl rfl)
theorem dX5_open_6 : decode cX5_open 6 = .ok (.if_icmp .ne 13, 3) := dk_160 0 13 (dk_at dksX5_open_0 6 rfl rfl)
theorem dX5_open_9 : decode cX5_open 9 = .ok (.aload_n 0, 1) := dk_42 (dk_at dksX5_open_0 9 rfl rfl)
theorem dX5_open_10 : decode cX5_open 10 = .ok (.iconst 3, 1) := dk_6 (dk_at dksX5_open_0 10 rfl rfl)
theorem dX5_open_11 : decode cX5_open 11 = .ok (.aload_n 0, 1) := dk_42 (dk_at dksX5_open_0 11 rfl rfl)
theorem dX5_open_12 : decode cX5_open 12 = .ok (.getfield 147, 3) := dk_180 0 147 (dk_at dksX5_open_0 12 rfl rfl)
theorem dX5_open_15 : decode cX5_open 15 = .ok (.invokevirtual 157, 3) := dk_182 0 157 (dk_at dksX5_open_0 15 rfl rfl)
theorem dX5_open_18 : decode cX5_open 18 = .ok (.return_, 1) := dk_177 (dk_at dksX5_open_0 18 rfl rfl)
theorem dX5_open_19 : decode cX5_open 19 = .ok (.aload_n 0, 1) := dk_42 (dk_at dksX5_open_0 19 rfl rfl)
theorem dX5_open_20 : decode cX5_open 20 = .ok (.dup, 1) := dk_89 (dk_at dksX5_open_0 20 rfl rfl)
theorem dX5_open_21 : decode cX5_open 21 = .ok (.getfield 195, 3) := dk_180 0 195 (dk_at dksX5_open_0 21 rfl rfl)
theorem dX5_open_24 : decode cX5_open 24 = .ok (.iconst 1, 1) := dk_4 (dk_at dksX5_open_1 0 rfl rfl)
theorem dX5_open_25 : decode cX5_open 25 = .ok (.iadd, 1) := dk_96 (dk_at dksX5_open_1 1 rfl rfl)
theorem dX5_open_26 : decode cX5_open 26 = .ok (.putfield 195, 3) := dk_181 0 195 (dk_at dksX5_open_1 2 rfl rfl)
theorem dX5_open_29 : decode cX5_open 29 = .ok (.aload_n 0, 1) := dk_42 (dk_at dksX5_open_1 5 rfl rfl)
theorem dX5_open_30 : decode cX5_open 30 = .ok (.iload_n 1, 1) := dk_27 (dk_at dksX5_open_1 6 rfl rfl)
theorem dX5_open_31 : decode cX5_open 31 = .ok (.iload_n 2, 1) := dk_28 (dk_at dksX5_open_1 7 rfl rfl)
theorem dX5_open_32 : decode cX5_open 32 = .ok (.iconst 0, 1) := dk_3 (dk_at dksX5_open_1 8 rfl rfl)
theorem dX5_open_33 : decode cX5_open 33 = .ok (.invokevirtual 198, 3) := dk_182 0 198 (dk_at dksX5_open_1 9 rfl rfl)
theorem dX5_open_36 : decode cX5_open 36 = .ok (.aload_n 0, 1) := dk_42 (dk_at dksX5_open_1 12 rfl rfl)
theorem dX5_open_37 : decode cX5_open 37 = .ok (.getfield 42, 3) := dk_180 0 42 (dk_at dksX5_open_1 13 rfl rfl)
theorem dX5_open_40 : decode cX5_open 40 = .ok (.aload_n 0, 1) := dk_42 (dk_at dksX5_open_1 16 rfl rfl)
theorem dX5_open_41 : decode cX5_open 41 = .ok (.getfield 161, 3) := dk_180 0 161 (dk_at dksX5_open_1 17 rfl rfl)
theorem dX5_open_44 : decode cX5_open 44 = .ok (.iconst 1, 1) := dk_4 (dk_at dksX5_open_1 20 rfl rfl)
theorem dX5_open_45 : decode cX5_open 45 = .ok (.isub, 1) := dk_100 (dk_at dksX5_open_1 21 rfl rfl)
theorem dX5_open_46 : decode cX5_open 46 = .ok (.aload_n 0, 1) := dk_42 (dk_at dksX5_open_1 22 rfl rfl)
theorem dX5_open_47 : decode cX5_open 47 = .ok (.getfield 137, 3) := dk_180 0 137 (dk_at dksX5_open_2 0 rfl rfl)
theorem dX5_open_50 : decode cX5_open 50 = .ok (.lastore, 1) := dk_80 (dk_at dksX5_open_2 3 rfl rfl)
theorem dX5_open_51 : decode cX5_open 51 = .ok (.aload_n 0, 1) := dk_42 (dk_at dksX5_open_2 4 rfl rfl)
theorem dX5_open_52 : decode cX5_open 52 = .ok (.dup, 1) := dk_89 (dk_at dksX5_open_2 5 rfl rfl)
theorem dX5_open_53 : decode cX5_open 53 = .ok (.getfield 147, 3) := dk_180 0 147 (dk_at dksX5_open_2 6 rfl rfl)
theorem dX5_open_56 : decode cX5_open 56 = .ok (.iconst 1, 1) := dk_4 (dk_at dksX5_open_2 9 rfl rfl)
theorem dX5_open_57 : decode cX5_open 57 = .ok (.iadd, 1) := dk_96 (dk_at dksX5_open_2 10 rfl rfl)
theorem dX5_open_58 : decode cX5_open 58 = .ok (.putfield 147, 3) := dk_181 0 147 (dk_at dksX5_open_2 11 rfl rfl)
theorem dX5_open_61 : decode cX5_open 61 = .ok (.return_, 1) := dk_177 (dk_at dksX5_open_2 14 rfl rfl)
abbrev cX5_readRow : ByteArray := prog_12_method_25_code
def yX5_readRow : MethodName := ⟨RX5, "readRow", "()Z"⟩
def dkwX5_readRow_8 : List UInt8 := [4, 42, 180, 0, 147, 182, 0, 157, 4, 172, 42, 16, 8, 42, 180, 0, 144, 182, 0, 215, 3, 172]
abbrev dktX5_readRow_8 : List UInt8 := dkwX5_readRow_8 ++ []
def dkwX5_readRow_7 : List UInt8 := [181, 0, 154, 42, 27, 28, 96, 181, 0, 147, 42, 42, 180, 0, 147, 182, 0, 130, 16, 40, 159, 0, 14, 42]
abbrev dktX5_readRow_7 : List UInt8 := dkwX5_readRow_7 ++ dktX5_readRow_8
def dkwX5_readRow_6 : List UInt8 := [4, 172, 42, 180, 0, 150, 153, 0, 11, 42, 7, 27, 182, 0, 157, 4, 172, 42, 89, 180, 0, 154, 4, 96]
abbrev dktX5_readRow_6 : List UInt8 := dkwX5_readRow_6 ++ dktX5_readRow_7
def dkwX5_readRow_5 : List UInt8 := [27, 16, 12, 96, 182, 0, 157, 4, 172, 42, 27, 28, 182, 0, 211, 154, 0, 11, 42, 4, 27, 182, 0, 157]
abbrev dktX5_readRow_5 : List UInt8 := dkwX5_readRow_5 ++ dktX5_readRow_6
def dkwX5_readRow_4 : List UInt8 := [180, 0, 154, 16, 20, 160, 0, 11, 42, 6, 27, 182, 0, 157, 4, 172, 28, 16, 12, 164, 0, 14, 42, 6]
abbrev dktX5_readRow_4 : List UInt8 := dkwX5_readRow_4 ++ dktX5_readRow_5
def dkwX5_readRow_3 : List UInt8 := [182, 0, 192, 42, 4, 29, 133, 182, 0, 167, 42, 89, 180, 0, 147, 4, 96, 181, 0, 147, 4, 172, 42]
abbrev dktX5_readRow_3 : List UInt8 := dkwX5_readRow_3 ++ dktX5_readRow_4
def dkwX5_readRow_2 : List UInt8 := [182, 0, 130, 182, 0, 208, 62, 29, 156, 0, 9, 42, 7, 27, 182, 0, 157, 42, 42, 180, 0, 144]
abbrev dktX5_readRow_2 : List UInt8 := dkwX5_readRow_2 ++ dktX5_readRow_3
def dkwX5_readRow_1 : List UInt8 := [182, 0, 130, 184, 0, 126, 153, 0, 61, 42, 27, 182, 0, 178, 153, 0, 51, 42, 42, 42, 180, 0, 147]
abbrev dktX5_readRow_1 : List UInt8 := dkwX5_readRow_1 ++ dktX5_readRow_2
def dkwX5_readRow_0 : List UInt8 := [42, 180, 0, 147, 60, 42, 42, 180, 0, 147, 182, 0, 205, 61, 28, 4, 160, 0, 75, 42, 42, 180, 0, 147]
abbrev dktX5_readRow_0 : List UInt8 := dkwX5_readRow_0 ++ dktX5_readRow_1
theorem dksX5_readRow_0 : cX5_readRow.data.toList.drop 0 = dktX5_readRow_0 := by decide +kernel
theorem dksX5_readRow_1 : cX5_readRow.data.toList.drop 24 = dktX5_readRow_1 := dk_seg dksX5_readRow_0 24 rfl rfl
theorem dksX5_readRow_2 : cX5_readRow.data.toList.drop 47 = dktX5_readRow_2 := dk_seg dksX5_readRow_1 23 rfl rfl
theorem dksX5_readRow_3 : cX5_readRow.data.toList.drop 69 = dktX5_readRow_3 := dk_seg dksX5_readRow_2 22 rfl rfl
theorem dksX5_readRow_4 : cX5_readRow.data.toList.drop 92 = dktX5_readRow_4 := dk_seg dksX5_readRow_3 23 rfl rfl
theorem dksX5_readRow_5 : cX5_readRow.data.toList.drop 116 = dktX5_readRow_5 := dk_seg dksX5_readRow_4 24 rfl rfl
theorem dksX5_readRow_6 : cX5_readRow.data.toList.drop 140 = dktX5_readRow_6 := dk_seg dksX5_readRow_5 24 rfl rfl
theorem dksX5_readRow_7 : cX5_readRow.data.toList.drop 164 = dktX5_readRow_7 := dk_seg dksX5_readRow_6 24 rfl rfl
theorem dksX5_readRow_8 : cX5_readRow.data.toList.drop 188 = dktX5_readRow_8 := dk_seg dksX5_readRow_7 24 rfl rfl
theorem dX5_readRow_0 : decode cX5_readRow 0 = .ok (.aload_n 0, 1) := dk_42 (dk_at dksX5_readRow_0 0 rfl rfl)
theorem dX5_readRow_1 : decode cX5_readRow 1 = .ok (.getfield 147, 3) := dk_180 0 147 (dk_at dksX5_readRow_0 1 rfl rfl)
theorem dX5_readRow_4 : decode cX5_readRow 4 = .ok (.istore_n 1, 1) := dk_60 (dk_at dksX5_readRow_0 4 rfl rfl)
theorem dX5_readRow_5 : decode cX5_readRow 5 = .ok (.aload_n 0, 1) := dk_42 (dk_at dksX5_readRow_0 5 rfl rfl)
theorem dX5_readRow_6 : decode cX5_readRow 6 = .ok (.aload_n 0, 1) := dk_42 (dk_at dksX5_readRow_0 6 rfl rfl)
theorem dX5_readRow_7 : decode cX5_readRow 7 = .ok (.getfield 147, 3) := dk_180 0 147 (dk_at dksX5_readRow_0 7 rfl rfl)
theorem dX5_readRow_10 : decode cX5_readRow 10 = .ok (.invokevirtual 205, 3) := dk_182 0 205 (dk_at dksX5_readRow_0 10 rfl rfl)
theorem dX5_readRow_13 : decode cX5_readRow 13 = .ok (.istore_n 2, 1) := dk_61 (dk_at dksX5_readRow_0 13 rfl rfl)
theorem dX5_readRow_14 : decode cX5_readRow 14 = .ok (.iload_n 2, 1) := dk_28 (dk_at dksX5_readRow_0 14 rfl rfl)
theorem dX5_readRow_15 : decode cX5_readRow 15 = .ok (.iconst 1, 1) := dk_4 (dk_at dksX5_readRow_0 15 rfl rfl)
theorem dX5_readRow_16 : decode cX5_readRow 16 = .ok (.if_icmp .ne 75, 3) := dk_160 0 75 (dk_at dksX5_readRow_0 16 rfl rfl)
theorem dX5_readRow_19 : decode cX5_readRow 19 = .ok (.aload_n 0, 1) := dk_42 (dk_at dksX5_readRow_0 19 rfl rfl)
theorem dX5_readRow_20 : decode cX5_readRow 20 = .ok (.aload_n 0, 1) := dk_42 (dk_at dksX5_readRow_0 20 rfl rfl)
theorem dX5_readRow_21 : decode cX5_readRow 21 = .ok (.getfield 147, 3) := dk_180 0 147 (dk_at dksX5_readRow_0 21 rfl rfl)
theorem dX5_readRow_24 : decode cX5_readRow 24 = .ok (.invokevirtual 130, 3) := dk_182 0 130 (dk_at dksX5_readRow_1 0 rfl rfl)
theorem dX5_readRow_27 : decode cX5_readRow 27 = .ok (.invokestatic 126, 3) := dk_184 0 126 (dk_at dksX5_readRow_1 3 rfl rfl)
theorem dX5_readRow_30 : decode cX5_readRow 30 = .ok (.ifCond .eq 61, 3) := dk_153 0 61 (dk_at dksX5_readRow_1 6 rfl rfl)
theorem dX5_readRow_33 : decode cX5_readRow 33 = .ok (.aload_n 0, 1) := dk_42 (dk_at dksX5_readRow_1 9 rfl rfl)
theorem dX5_readRow_34 : decode cX5_readRow 34 = .ok (.iload_n 1, 1) := dk_27 (dk_at dksX5_readRow_1 10 rfl rfl)
theorem dX5_readRow_35 : decode cX5_readRow 35 = .ok (.invokevirtual 178, 3) := dk_182 0 178 (dk_at dksX5_readRow_1 11 rfl rfl)
theorem dX5_readRow_38 : decode cX5_readRow 38 = .ok (.ifCond .eq 51, 3) := dk_153 0 51 (dk_at dksX5_readRow_1 14 rfl rfl)
theorem dX5_readRow_41 : decode cX5_readRow 41 = .ok (.aload_n 0, 1) := dk_42 (dk_at dksX5_readRow_1 17 rfl rfl)
theorem dX5_readRow_42 : decode cX5_readRow 42 = .ok (.aload_n 0, 1) := dk_42 (dk_at dksX5_readRow_1 18 rfl rfl)
theorem dX5_readRow_43 : decode cX5_readRow 43 = .ok (.aload_n 0, 1) := dk_42 (dk_at dksX5_readRow_1 19 rfl rfl)
theorem dX5_readRow_44 : decode cX5_readRow 44 = .ok (.getfield 147, 3) := dk_180 0 147 (dk_at dksX5_readRow_1 20 rfl rfl)
theorem dX5_readRow_47 : decode cX5_readRow 47 = .ok (.invokevirtual 130, 3) := dk_182 0 130 (dk_at dksX5_readRow_2 0 rfl rfl)
theorem dX5_readRow_50 : decode cX5_readRow 50 = .ok (.invokevirtual 208, 3) := dk_182 0 208 (dk_at dksX5_readRow_2 3 rfl rfl)
theorem dX5_readRow_53 : decode cX5_readRow 53 = .ok (.istore_n 3, 1) := dk_62 (dk_at dksX5_readRow_2 6 rfl rfl)
theorem dX5_readRow_54 : decode cX5_readRow 54 = .ok (.iload_n 3, 1) := dk_29 (dk_at dksX5_readRow_2 7 rfl rfl)
theorem dX5_readRow_55 : decode cX5_readRow 55 = .ok (.ifCond .ge 9, 3) := dk_156 0 9 (dk_at dksX5_readRow_2 8 rfl rfl)
theorem dX5_readRow_58 : decode cX5_readRow 58 = .ok (.aload_n 0, 1) := dk_42 (dk_at dksX5_readRow_2 11 rfl rfl)
theorem dX5_readRow_59 : decode cX5_readRow 59 = .ok (.iconst 4, 1) := dk_7 (dk_at dksX5_readRow_2 12 rfl rfl)
theorem dX5_readRow_60 : decode cX5_readRow 60 = .ok (.iload_n 1, 1) := dk_27 (dk_at dksX5_readRow_2 13 rfl rfl)
theorem dX5_readRow_61 : decode cX5_readRow 61 = .ok (.invokevirtual 157, 3) := dk_182 0 157 (dk_at dksX5_readRow_2 14 rfl rfl)
theorem dX5_readRow_64 : decode cX5_readRow 64 = .ok (.aload_n 0, 1) := dk_42 (dk_at dksX5_readRow_2 17 rfl rfl)
theorem dX5_readRow_65 : decode cX5_readRow 65 = .ok (.aload_n 0, 1) := dk_42 (dk_at dksX5_readRow_2 18 rfl rfl)
theorem dX5_readRow_66 : decode cX5_readRow 66 = .ok (.getfield 144, 3) := dk_180 0 144 (dk_at dksX5_readRow_2 19 rfl rfl)
theorem dX5_readRow_69 : decode cX5_readRow 69 = .ok (.invokevirtual 192, 3) := dk_182 0 192 (dk_at dksX5_readRow_3 0 rfl rfl)
theorem dX5_readRow_72 : decode cX5_readRow 72 = .ok (.aload_n 0, 1) := dk_42 (dk_at dksX5_readRow_3 3 rfl rfl)
theorem dX5_readRow_73 : decode cX5_readRow 73 = .ok (.iconst 1, 1) := dk_4 (dk_at dksX5_readRow_3 4 rfl rfl)
theorem dX5_readRow_74 : decode cX5_readRow 74 = .ok (.iload_n 3, 1) := dk_29 (dk_at dksX5_readRow_3 5 rfl rfl)
theorem dX5_readRow_75 : decode cX5_readRow 75 = .ok (.i2l, 1) := dk_133 (dk_at dksX5_readRow_3 6 rfl rfl)
theorem dX5_readRow_76 : decode cX5_readRow 76 = .ok (.invokevirtual 167, 3) := dk_182 0 167 (dk_at dksX5_readRow_3 7 rfl rfl)
theorem dX5_readRow_79 : decode cX5_readRow 79 = .ok (.aload_n 0, 1) := dk_42 (dk_at dksX5_readRow_3 10 rfl rfl)
theorem dX5_readRow_80 : decode cX5_readRow 80 = .ok (.dup, 1) := dk_89 (dk_at dksX5_readRow_3 11 rfl rfl)
theorem dX5_readRow_81 : decode cX5_readRow 81 = .ok (.getfield 147, 3) := dk_180 0 147 (dk_at dksX5_readRow_3 12 rfl rfl)
theorem dX5_readRow_84 : decode cX5_readRow 84 = .ok (.iconst 1, 1) := dk_4 (dk_at dksX5_readRow_3 15 rfl rfl)
theorem dX5_readRow_85 : decode cX5_readRow 85 = .ok (.iadd, 1) := dk_96 (dk_at dksX5_readRow_3 16 rfl rfl)
theorem dX5_readRow_86 : decode cX5_readRow 86 = .ok (.putfield 147, 3) := dk_181 0 147 (dk_at dksX5_readRow_3 17 rfl rfl)
theorem dX5_readRow_89 : decode cX5_readRow 89 = .ok (.iconst 1, 1) := dk_4 (dk_at dksX5_readRow_3 20 rfl rfl)
theorem dX5_readRow_90 : decode cX5_readRow 90 = .ok (.ireturn, 1) := dk_172 (dk_at dksX5_readRow_3 21 rfl rfl)
theorem dX5_readRow_91 : decode cX5_readRow 91 = .ok (.aload_n 0, 1) := dk_42 (dk_at dksX5_readRow_3 22 rfl rfl)
theorem dX5_readRow_92 : decode cX5_readRow 92 = .ok (.getfield 154, 3) := dk_180 0 154 (dk_at dksX5_readRow_4 0 rfl rfl)
theorem dX5_readRow_95 : decode cX5_readRow 95 = .ok (.bipush 20, 2) := dk_16 20 (dk_at dksX5_readRow_4 3 rfl rfl)
theorem dX5_readRow_97 : decode cX5_readRow 97 = .ok (.if_icmp .ne 11, 3) := dk_160 0 11 (dk_at dksX5_readRow_4 5 rfl rfl)
theorem dX5_readRow_100 : decode cX5_readRow 100 = .ok (.aload_n 0, 1) := dk_42 (dk_at dksX5_readRow_4 8 rfl rfl)
theorem dX5_readRow_101 : decode cX5_readRow 101 = .ok (.iconst 3, 1) := dk_6 (dk_at dksX5_readRow_4 9 rfl rfl)
theorem dX5_readRow_102 : decode cX5_readRow 102 = .ok (.iload_n 1, 1) := dk_27 (dk_at dksX5_readRow_4 10 rfl rfl)
theorem dX5_readRow_103 : decode cX5_readRow 103 = .ok (.invokevirtual 157, 3) := dk_182 0 157 (dk_at dksX5_readRow_4 11 rfl rfl)
theorem dX5_readRow_106 : decode cX5_readRow 106 = .ok (.iconst 1, 1) := dk_4 (dk_at dksX5_readRow_4 14 rfl rfl)
theorem dX5_readRow_107 : decode cX5_readRow 107 = .ok (.ireturn, 1) := dk_172 (dk_at dksX5_readRow_4 15 rfl rfl)
theorem dX5_readRow_108 : decode cX5_readRow 108 = .ok (.iload_n 2, 1) := dk_28 (dk_at dksX5_readRow_4 16 rfl rfl)
theorem dX5_readRow_109 : decode cX5_readRow 109 = .ok (.bipush 12, 2) := dk_16 12 (dk_at dksX5_readRow_4 17 rfl rfl)
theorem dX5_readRow_111 : decode cX5_readRow 111 = .ok (.if_icmp .le 14, 3) := dk_164 0 14 (dk_at dksX5_readRow_4 19 rfl rfl)
theorem dX5_readRow_114 : decode cX5_readRow 114 = .ok (.aload_n 0, 1) := dk_42 (dk_at dksX5_readRow_4 22 rfl rfl)
theorem dX5_readRow_115 : decode cX5_readRow 115 = .ok (.iconst 3, 1) := dk_6 (dk_at dksX5_readRow_4 23 rfl rfl)
theorem dX5_readRow_116 : decode cX5_readRow 116 = .ok (.iload_n 1, 1) := dk_27 (dk_at dksX5_readRow_5 0 rfl rfl)
theorem dX5_readRow_117 : decode cX5_readRow 117 = .ok (.bipush 12, 2) := dk_16 12 (dk_at dksX5_readRow_5 1 rfl rfl)
theorem dX5_readRow_119 : decode cX5_readRow 119 = .ok (.iadd, 1) := dk_96 (dk_at dksX5_readRow_5 3 rfl rfl)
theorem dX5_readRow_120 : decode cX5_readRow 120 = .ok (.invokevirtual 157, 3) := dk_182 0 157 (dk_at dksX5_readRow_5 4 rfl rfl)
theorem dX5_readRow_123 : decode cX5_readRow 123 = .ok (.iconst 1, 1) := dk_4 (dk_at dksX5_readRow_5 7 rfl rfl)
theorem dX5_readRow_124 : decode cX5_readRow 124 = .ok (.ireturn, 1) := dk_172 (dk_at dksX5_readRow_5 8 rfl rfl)
theorem dX5_readRow_125 : decode cX5_readRow 125 = .ok (.aload_n 0, 1) := dk_42 (dk_at dksX5_readRow_5 9 rfl rfl)
theorem dX5_readRow_126 : decode cX5_readRow 126 = .ok (.iload_n 1, 1) := dk_27 (dk_at dksX5_readRow_5 10 rfl rfl)
theorem dX5_readRow_127 : decode cX5_readRow 127 = .ok (.iload_n 2, 1) := dk_28 (dk_at dksX5_readRow_5 11 rfl rfl)
theorem dX5_readRow_128 : decode cX5_readRow 128 = .ok (.invokevirtual 211, 3) := dk_182 0 211 (dk_at dksX5_readRow_5 12 rfl rfl)
theorem dX5_readRow_131 : decode cX5_readRow 131 = .ok (.ifCond .ne 11, 3) := dk_154 0 11 (dk_at dksX5_readRow_5 15 rfl rfl)
theorem dX5_readRow_134 : decode cX5_readRow 134 = .ok (.aload_n 0, 1) := dk_42 (dk_at dksX5_readRow_5 18 rfl rfl)
theorem dX5_readRow_135 : decode cX5_readRow 135 = .ok (.iconst 1, 1) := dk_4 (dk_at dksX5_readRow_5 19 rfl rfl)
theorem dX5_readRow_136 : decode cX5_readRow 136 = .ok (.iload_n 1, 1) := dk_27 (dk_at dksX5_readRow_5 20 rfl rfl)
theorem dX5_readRow_137 : decode cX5_readRow 137 = .ok (.invokevirtual 157, 3) := dk_182 0 157 (dk_at dksX5_readRow_5 21 rfl rfl)
theorem dX5_readRow_140 : decode cX5_readRow 140 = .ok (.iconst 1, 1) := dk_4 (dk_at dksX5_readRow_6 0 rfl rfl)
theorem dX5_readRow_141 : decode cX5_readRow 141 = .ok (.ireturn, 1) := dk_172 (dk_at dksX5_readRow_6 1 rfl rfl)
theorem dX5_readRow_142 : decode cX5_readRow 142 = .ok (.aload_n 0, 1) := dk_42 (dk_at dksX5_readRow_6 2 rfl rfl)
theorem dX5_readRow_143 : decode cX5_readRow 143 = .ok (.getfield 150, 3) := dk_180 0 150 (dk_at dksX5_readRow_6 3 rfl rfl)
theorem dX5_readRow_146 : decode cX5_readRow 146 = .ok (.ifCond .eq 11, 3) := dk_153 0 11 (dk_at dksX5_readRow_6 6 rfl rfl)
theorem dX5_readRow_149 : decode cX5_readRow 149 = .ok (.aload_n 0, 1) := dk_42 (dk_at dksX5_readRow_6 9 rfl rfl)
theorem dX5_readRow_150 : decode cX5_readRow 150 = .ok (.iconst 4, 1) := dk_7 (dk_at dksX5_readRow_6 10 rfl rfl)
theorem dX5_readRow_151 : decode cX5_readRow 151 = .ok (.iload_n 1, 1) := dk_27 (dk_at dksX5_readRow_6 11 rfl rfl)
theorem dX5_readRow_152 : decode cX5_readRow 152 = .ok (.invokevirtual 157, 3) := dk_182 0 157 (dk_at dksX5_readRow_6 12 rfl rfl)
theorem dX5_readRow_155 : decode cX5_readRow 155 = .ok (.iconst 1, 1) := dk_4 (dk_at dksX5_readRow_6 15 rfl rfl)
theorem dX5_readRow_156 : decode cX5_readRow 156 = .ok (.ireturn, 1) := dk_172 (dk_at dksX5_readRow_6 16 rfl rfl)
theorem dX5_readRow_157 : decode cX5_readRow 157 = .ok (.aload_n 0, 1) := dk_42 (dk_at dksX5_readRow_6 17 rfl rfl)
theorem dX5_readRow_158 : decode cX5_readRow 158 = .ok (.dup, 1) := dk_89 (dk_at dksX5_readRow_6 18 rfl rfl)
theorem dX5_readRow_159 : decode cX5_readRow 159 = .ok (.getfield 154, 3) := dk_180 0 154 (dk_at dksX5_readRow_6 19 rfl rfl)
theorem dX5_readRow_162 : decode cX5_readRow 162 = .ok (.iconst 1, 1) := dk_4 (dk_at dksX5_readRow_6 22 rfl rfl)
theorem dX5_readRow_163 : decode cX5_readRow 163 = .ok (.iadd, 1) := dk_96 (dk_at dksX5_readRow_6 23 rfl rfl)
theorem dX5_readRow_164 : decode cX5_readRow 164 = .ok (.putfield 154, 3) := dk_181 0 154 (dk_at dksX5_readRow_7 0 rfl rfl)
theorem dX5_readRow_167 : decode cX5_readRow 167 = .ok (.aload_n 0, 1) := dk_42 (dk_at dksX5_readRow_7 3 rfl rfl)
theorem dX5_readRow_168 : decode cX5_readRow 168 = .ok (.iload_n 1, 1) := dk_27 (dk_at dksX5_readRow_7 4 rfl rfl)
theorem dX5_readRow_169 : decode cX5_readRow 169 = .ok (.iload_n 2, 1) := dk_28 (dk_at dksX5_readRow_7 5 rfl rfl)
theorem dX5_readRow_170 : decode cX5_readRow 170 = .ok (.iadd, 1) := dk_96 (dk_at dksX5_readRow_7 6 rfl rfl)
theorem dX5_readRow_171 : decode cX5_readRow 171 = .ok (.putfield 147, 3) := dk_181 0 147 (dk_at dksX5_readRow_7 7 rfl rfl)
theorem dX5_readRow_174 : decode cX5_readRow 174 = .ok (.aload_n 0, 1) := dk_42 (dk_at dksX5_readRow_7 10 rfl rfl)
theorem dX5_readRow_175 : decode cX5_readRow 175 = .ok (.aload_n 0, 1) := dk_42 (dk_at dksX5_readRow_7 11 rfl rfl)
theorem dX5_readRow_176 : decode cX5_readRow 176 = .ok (.getfield 147, 3) := dk_180 0 147 (dk_at dksX5_readRow_7 12 rfl rfl)
theorem dX5_readRow_179 : decode cX5_readRow 179 = .ok (.invokevirtual 130, 3) := dk_182 0 130 (dk_at dksX5_readRow_7 15 rfl rfl)
theorem dX5_readRow_182 : decode cX5_readRow 182 = .ok (.bipush 40, 2) := dk_16 40 (dk_at dksX5_readRow_7 18 rfl rfl)
theorem dX5_readRow_184 : decode cX5_readRow 184 = .ok (.if_icmp .eq 14, 3) := dk_159 0 14 (dk_at dksX5_readRow_7 20 rfl rfl)
theorem dX5_readRow_187 : decode cX5_readRow 187 = .ok (.aload_n 0, 1) := dk_42 (dk_at dksX5_readRow_7 23 rfl rfl)
theorem dX5_readRow_188 : decode cX5_readRow 188 = .ok (.iconst 1, 1) := dk_4 (dk_at dksX5_readRow_8 0 rfl rfl)
theorem dX5_readRow_189 : decode cX5_readRow 189 = .ok (.aload_n 0, 1) := dk_42 (dk_at dksX5_readRow_8 1 rfl rfl)
theorem dX5_readRow_190 : decode cX5_readRow 190 = .ok (.getfield 147, 3) := dk_180 0 147 (dk_at dksX5_readRow_8 2 rfl rfl)
theorem dX5_readRow_193 : decode cX5_readRow 193 = .ok (.invokevirtual 157, 3) := dk_182 0 157 (dk_at dksX5_readRow_8 5 rfl rfl)
theorem dX5_readRow_196 : decode cX5_readRow 196 = .ok (.iconst 1, 1) := dk_4 (dk_at dksX5_readRow_8 8 rfl rfl)
theorem dX5_readRow_197 : decode cX5_readRow 197 = .ok (.ireturn, 1) := dk_172 (dk_at dksX5_readRow_8 9 rfl rfl)
theorem dX5_readRow_198 : decode cX5_readRow 198 = .ok (.aload_n 0, 1) := dk_42 (dk_at dksX5_readRow_8 10 rfl rfl)
theorem dX5_readRow_199 : decode cX5_readRow 199 = .ok (.bipush 8, 2) := dk_16 8 (dk_at dksX5_readRow_8 11 rfl rfl)
theorem dX5_readRow_201 : decode cX5_readRow 201 = .ok (.aload_n 0, 1) := dk_42 (dk_at dksX5_readRow_8 13 rfl rfl)
theorem dX5_readRow_202 : decode cX5_readRow 202 = .ok (.getfield 144, 3) := dk_180 0 144 (dk_at dksX5_readRow_8 14 rfl rfl)
theorem dX5_readRow_205 : decode cX5_readRow 205 = .ok (.invokevirtual 215, 3) := dk_182 0 215 (dk_at dksX5_readRow_8 17 rfl rfl)
theorem dX5_readRow_208 : decode cX5_readRow 208 = .ok (.iconst 0, 1) := dk_3 (dk_at dksX5_readRow_8 20 rfl rfl)
theorem dX5_readRow_209 : decode cX5_readRow 209 = .ok (.ireturn, 1) := dk_172 (dk_at dksX5_readRow_8 21 rfl rfl)
abbrev cX5_variableOf : ByteArray := prog_12_method_24_code
def yX5_variableOf : MethodName := ⟨RX5, "variableOf", "(I)I"⟩
def dkwX5_variableOf_5 : List UInt8 := [16, 103, 159, 0, 7, 28, 167, 0, 4, 2, 172]
abbrev dktX5_variableOf_5 : List UInt8 := dkwX5_variableOf_5 ++ []
def dkwX5_variableOf_4 : List UInt8 := [16, 6, 163, 0, 31, 27, 16, 100, 159, 0, 25, 27, 16, 101, 159, 0, 19, 27, 16, 102, 159, 0, 13, 27]
abbrev dktX5_variableOf_4 : List UInt8 := dkwX5_variableOf_4 ++ dktX5_variableOf_5
def dkwX5_variableOf_3 : List UInt8 := [180, 0, 202, 161, 0, 49, 42, 180, 0, 150, 153, 0, 46, 29, 154, 0, 38, 28, 6, 161, 0, 37, 28]
abbrev dktX5_variableOf_3 : List UInt8 := dkwX5_variableOf_3 ++ dktX5_variableOf_4
def dkwX5_variableOf_2 : List UInt8 := [16, 97, 161, 0, 13, 27, 16, 99, 163, 0, 7, 4, 167, 0, 4, 3, 62, 29, 153, 0, 11, 28, 42]
abbrev dktX5_variableOf_2 : List UInt8 := dkwX5_variableOf_2 ++ dktX5_variableOf_3
def dkwX5_variableOf_1 : List UInt8 := [160, 0, 7, 8, 167, 0, 18, 27, 16, 107, 160, 0, 8, 16, 6, 167, 0, 7, 27, 16, 97, 100, 61, 27]
abbrev dktX5_variableOf_1 : List UInt8 := dkwX5_variableOf_1 ++ dktX5_variableOf_2
def dkwX5_variableOf_0 : List UInt8 := [27, 16, 114, 160, 0, 7, 6, 167, 0, 38, 27, 16, 120, 160, 0, 7, 7, 167, 0, 28, 27, 16, 110]
abbrev dktX5_variableOf_0 : List UInt8 := dkwX5_variableOf_0 ++ dktX5_variableOf_1
theorem dksX5_variableOf_0 : cX5_variableOf.data.toList.drop 0 = dktX5_variableOf_0 := by decide +kernel
theorem dksX5_variableOf_1 : cX5_variableOf.data.toList.drop 23 = dktX5_variableOf_1 := dk_seg dksX5_variableOf_0 23 rfl rfl
theorem dksX5_variableOf_2 : cX5_variableOf.data.toList.drop 47 = dktX5_variableOf_2 := dk_seg dksX5_variableOf_1 24 rfl rfl
theorem dksX5_variableOf_3 : cX5_variableOf.data.toList.drop 70 = dktX5_variableOf_3 := dk_seg dksX5_variableOf_2 23 rfl rfl
theorem dksX5_variableOf_4 : cX5_variableOf.data.toList.drop 93 = dktX5_variableOf_4 := dk_seg dksX5_variableOf_3 23 rfl rfl
theorem dksX5_variableOf_5 : cX5_variableOf.data.toList.drop 117 = dktX5_variableOf_5 := dk_seg dksX5_variableOf_4 24 rfl rfl
theorem dX5_variableOf_0 : decode cX5_variableOf 0 = .ok (.iload_n 1, 1) := dk_27 (dk_at dksX5_variableOf_0 0 rfl rfl)
theorem dX5_variableOf_1 : decode cX5_variableOf 1 = .ok (.bipush 114, 2) := dk_16 114 (dk_at dksX5_variableOf_0 1 rfl rfl)
theorem dX5_variableOf_3 : decode cX5_variableOf 3 = .ok (.if_icmp .ne 7, 3) := dk_160 0 7 (dk_at dksX5_variableOf_0 3 rfl rfl)
theorem dX5_variableOf_6 : decode cX5_variableOf 6 = .ok (.iconst 3, 1) := dk_6 (dk_at dksX5_variableOf_0 6 rfl rfl)
theorem dX5_variableOf_7 : decode cX5_variableOf 7 = .ok (.goto 38, 3) := dk_167 0 38 (dk_at dksX5_variableOf_0 7 rfl rfl)
theorem dX5_variableOf_10 : decode cX5_variableOf 10 = .ok (.iload_n 1, 1) := dk_27 (dk_at dksX5_variableOf_0 10 rfl rfl)
theorem dX5_variableOf_11 : decode cX5_variableOf 11 = .ok (.bipush 120, 2) := dk_16 120 (dk_at dksX5_variableOf_0 11 rfl rfl)
theorem dX5_variableOf_13 : decode cX5_variableOf 13 = .ok (.if_icmp .ne 7, 3) := dk_160 0 7 (dk_at dksX5_variableOf_0 13 rfl rfl)
theorem dX5_variableOf_16 : decode cX5_variableOf 16 = .ok (.iconst 4, 1) := dk_7 (dk_at dksX5_variableOf_0 16 rfl rfl)
theorem dX5_variableOf_17 : decode cX5_variableOf 17 = .ok (.goto 28, 3) := dk_167 0 28 (dk_at dksX5_variableOf_0 17 rfl rfl)
theorem dX5_variableOf_20 : decode cX5_variableOf 20 = .ok (.iload_n 1, 1) := dk_27 (dk_at dksX5_variableOf_0 20 rfl rfl)
theorem dX5_variableOf_21 : decode cX5_variableOf 21 = .ok (.bipush 110, 2) := dk_16 110 (dk_at dksX5_variableOf_0 21 rfl rfl)
theorem dX5_variableOf_23 : decode cX5_variableOf 23 = .ok (.if_icmp .ne 7, 3) := dk_160 0 7 (dk_at dksX5_variableOf_1 0 rfl rfl)
theorem dX5_variableOf_26 : decode cX5_variableOf 26 = .ok (.iconst 5, 1) := dk_8 (dk_at dksX5_variableOf_1 3 rfl rfl)
theorem dX5_variableOf_27 : decode cX5_variableOf 27 = .ok (.goto 18, 3) := dk_167 0 18 (dk_at dksX5_variableOf_1 4 rfl rfl)
theorem dX5_variableOf_30 : decode cX5_variableOf 30 = .ok (.iload_n 1, 1) := dk_27 (dk_at dksX5_variableOf_1 7 rfl rfl)
theorem dX5_variableOf_31 : decode cX5_variableOf 31 = .ok (.bipush 107, 2) := dk_16 107 (dk_at dksX5_variableOf_1 8 rfl rfl)
theorem dX5_variableOf_33 : decode cX5_variableOf 33 = .ok (.if_icmp .ne 8, 3) := dk_160 0 8 (dk_at dksX5_variableOf_1 10 rfl rfl)
theorem dX5_variableOf_36 : decode cX5_variableOf 36 = .ok (.bipush 6, 2) := dk_16 6 (dk_at dksX5_variableOf_1 13 rfl rfl)
theorem dX5_variableOf_38 : decode cX5_variableOf 38 = .ok (.goto 7, 3) := dk_167 0 7 (dk_at dksX5_variableOf_1 15 rfl rfl)
theorem dX5_variableOf_41 : decode cX5_variableOf 41 = .ok (.iload_n 1, 1) := dk_27 (dk_at dksX5_variableOf_1 18 rfl rfl)
theorem dX5_variableOf_42 : decode cX5_variableOf 42 = .ok (.bipush 97, 2) := dk_16 97 (dk_at dksX5_variableOf_1 19 rfl rfl)
theorem dX5_variableOf_44 : decode cX5_variableOf 44 = .ok (.isub, 1) := dk_100 (dk_at dksX5_variableOf_1 21 rfl rfl)
theorem dX5_variableOf_45 : decode cX5_variableOf 45 = .ok (.istore_n 2, 1) := dk_61 (dk_at dksX5_variableOf_1 22 rfl rfl)
theorem dX5_variableOf_46 : decode cX5_variableOf 46 = .ok (.iload_n 1, 1) := dk_27 (dk_at dksX5_variableOf_1 23 rfl rfl)
theorem dX5_variableOf_47 : decode cX5_variableOf 47 = .ok (.bipush 97, 2) := dk_16 97 (dk_at dksX5_variableOf_2 0 rfl rfl)
theorem dX5_variableOf_49 : decode cX5_variableOf 49 = .ok (.if_icmp .lt 13, 3) := dk_161 0 13 (dk_at dksX5_variableOf_2 2 rfl rfl)
theorem dX5_variableOf_52 : decode cX5_variableOf 52 = .ok (.iload_n 1, 1) := dk_27 (dk_at dksX5_variableOf_2 5 rfl rfl)
theorem dX5_variableOf_53 : decode cX5_variableOf 53 = .ok (.bipush 99, 2) := dk_16 99 (dk_at dksX5_variableOf_2 6 rfl rfl)
theorem dX5_variableOf_55 : decode cX5_variableOf 55 = .ok (.if_icmp .gt 7, 3) := dk_163 0 7 (dk_at dksX5_variableOf_2 8 rfl rfl)
theorem dX5_variableOf_58 : decode cX5_variableOf 58 = .ok (.iconst 1, 1) := dk_4 (dk_at dksX5_variableOf_2 11 rfl rfl)
theorem dX5_variableOf_59 : decode cX5_variableOf 59 = .ok (.goto 4, 3) := dk_167 0 4 (dk_at dksX5_variableOf_2 12 rfl rfl)
theorem dX5_variableOf_62 : decode cX5_variableOf 62 = .ok (.iconst 0, 1) := dk_3 (dk_at dksX5_variableOf_2 15 rfl rfl)
theorem dX5_variableOf_63 : decode cX5_variableOf 63 = .ok (.istore_n 3, 1) := dk_62 (dk_at dksX5_variableOf_2 16 rfl rfl)
theorem dX5_variableOf_64 : decode cX5_variableOf 64 = .ok (.iload_n 3, 1) := dk_29 (dk_at dksX5_variableOf_2 17 rfl rfl)
theorem dX5_variableOf_65 : decode cX5_variableOf 65 = .ok (.ifCond .eq 11, 3) := dk_153 0 11 (dk_at dksX5_variableOf_2 18 rfl rfl)
theorem dX5_variableOf_68 : decode cX5_variableOf 68 = .ok (.iload_n 2, 1) := dk_28 (dk_at dksX5_variableOf_2 21 rfl rfl)
theorem dX5_variableOf_69 : decode cX5_variableOf 69 = .ok (.aload_n 0, 1) := dk_42 (dk_at dksX5_variableOf_2 22 rfl rfl)
theorem dX5_variableOf_70 : decode cX5_variableOf 70 = .ok (.getfield 202, 3) := dk_180 0 202 (dk_at dksX5_variableOf_3 0 rfl rfl)
theorem dX5_variableOf_73 : decode cX5_variableOf 73 = .ok (.if_icmp .lt 49, 3) := dk_161 0 49 (dk_at dksX5_variableOf_3 3 rfl rfl)
theorem dX5_variableOf_76 : decode cX5_variableOf 76 = .ok (.aload_n 0, 1) := dk_42 (dk_at dksX5_variableOf_3 6 rfl rfl)
theorem dX5_variableOf_77 : decode cX5_variableOf 77 = .ok (.getfield 150, 3) := dk_180 0 150 (dk_at dksX5_variableOf_3 7 rfl rfl)
theorem dX5_variableOf_80 : decode cX5_variableOf 80 = .ok (.ifCond .eq 46, 3) := dk_153 0 46 (dk_at dksX5_variableOf_3 10 rfl rfl)
theorem dX5_variableOf_83 : decode cX5_variableOf 83 = .ok (.iload_n 3, 1) := dk_29 (dk_at dksX5_variableOf_3 13 rfl rfl)
theorem dX5_variableOf_84 : decode cX5_variableOf 84 = .ok (.ifCond .ne 38, 3) := dk_154 0 38 (dk_at dksX5_variableOf_3 14 rfl rfl)
theorem dX5_variableOf_87 : decode cX5_variableOf 87 = .ok (.iload_n 2, 1) := dk_28 (dk_at dksX5_variableOf_3 17 rfl rfl)
theorem dX5_variableOf_88 : decode cX5_variableOf 88 = .ok (.iconst 3, 1) := dk_6 (dk_at dksX5_variableOf_3 18 rfl rfl)
theorem dX5_variableOf_89 : decode cX5_variableOf 89 = .ok (.if_icmp .lt 37, 3) := dk_161 0 37 (dk_at dksX5_variableOf_3 19 rfl rfl)
theorem dX5_variableOf_92 : decode cX5_variableOf 92 = .ok (.iload_n 2, 1) := dk_28 (dk_at dksX5_variableOf_3 22 rfl rfl)
theorem dX5_variableOf_93 : decode cX5_variableOf 93 = .ok (.bipush 6, 2) := dk_16 6 (dk_at dksX5_variableOf_4 0 rfl rfl)
theorem dX5_variableOf_95 : decode cX5_variableOf 95 = .ok (.if_icmp .gt 31, 3) := dk_163 0 31 (dk_at dksX5_variableOf_4 2 rfl rfl)
theorem dX5_variableOf_98 : decode cX5_variableOf 98 = .ok (.iload_n 1, 1) := dk_27 (dk_at dksX5_variableOf_4 5 rfl rfl)
theorem dX5_variableOf_99 : decode cX5_variableOf 99 = .ok (.bipush 100, 2) := dk_16 100 (dk_at dksX5_variableOf_4 6 rfl rfl)
theorem dX5_variableOf_101 : decode cX5_variableOf 101 = .ok (.if_icmp .eq 25, 3) := dk_159 0 25 (dk_at dksX5_variableOf_4 8 rfl rfl)
theorem dX5_variableOf_104 : decode cX5_variableOf 104 = .ok (.iload_n 1, 1) := dk_27 (dk_at dksX5_variableOf_4 11 rfl rfl)
theorem dX5_variableOf_105 : decode cX5_variableOf 105 = .ok (.bipush 101, 2) := dk_16 101 (dk_at dksX5_variableOf_4 12 rfl rfl)
theorem dX5_variableOf_107 : decode cX5_variableOf 107 = .ok (.if_icmp .eq 19, 3) := dk_159 0 19 (dk_at dksX5_variableOf_4 14 rfl rfl)
theorem dX5_variableOf_110 : decode cX5_variableOf 110 = .ok (.iload_n 1, 1) := dk_27 (dk_at dksX5_variableOf_4 17 rfl rfl)
theorem dX5_variableOf_111 : decode cX5_variableOf 111 = .ok (.bipush 102, 2) := dk_16 102 (dk_at dksX5_variableOf_4 18 rfl rfl)
theorem dX5_variableOf_113 : decode cX5_variableOf 113 = .ok (.if_icmp .eq 13, 3) := dk_159 0 13 (dk_at dksX5_variableOf_4 20 rfl rfl)
theorem dX5_variableOf_116 : decode cX5_variableOf 116 = .ok (.iload_n 1, 1) := dk_27 (dk_at dksX5_variableOf_4 23 rfl rfl)
theorem dX5_variableOf_117 : decode cX5_variableOf 117 = .ok (.bipush 103, 2) := dk_16 103 (dk_at dksX5_variableOf_5 0 rfl rfl)
theorem dX5_variableOf_119 : decode cX5_variableOf 119 = .ok (.if_icmp .eq 7, 3) := dk_159 0 7 (dk_at dksX5_variableOf_5 2 rfl rfl)
theorem dX5_variableOf_122 : decode cX5_variableOf 122 = .ok (.iload_n 2, 1) := dk_28 (dk_at dksX5_variableOf_5 5 rfl rfl)
theorem dX5_variableOf_123 : decode cX5_variableOf 123 = .ok (.goto 4, 3) := dk_167 0 4 (dk_at dksX5_variableOf_5 6 rfl rfl)
theorem dX5_variableOf_126 : decode cX5_variableOf 126 = .ok (.iconst (-1), 1) := dk_2 (dk_at dksX5_variableOf_5 9 rfl rfl)
theorem dX5_variableOf_127 : decode cX5_variableOf 127 = .ok (.ireturn, 1) := dk_172 (dk_at dksX5_variableOf_5 10 rfl rfl)
abbrev cX5_readSign : ByteArray := prog_12_method_33_code
def yX5_readSign : MethodName := ⟨RX5, "readSign", "()Z"⟩
def dkwX5_readSign_6 : List UInt8 := [160, 0, 9, 42, 182, 0, 226, 3, 172, 42, 4, 42, 180, 0, 147, 182, 0, 157, 4, 172]
abbrev dktX5_readSign_6 : List UInt8 := dkwX5_readSign_6 ++ []
def dkwX5_readSign_5 : List UInt8 := [182, 0, 247, 167, 0, 37, 27, 16, 44, 160, 0, 10, 42, 182, 0, 250, 167, 0, 24, 27, 16, 41]
abbrev dktX5_readSign_5 : List UInt8 := dkwX5_readSign_5 ++ dktX5_readSign_6
def dkwX5_readSign_4 : List UInt8 := [167, 0, 64, 27, 16, 42, 159, 0, 15, 27, 16, 47, 159, 0, 9, 27, 16, 37, 160, 0, 12, 42, 8, 27]
abbrev dktX5_readSign_4 : List UInt8 := dkwX5_readSign_4 ++ dktX5_readSign_5
def dkwX5_readSign_3 : List UInt8 := [182, 0, 247, 167, 0, 85, 27, 16, 43, 159, 0, 9, 27, 16, 45, 160, 0, 12, 42, 7, 27, 182, 0, 247]
abbrev dktX5_readSign_3 : List UInt8 := dkwX5_readSign_3 ++ dktX5_readSign_4
def dkwX5_readSign_2 : List UInt8 := [167, 0, 112, 27, 16, 60, 159, 0, 15, 27, 16, 61, 159, 0, 9, 27, 16, 62, 160, 0, 12, 42, 6, 27]
abbrev dktX5_readSign_2 : List UInt8 := dkwX5_readSign_2 ++ dktX5_readSign_3
def dkwX5_readSign_1 : List UInt8 := [16, 63, 160, 0, 10, 42, 182, 0, 241, 167, 0, 125, 27, 16, 58, 160, 0, 10, 42, 182, 0, 244]
abbrev dktX5_readSign_1 : List UInt8 := dkwX5_readSign_1 ++ dktX5_readSign_2
def dkwX5_readSign_0 : List UInt8 := [42, 42, 180, 0, 147, 182, 0, 130, 60, 27, 16, 35, 160, 0, 10, 42, 182, 0, 238, 167, 0, 138, 27]
abbrev dktX5_readSign_0 : List UInt8 := dkwX5_readSign_0 ++ dktX5_readSign_1
theorem dksX5_readSign_0 : cX5_readSign.data.toList.drop 0 = dktX5_readSign_0 := by decide +kernel
theorem dksX5_readSign_1 : cX5_readSign.data.toList.drop 23 = dktX5_readSign_1 := dk_seg dksX5_readSign_0 23 rfl rfl
theorem dksX5_readSign_2 : cX5_readSign.data.toList.drop 45 = dktX5_readSign_2 := dk_seg dksX5_readSign_1 22 rfl rfl
theorem dksX5_readSign_3 : cX5_readSign.data.toList.drop 69 = dktX5_readSign_3 := dk_seg dksX5_readSign_2 24 rfl rfl
theorem dksX5_readSign_4 : cX5_readSign.data.toList.drop 93 = dktX5_readSign_4 := dk_seg dksX5_readSign_3 24 rfl rfl
theorem dksX5_readSign_5 : cX5_readSign.data.toList.drop 117 = dktX5_readSign_5 := dk_seg dksX5_readSign_4 24 rfl rfl
theorem dksX5_readSign_6 : cX5_readSign.data.toList.drop 139 = dktX5_readSign_6 := dk_seg dksX5_readSign_5 22 rfl rfl
theorem dX5_readSign_0 : decode cX5_readSign 0 = .ok (.aload_n 0, 1) := dk_42 (dk_at dksX5_readSign_0 0 rfl rfl)
theorem dX5_readSign_1 : decode cX5_readSign 1 = .ok (.aload_n 0, 1) := dk_42 (dk_at dksX5_readSign_0 1 rfl rfl)
theorem dX5_readSign_2 : decode cX5_readSign 2 = .ok (.getfield 147, 3) := dk_180 0 147 (dk_at dksX5_readSign_0 2 rfl rfl)
theorem dX5_readSign_5 : decode cX5_readSign 5 = .ok (.invokevirtual 130, 3) := dk_182 0 130 (dk_at dksX5_readSign_0 5 rfl rfl)
theorem dX5_readSign_8 : decode cX5_readSign 8 = .ok (.istore_n 1, 1) := dk_60 (dk_at dksX5_readSign_0 8 rfl rfl)
theorem dX5_readSign_9 : decode cX5_readSign 9 = .ok (.iload_n 1, 1) := dk_27 (dk_at dksX5_readSign_0 9 rfl rfl)
theorem dX5_readSign_10 : decode cX5_readSign 10 = .ok (.bipush 35, 2) := dk_16 35 (dk_at dksX5_readSign_0 10 rfl rfl)
theorem dX5_readSign_12 : decode cX5_readSign 12 = .ok (.if_icmp .ne 10, 3) := dk_160 0 10 (dk_at dksX5_readSign_0 12 rfl rfl)
theorem dX5_readSign_15 : decode cX5_readSign 15 = .ok (.aload_n 0, 1) := dk_42 (dk_at dksX5_readSign_0 15 rfl rfl)
theorem dX5_readSign_16 : decode cX5_readSign 16 = .ok (.invokevirtual 238, 3) := dk_182 0 238 (dk_at dksX5_readSign_0 16 rfl rfl)
theorem dX5_readSign_19 : decode cX5_readSign 19 = .ok (.goto 138, 3) := dk_167 0 138 (dk_at dksX5_readSign_0 19 rfl rfl)
theorem dX5_readSign_22 : decode cX5_readSign 22 = .ok (.iload_n 1, 1) := dk_27 (dk_at dksX5_readSign_0 22 rfl rfl)
theorem dX5_readSign_23 : decode cX5_readSign 23 = .ok (.bipush 63, 2) := dk_16 63 (dk_at dksX5_readSign_1 0 rfl rfl)
theorem dX5_readSign_25 : decode cX5_readSign 25 = .ok (.if_icmp .ne 10, 3) := dk_160 0 10 (dk_at dksX5_readSign_1 2 rfl rfl)
theorem dX5_readSign_28 : decode cX5_readSign 28 = .ok (.aload_n 0, 1) := dk_42 (dk_at dksX5_readSign_1 5 rfl rfl)
theorem dX5_readSign_29 : decode cX5_readSign 29 = .ok (.invokevirtual 241, 3) := dk_182 0 241 (dk_at dksX5_readSign_1 6 rfl rfl)
theorem dX5_readSign_32 : decode cX5_readSign 32 = .ok (.goto 125, 3) := dk_167 0 125 (dk_at dksX5_readSign_1 9 rfl rfl)
theorem dX5_readSign_35 : decode cX5_readSign 35 = .ok (.iload_n 1, 1) := dk_27 (dk_at dksX5_readSign_1 12 rfl rfl)
theorem dX5_readSign_36 : decode cX5_readSign 36 = .ok (.bipush 58, 2) := dk_16 58 (dk_at dksX5_readSign_1 13 rfl rfl)
theorem dX5_readSign_38 : decode cX5_readSign 38 = .ok (.if_icmp .ne 10, 3) := dk_160 0 10 (dk_at dksX5_readSign_1 15 rfl rfl)
theorem dX5_readSign_41 : decode cX5_readSign 41 = .ok (.aload_n 0, 1) := dk_42 (dk_at dksX5_readSign_1 18 rfl rfl)
theorem dX5_readSign_42 : decode cX5_readSign 42 = .ok (.invokevirtual 244, 3) := dk_182 0 244 (dk_at dksX5_readSign_1 19 rfl rfl)
theorem dX5_readSign_45 : decode cX5_readSign 45 = .ok (.goto 112, 3) := dk_167 0 112 (dk_at dksX5_readSign_2 0 rfl rfl)
theorem dX5_readSign_48 : decode cX5_readSign 48 = .ok (.iload_n 1, 1) := dk_27 (dk_at dksX5_readSign_2 3 rfl rfl)
theorem dX5_readSign_49 : decode cX5_readSign 49 = .ok (.bipush 60, 2) := dk_16 60 (dk_at dksX5_readSign_2 4 rfl rfl)
theorem dX5_readSign_51 : decode cX5_readSign 51 = .ok (.if_icmp .eq 15, 3) := dk_159 0 15 (dk_at dksX5_readSign_2 6 rfl rfl)
theorem dX5_readSign_54 : decode cX5_readSign 54 = .ok (.iload_n 1, 1) := dk_27 (dk_at dksX5_readSign_2 9 rfl rfl)
theorem dX5_readSign_55 : decode cX5_readSign 55 = .ok (.bipush 61, 2) := dk_16 61 (dk_at dksX5_readSign_2 10 rfl rfl)
theorem dX5_readSign_57 : decode cX5_readSign 57 = .ok (.if_icmp .eq 9, 3) := dk_159 0 9 (dk_at dksX5_readSign_2 12 rfl rfl)
theorem dX5_readSign_60 : decode cX5_readSign 60 = .ok (.iload_n 1, 1) := dk_27 (dk_at dksX5_readSign_2 15 rfl rfl)
theorem dX5_readSign_61 : decode cX5_readSign 61 = .ok (.bipush 62, 2) := dk_16 62 (dk_at dksX5_readSign_2 16 rfl rfl)
theorem dX5_readSign_63 : decode cX5_readSign 63 = .ok (.if_icmp .ne 12, 3) := dk_160 0 12 (dk_at dksX5_readSign_2 18 rfl rfl)
theorem dX5_readSign_66 : decode cX5_readSign 66 = .ok (.aload_n 0, 1) := dk_42 (dk_at dksX5_readSign_2 21 rfl rfl)
theorem dX5_readSign_67 : decode cX5_readSign 67 = .ok (.iconst 3, 1) := dk_6 (dk_at dksX5_readSign_2 22 rfl rfl)
theorem dX5_readSign_68 : decode cX5_readSign 68 = .ok (.iload_n 1, 1) := dk_27 (dk_at dksX5_readSign_2 23 rfl rfl)
theorem dX5_readSign_69 : decode cX5_readSign 69 = .ok (.invokevirtual 247, 3) := dk_182 0 247 (dk_at dksX5_readSign_3 0 rfl rfl)
theorem dX5_readSign_72 : decode cX5_readSign 72 = .ok (.goto 85, 3) := dk_167 0 85 (dk_at dksX5_readSign_3 3 rfl rfl)
theorem dX5_readSign_75 : decode cX5_readSign 75 = .ok (.iload_n 1, 1) := dk_27 (dk_at dksX5_readSign_3 6 rfl rfl)
theorem dX5_readSign_76 : decode cX5_readSign 76 = .ok (.bipush 43, 2) := dk_16 43 (dk_at dksX5_readSign_3 7 rfl rfl)
theorem dX5_readSign_78 : decode cX5_readSign 78 = .ok (.if_icmp .eq 9, 3) := dk_159 0 9 (dk_at dksX5_readSign_3 9 rfl rfl)
theorem dX5_readSign_81 : decode cX5_readSign 81 = .ok (.iload_n 1, 1) := dk_27 (dk_at dksX5_readSign_3 12 rfl rfl)
theorem dX5_readSign_82 : decode cX5_readSign 82 = .ok (.bipush 45, 2) := dk_16 45 (dk_at dksX5_readSign_3 13 rfl rfl)
theorem dX5_readSign_84 : decode cX5_readSign 84 = .ok (.if_icmp .ne 12, 3) := dk_160 0 12 (dk_at dksX5_readSign_3 15 rfl rfl)
theorem dX5_readSign_87 : decode cX5_readSign 87 = .ok (.aload_n 0, 1) := dk_42 (dk_at dksX5_readSign_3 18 rfl rfl)
theorem dX5_readSign_88 : decode cX5_readSign 88 = .ok (.iconst 4, 1) := dk_7 (dk_at dksX5_readSign_3 19 rfl rfl)
theorem dX5_readSign_89 : decode cX5_readSign 89 = .ok (.iload_n 1, 1) := dk_27 (dk_at dksX5_readSign_3 20 rfl rfl)
theorem dX5_readSign_90 : decode cX5_readSign 90 = .ok (.invokevirtual 247, 3) := dk_182 0 247 (dk_at dksX5_readSign_3 21 rfl rfl)
theorem dX5_readSign_93 : decode cX5_readSign 93 = .ok (.goto 64, 3) := dk_167 0 64 (dk_at dksX5_readSign_4 0 rfl rfl)
theorem dX5_readSign_96 : decode cX5_readSign 96 = .ok (.iload_n 1, 1) := dk_27 (dk_at dksX5_readSign_4 3 rfl rfl)
theorem dX5_readSign_97 : decode cX5_readSign 97 = .ok (.bipush 42, 2) := dk_16 42 (dk_at dksX5_readSign_4 4 rfl rfl)
theorem dX5_readSign_99 : decode cX5_readSign 99 = .ok (.if_icmp .eq 15, 3) := dk_159 0 15 (dk_at dksX5_readSign_4 6 rfl rfl)
theorem dX5_readSign_102 : decode cX5_readSign 102 = .ok (.iload_n 1, 1) := dk_27 (dk_at dksX5_readSign_4 9 rfl rfl)
theorem dX5_readSign_103 : decode cX5_readSign 103 = .ok (.bipush 47, 2) := dk_16 47 (dk_at dksX5_readSign_4 10 rfl rfl)
theorem dX5_readSign_105 : decode cX5_readSign 105 = .ok (.if_icmp .eq 9, 3) := dk_159 0 9 (dk_at dksX5_readSign_4 12 rfl rfl)
theorem dX5_readSign_108 : decode cX5_readSign 108 = .ok (.iload_n 1, 1) := dk_27 (dk_at dksX5_readSign_4 15 rfl rfl)
theorem dX5_readSign_109 : decode cX5_readSign 109 = .ok (.bipush 37, 2) := dk_16 37 (dk_at dksX5_readSign_4 16 rfl rfl)
theorem dX5_readSign_111 : decode cX5_readSign 111 = .ok (.if_icmp .ne 12, 3) := dk_160 0 12 (dk_at dksX5_readSign_4 18 rfl rfl)
theorem dX5_readSign_114 : decode cX5_readSign 114 = .ok (.aload_n 0, 1) := dk_42 (dk_at dksX5_readSign_4 21 rfl rfl)
theorem dX5_readSign_115 : decode cX5_readSign 115 = .ok (.iconst 5, 1) := dk_8 (dk_at dksX5_readSign_4 22 rfl rfl)
theorem dX5_readSign_116 : decode cX5_readSign 116 = .ok (.iload_n 1, 1) := dk_27 (dk_at dksX5_readSign_4 23 rfl rfl)
theorem dX5_readSign_117 : decode cX5_readSign 117 = .ok (.invokevirtual 247, 3) := dk_182 0 247 (dk_at dksX5_readSign_5 0 rfl rfl)
theorem dX5_readSign_120 : decode cX5_readSign 120 = .ok (.goto 37, 3) := dk_167 0 37 (dk_at dksX5_readSign_5 3 rfl rfl)
theorem dX5_readSign_123 : decode cX5_readSign 123 = .ok (.iload_n 1, 1) := dk_27 (dk_at dksX5_readSign_5 6 rfl rfl)
theorem dX5_readSign_124 : decode cX5_readSign 124 = .ok (.bipush 44, 2) := dk_16 44 (dk_at dksX5_readSign_5 7 rfl rfl)
theorem dX5_readSign_126 : decode cX5_readSign 126 = .ok (.if_icmp .ne 10, 3) := dk_160 0 10 (dk_at dksX5_readSign_5 9 rfl rfl)
theorem dX5_readSign_129 : decode cX5_readSign 129 = .ok (.aload_n 0, 1) := dk_42 (dk_at dksX5_readSign_5 12 rfl rfl)
theorem dX5_readSign_130 : decode cX5_readSign 130 = .ok (.invokevirtual 250, 3) := dk_182 0 250 (dk_at dksX5_readSign_5 13 rfl rfl)
theorem dX5_readSign_133 : decode cX5_readSign 133 = .ok (.goto 24, 3) := dk_167 0 24 (dk_at dksX5_readSign_5 16 rfl rfl)
theorem dX5_readSign_136 : decode cX5_readSign 136 = .ok (.iload_n 1, 1) := dk_27 (dk_at dksX5_readSign_5 19 rfl rfl)
theorem dX5_readSign_137 : decode cX5_readSign 137 = .ok (.bipush 41, 2) := dk_16 41 (dk_at dksX5_readSign_5 20 rfl rfl)
theorem dX5_readSign_139 : decode cX5_readSign 139 = .ok (.if_icmp .ne 9, 3) := dk_160 0 9 (dk_at dksX5_readSign_6 0 rfl rfl)
theorem dX5_readSign_142 : decode cX5_readSign 142 = .ok (.aload_n 0, 1) := dk_42 (dk_at dksX5_readSign_6 3 rfl rfl)
theorem dX5_readSign_143 : decode cX5_readSign 143 = .ok (.invokevirtual 226, 3) := dk_182 0 226 (dk_at dksX5_readSign_6 4 rfl rfl)
theorem dX5_readSign_146 : decode cX5_readSign 146 = .ok (.iconst 0, 1) := dk_3 (dk_at dksX5_readSign_6 7 rfl rfl)
theorem dX5_readSign_147 : decode cX5_readSign 147 = .ok (.ireturn, 1) := dk_172 (dk_at dksX5_readSign_6 8 rfl rfl)
theorem dX5_readSign_148 : decode cX5_readSign 148 = .ok (.aload_n 0, 1) := dk_42 (dk_at dksX5_readSign_6 9 rfl rfl)
theorem dX5_readSign_149 : decode cX5_readSign 149 = .ok (.iconst 1, 1) := dk_4 (dk_at dksX5_readSign_6 10 rfl rfl)
theorem dX5_readSign_150 : decode cX5_readSign 150 = .ok (.aload_n 0, 1) := dk_42 (dk_at dksX5_readSign_6 11 rfl rfl)
theorem dX5_readSign_151 : decode cX5_readSign 151 = .ok (.getfield 147, 3) := dk_180 0 147 (dk_at dksX5_readSign_6 12 rfl rfl)
theorem dX5_readSign_154 : decode cX5_readSign 154 = .ok (.invokevirtual 157, 3) := dk_182 0 157 (dk_at dksX5_readSign_6 15 rfl rfl)
theorem dX5_readSign_157 : decode cX5_readSign 157 = .ok (.iconst 1, 1) := dk_4 (dk_at dksX5_readSign_6 18 rfl rfl)
theorem dX5_readSign_158 : decode cX5_readSign 158 = .ok (.ireturn, 1) := dk_172 (dk_at dksX5_readSign_6 19 rfl rfl)
abbrev cX5_hash : ByteArray := prog_12_method_29_code
def yX5_hash : MethodName := ⟨RX5, "hash", "()V"⟩
def dkwX5_hash_6 : List UInt8 := [180, 0, 147, 4, 96, 181, 0, 147, 177]
abbrev dktX5_hash_6 : List UInt8 := dkwX5_hash_6 ++ []
def dkwX5_hash_5 : List UInt8 := [27, 100, 133, 80, 42, 4, 42, 180, 0, 144, 3, 182, 0, 198, 42, 16, 8, 9, 182, 0, 167, 42, 89]
abbrev dktX5_hash_5 : List UInt8 := dkwX5_hash_5 ++ dktX5_hash_6
def dkwX5_hash_4 : List UInt8 := [181, 0, 144, 42, 180, 0, 17, 28, 27, 96, 16, 7, 79, 42, 180, 0, 20, 28, 27, 96, 42, 180, 0, 144]
abbrev dktX5_hash_4 : List UInt8 := dkwX5_hash_4 ++ dktX5_hash_5
def dkwX5_hash_3 : List UInt8 := [42, 180, 0, 20, 28, 29, 96, 4, 100, 47, 80, 132, 3, 255, 167, 255, 212, 42, 89, 180, 0, 144, 4, 96]
abbrev dktX5_hash_3 : List UInt8 := dkwX5_hash_3 ++ dktX5_hash_4
def dkwX5_hash_2 : List UInt8 := [180, 0, 17, 28, 29, 96, 42, 180, 0, 17, 28, 29, 96, 4, 100, 46, 79, 42, 180, 0, 20, 28, 29, 96]
abbrev dktX5_hash_2 : List UInt8 := dkwX5_hash_2 ++ dktX5_hash_3
def dkwX5_hash_1 : List UInt8 := [180, 0, 164, 4, 100, 46, 60, 16, 32, 184, 0, 141, 61, 42, 180, 0, 144, 62, 29, 27, 164, 0, 45, 42]
abbrev dktX5_hash_1 : List UInt8 := dkwX5_hash_1 ++ dktX5_hash_2
def dkwX5_hash_0 : List UInt8 := [42, 4, 182, 0, 174, 42, 42, 180, 0, 147, 182, 0, 178, 154, 0, 4, 177, 42, 180, 0, 45, 42]
abbrev dktX5_hash_0 : List UInt8 := dkwX5_hash_0 ++ dktX5_hash_1
theorem dksX5_hash_0 : cX5_hash.data.toList.drop 0 = dktX5_hash_0 := by decide +kernel
theorem dksX5_hash_1 : cX5_hash.data.toList.drop 22 = dktX5_hash_1 := dk_seg dksX5_hash_0 22 rfl rfl
theorem dksX5_hash_2 : cX5_hash.data.toList.drop 46 = dktX5_hash_2 := dk_seg dksX5_hash_1 24 rfl rfl
theorem dksX5_hash_3 : cX5_hash.data.toList.drop 70 = dktX5_hash_3 := dk_seg dksX5_hash_2 24 rfl rfl
theorem dksX5_hash_4 : cX5_hash.data.toList.drop 94 = dktX5_hash_4 := dk_seg dksX5_hash_3 24 rfl rfl
theorem dksX5_hash_5 : cX5_hash.data.toList.drop 118 = dktX5_hash_5 := dk_seg dksX5_hash_4 24 rfl rfl
theorem dksX5_hash_6 : cX5_hash.data.toList.drop 141 = dktX5_hash_6 := dk_seg dksX5_hash_5 23 rfl rfl
theorem dX5_hash_0 : decode cX5_hash 0 = .ok (.aload_n 0, 1) := dk_42 (dk_at dksX5_hash_0 0 rfl rfl)
theorem dX5_hash_1 : decode cX5_hash 1 = .ok (.iconst 1, 1) := dk_4 (dk_at dksX5_hash_0 1 rfl rfl)
theorem dX5_hash_2 : decode cX5_hash 2 = .ok (.invokevirtual 174, 3) := dk_182 0 174 (dk_at dksX5_hash_0 2 rfl rfl)
theorem dX5_hash_5 : decode cX5_hash 5 = .ok (.aload_n 0, 1) := dk_42 (dk_at dksX5_hash_0 5 rfl rfl)
theorem dX5_hash_6 : decode cX5_hash 6 = .ok (.aload_n 0, 1) := dk_42 (dk_at dksX5_hash_0 6 rfl rfl)
theorem dX5_hash_7 : decode cX5_hash 7 = .ok (.getfield 147, 3) := dk_180 0 147 (dk_at dksX5_hash_0 7 rfl rfl)
theorem dX5_hash_10 : decode cX5_hash 10 = .ok (.invokevirtual 178, 3) := dk_182 0 178 (dk_at dksX5_hash_0 10 rfl rfl)
theorem dX5_hash_13 : decode cX5_hash 13 = .ok (.ifCond .ne 4, 3) := dk_154 0 4 (dk_at dksX5_hash_0 13 rfl rfl)
theorem dX5_hash_16 : decode cX5_hash 16 = .ok (.return_, 1) := dk_177 (dk_at dksX5_hash_0 16 rfl rfl)
theorem dX5_hash_17 : decode cX5_hash 17 = .ok (.aload_n 0, 1) := dk_42 (dk_at dksX5_hash_0 17 rfl rfl)
theorem dX5_hash_18 : decode cX5_hash 18 = .ok (.getfield 45, 3) := dk_180 0 45 (dk_at dksX5_hash_0 18 rfl rfl)
theorem dX5_hash_21 : decode cX5_hash 21 = .ok (.aload_n 0, 1) := dk_42 (dk_at dksX5_hash_0 21 rfl rfl)
theorem dX5_hash_22 : decode cX5_hash 22 = .ok (.getfield 164, 3) := dk_180 0 164 (dk_at dksX5_hash_1 0 rfl rfl)
theorem dX5_hash_25 : decode cX5_hash 25 = .ok (.iconst 1, 1) := dk_4 (dk_at dksX5_hash_1 3 rfl rfl)
theorem dX5_hash_26 : decode cX5_hash 26 = .ok (.isub, 1) := dk_100 (dk_at dksX5_hash_1 4 rfl rfl)
theorem dX5_hash_27 : decode cX5_hash 27 = .ok (.iaload, 1) := dk_46 (dk_at dksX5_hash_1 5 rfl rfl)
theorem dX5_hash_28 : decode cX5_hash 28 = .ok (.istore_n 1, 1) := dk_60 (dk_at dksX5_hash_1 6 rfl rfl)
theorem dX5_hash_29 : decode cX5_hash 29 = .ok (.bipush 32, 2) := dk_16 32 (dk_at dksX5_hash_1 7 rfl rfl)
theorem dX5_hash_31 : decode cX5_hash 31 = .ok (.invokestatic 141, 3) := dk_184 0 141 (dk_at dksX5_hash_1 9 rfl rfl)
theorem dX5_hash_34 : decode cX5_hash 34 = .ok (.istore_n 2, 1) := dk_61 (dk_at dksX5_hash_1 12 rfl rfl)
theorem dX5_hash_35 : decode cX5_hash 35 = .ok (.aload_n 0, 1) := dk_42 (dk_at dksX5_hash_1 13 rfl rfl)
theorem dX5_hash_36 : decode cX5_hash 36 = .ok (.getfield 144, 3) := dk_180 0 144 (dk_at dksX5_hash_1 14 rfl rfl)
theorem dX5_hash_39 : decode cX5_hash 39 = .ok (.istore_n 3, 1) := dk_62 (dk_at dksX5_hash_1 17 rfl rfl)
theorem dX5_hash_40 : decode cX5_hash 40 = .ok (.iload_n 3, 1) := dk_29 (dk_at dksX5_hash_1 18 rfl rfl)
theorem dX5_hash_41 : decode cX5_hash 41 = .ok (.iload_n 1, 1) := dk_27 (dk_at dksX5_hash_1 19 rfl rfl)
theorem dX5_hash_42 : decode cX5_hash 42 = .ok (.if_icmp .le 45, 3) := dk_164 0 45 (dk_at dksX5_hash_1 20 rfl rfl)
theorem dX5_hash_45 : decode cX5_hash 45 = .ok (.aload_n 0, 1) := dk_42 (dk_at dksX5_hash_1 23 rfl rfl)
theorem dX5_hash_46 : decode cX5_hash 46 = .ok (.getfield 17, 3) := dk_180 0 17 (dk_at dksX5_hash_2 0 rfl rfl)
theorem dX5_hash_49 : decode cX5_hash 49 = .ok (.iload_n 2, 1) := dk_28 (dk_at dksX5_hash_2 3 rfl rfl)
theorem dX5_hash_50 : decode cX5_hash 50 = .ok (.iload_n 3, 1) := dk_29 (dk_at dksX5_hash_2 4 rfl rfl)
theorem dX5_hash_51 : decode cX5_hash 51 = .ok (.iadd, 1) := dk_96 (dk_at dksX5_hash_2 5 rfl rfl)
theorem dX5_hash_52 : decode cX5_hash 52 = .ok (.aload_n 0, 1) := dk_42 (dk_at dksX5_hash_2 6 rfl rfl)
theorem dX5_hash_53 : decode cX5_hash 53 = .ok (.getfield 17, 3) := dk_180 0 17 (dk_at dksX5_hash_2 7 rfl rfl)
theorem dX5_hash_56 : decode cX5_hash 56 = .ok (.iload_n 2, 1) := dk_28 (dk_at dksX5_hash_2 10 rfl rfl)
theorem dX5_hash_57 : decode cX5_hash 57 = .ok (.iload_n 3, 1) := dk_29 (dk_at dksX5_hash_2 11 rfl rfl)
theorem dX5_hash_58 : decode cX5_hash 58 = .ok (.iadd, 1) := dk_96 (dk_at dksX5_hash_2 12 rfl rfl)
theorem dX5_hash_59 : decode cX5_hash 59 = .ok (.iconst 1, 1) := dk_4 (dk_at dksX5_hash_2 13 rfl rfl)
theorem dX5_hash_60 : decode cX5_hash 60 = .ok (.isub, 1) := dk_100 (dk_at dksX5_hash_2 14 rfl rfl)
theorem dX5_hash_61 : decode cX5_hash 61 = .ok (.iaload, 1) := dk_46 (dk_at dksX5_hash_2 15 rfl rfl)
theorem dX5_hash_62 : decode cX5_hash 62 = .ok (.iastore, 1) := dk_79 (dk_at dksX5_hash_2 16 rfl rfl)
theorem dX5_hash_63 : decode cX5_hash 63 = .ok (.aload_n 0, 1) := dk_42 (dk_at dksX5_hash_2 17 rfl rfl)
theorem dX5_hash_64 : decode cX5_hash 64 = .ok (.getfield 20, 3) := dk_180 0 20 (dk_at dksX5_hash_2 18 rfl rfl)
theorem dX5_hash_67 : decode cX5_hash 67 = .ok (.iload_n 2, 1) := dk_28 (dk_at dksX5_hash_2 21 rfl rfl)
theorem dX5_hash_68 : decode cX5_hash 68 = .ok (.iload_n 3, 1) := dk_29 (dk_at dksX5_hash_2 22 rfl rfl)
theorem dX5_hash_69 : decode cX5_hash 69 = .ok (.iadd, 1) := dk_96 (dk_at dksX5_hash_2 23 rfl rfl)
theorem dX5_hash_70 : decode cX5_hash 70 = .ok (.aload_n 0, 1) := dk_42 (dk_at dksX5_hash_3 0 rfl rfl)
theorem dX5_hash_71 : decode cX5_hash 71 = .ok (.getfield 20, 3) := dk_180 0 20 (dk_at dksX5_hash_3 1 rfl rfl)
theorem dX5_hash_74 : decode cX5_hash 74 = .ok (.iload_n 2, 1) := dk_28 (dk_at dksX5_hash_3 4 rfl rfl)
theorem dX5_hash_75 : decode cX5_hash 75 = .ok (.iload_n 3, 1) := dk_29 (dk_at dksX5_hash_3 5 rfl rfl)
theorem dX5_hash_76 : decode cX5_hash 76 = .ok (.iadd, 1) := dk_96 (dk_at dksX5_hash_3 6 rfl rfl)
theorem dX5_hash_77 : decode cX5_hash 77 = .ok (.iconst 1, 1) := dk_4 (dk_at dksX5_hash_3 7 rfl rfl)
theorem dX5_hash_78 : decode cX5_hash 78 = .ok (.isub, 1) := dk_100 (dk_at dksX5_hash_3 8 rfl rfl)
theorem dX5_hash_79 : decode cX5_hash 79 = .ok (.laload, 1) := dk_47 (dk_at dksX5_hash_3 9 rfl rfl)
theorem dX5_hash_80 : decode cX5_hash 80 = .ok (.lastore, 1) := dk_80 (dk_at dksX5_hash_3 10 rfl rfl)
theorem dX5_hash_81 : decode cX5_hash 81 = .ok (.iinc 3 (-1), 3) := dk_132 3 255 (dk_at dksX5_hash_3 11 rfl rfl)
theorem dX5_hash_84 : decode cX5_hash 84 = .ok (.goto (-44), 3) := dk_167 255 212 (dk_at dksX5_hash_3 14 rfl rfl)
theorem dX5_hash_87 : decode cX5_hash 87 = .ok (.aload_n 0, 1) := dk_42 (dk_at dksX5_hash_3 17 rfl rfl)
theorem dX5_hash_88 : decode cX5_hash 88 = .ok (.dup, 1) := dk_89 (dk_at dksX5_hash_3 18 rfl rfl)
theorem dX5_hash_89 : decode cX5_hash 89 = .ok (.getfield 144, 3) := dk_180 0 144 (dk_at dksX5_hash_3 19 rfl rfl)
theorem dX5_hash_92 : decode cX5_hash 92 = .ok (.iconst 1, 1) := dk_4 (dk_at dksX5_hash_3 22 rfl rfl)
theorem dX5_hash_93 : decode cX5_hash 93 = .ok (.iadd, 1) := dk_96 (dk_at dksX5_hash_3 23 rfl rfl)
theorem dX5_hash_94 : decode cX5_hash 94 = .ok (.putfield 144, 3) := dk_181 0 144 (dk_at dksX5_hash_4 0 rfl rfl)
theorem dX5_hash_97 : decode cX5_hash 97 = .ok (.aload_n 0, 1) := dk_42 (dk_at dksX5_hash_4 3 rfl rfl)
theorem dX5_hash_98 : decode cX5_hash 98 = .ok (.getfield 17, 3) := dk_180 0 17 (dk_at dksX5_hash_4 4 rfl rfl)
theorem dX5_hash_101 : decode cX5_hash 101 = .ok (.iload_n 2, 1) := dk_28 (dk_at dksX5_hash_4 7 rfl rfl)
theorem dX5_hash_102 : decode cX5_hash 102 = .ok (.iload_n 1, 1) := dk_27 (dk_at dksX5_hash_4 8 rfl rfl)
theorem dX5_hash_103 : decode cX5_hash 103 = .ok (.iadd, 1) := dk_96 (dk_at dksX5_hash_4 9 rfl rfl)
theorem dX5_hash_104 : decode cX5_hash 104 = .ok (.bipush 7, 2) := dk_16 7 (dk_at dksX5_hash_4 10 rfl rfl)
theorem dX5_hash_106 : decode cX5_hash 106 = .ok (.iastore, 1) := dk_79 (dk_at dksX5_hash_4 12 rfl rfl)
theorem dX5_hash_107 : decode cX5_hash 107 = .ok (.aload_n 0, 1) := dk_42 (dk_at dksX5_hash_4 13 rfl rfl)
theorem dX5_hash_108 : decode cX5_hash 108 = .ok (.getfield 20, 3) := dk_180 0 20 (dk_at dksX5_hash_4 14 rfl rfl)
theorem dX5_hash_111 : decode cX5_hash 111 = .ok (.iload_n 2, 1) := dk_28 (dk_at dksX5_hash_4 17 rfl rfl)
theorem dX5_hash_112 : decode cX5_hash 112 = .ok (.iload_n 1, 1) := dk_27 (dk_at dksX5_hash_4 18 rfl rfl)
theorem dX5_hash_113 : decode cX5_hash 113 = .ok (.iadd, 1) := dk_96 (dk_at dksX5_hash_4 19 rfl rfl)
theorem dX5_hash_114 : decode cX5_hash 114 = .ok (.aload_n 0, 1) := dk_42 (dk_at dksX5_hash_4 20 rfl rfl)
theorem dX5_hash_115 : decode cX5_hash 115 = .ok (.getfield 144, 3) := dk_180 0 144 (dk_at dksX5_hash_4 21 rfl rfl)
theorem dX5_hash_118 : decode cX5_hash 118 = .ok (.iload_n 1, 1) := dk_27 (dk_at dksX5_hash_5 0 rfl rfl)
theorem dX5_hash_119 : decode cX5_hash 119 = .ok (.isub, 1) := dk_100 (dk_at dksX5_hash_5 1 rfl rfl)
theorem dX5_hash_120 : decode cX5_hash 120 = .ok (.i2l, 1) := dk_133 (dk_at dksX5_hash_5 2 rfl rfl)
theorem dX5_hash_121 : decode cX5_hash 121 = .ok (.lastore, 1) := dk_80 (dk_at dksX5_hash_5 3 rfl rfl)
theorem dX5_hash_122 : decode cX5_hash 122 = .ok (.aload_n 0, 1) := dk_42 (dk_at dksX5_hash_5 4 rfl rfl)
theorem dX5_hash_123 : decode cX5_hash 123 = .ok (.iconst 1, 1) := dk_4 (dk_at dksX5_hash_5 5 rfl rfl)
theorem dX5_hash_124 : decode cX5_hash 124 = .ok (.aload_n 0, 1) := dk_42 (dk_at dksX5_hash_5 6 rfl rfl)
theorem dX5_hash_125 : decode cX5_hash 125 = .ok (.getfield 144, 3) := dk_180 0 144 (dk_at dksX5_hash_5 7 rfl rfl)
theorem dX5_hash_128 : decode cX5_hash 128 = .ok (.iconst 0, 1) := dk_3 (dk_at dksX5_hash_5 10 rfl rfl)
theorem dX5_hash_129 : decode cX5_hash 129 = .ok (.invokevirtual 198, 3) := dk_182 0 198 (dk_at dksX5_hash_5 11 rfl rfl)
theorem dX5_hash_132 : decode cX5_hash 132 = .ok (.aload_n 0, 1) := dk_42 (dk_at dksX5_hash_5 14 rfl rfl)
theorem dX5_hash_133 : decode cX5_hash 133 = .ok (.bipush 8, 2) := dk_16 8 (dk_at dksX5_hash_5 15 rfl rfl)
theorem dX5_hash_135 : decode cX5_hash 135 = .ok (.lconst 0, 1) := dk_9 (dk_at dksX5_hash_5 17 rfl rfl)
theorem dX5_hash_136 : decode cX5_hash 136 = .ok (.invokevirtual 167, 3) := dk_182 0 167 (dk_at dksX5_hash_5 18 rfl rfl)
theorem dX5_hash_139 : decode cX5_hash 139 = .ok (.aload_n 0, 1) := dk_42 (dk_at dksX5_hash_5 21 rfl rfl)
theorem dX5_hash_140 : decode cX5_hash 140 = .ok (.dup, 1) := dk_89 (dk_at dksX5_hash_5 22 rfl rfl)
theorem dX5_hash_141 : decode cX5_hash 141 = .ok (.getfield 147, 3) := dk_180 0 147 (dk_at dksX5_hash_6 0 rfl rfl)
theorem dX5_hash_144 : decode cX5_hash 144 = .ok (.iconst 1, 1) := dk_4 (dk_at dksX5_hash_6 3 rfl rfl)
theorem dX5_hash_145 : decode cX5_hash 145 = .ok (.iadd, 1) := dk_96 (dk_at dksX5_hash_6 4 rfl rfl)
theorem dX5_hash_146 : decode cX5_hash 146 = .ok (.putfield 147, 3) := dk_181 0 147 (dk_at dksX5_hash_6 5 rfl rfl)
theorem dX5_hash_149 : decode cX5_hash 149 = .ok (.return_, 1) := dk_177 (dk_at dksX5_hash_6 8 rfl rfl)
abbrev cX5_question : ByteArray := prog_12_method_30_code
def yX5_question : MethodName := ⟨RX5, "question", "()V"⟩
def dkwX5_question_2 : List UInt8 := [9, 182, 0, 167, 42, 89, 180, 0, 147, 4, 96, 181, 0, 147, 177]
abbrev dktX5_question_2 : List UInt8 := dkwX5_question_2 ++ []
def dkwX5_question_1 : List UInt8 := [181, 0, 164, 42, 16, 7, 42, 180, 0, 144, 42, 180, 0, 45, 42, 180, 0, 164, 46, 182, 0, 198, 42, 8]
abbrev dktX5_question_1 : List UInt8 := dkwX5_question_1 ++ dktX5_question_2
def dkwX5_question_0 : List UInt8 := [42, 6, 182, 0, 174, 42, 42, 180, 0, 147, 182, 0, 178, 154, 0, 4, 177, 42, 89, 180, 0, 164, 4, 100]
abbrev dktX5_question_0 : List UInt8 := dkwX5_question_0 ++ dktX5_question_1
theorem dksX5_question_0 : cX5_question.data.toList.drop 0 = dktX5_question_0 := by decide +kernel
theorem dksX5_question_1 : cX5_question.data.toList.drop 24 = dktX5_question_1 := dk_seg dksX5_question_0 24 rfl rfl
theorem dksX5_question_2 : cX5_question.data.toList.drop 48 = dktX5_question_2 := dk_seg dksX5_question_1 24 rfl rfl
theorem dX5_question_0 : decode cX5_question 0 = .ok (.aload_n 0, 1) := dk_42 (dk_at dksX5_question_0 0 rfl rfl)
theorem dX5_question_1 : decode cX5_question 1 = .ok (.iconst 3, 1) := dk_6 (dk_at dksX5_question_0 1 rfl rfl)
theorem dX5_question_2 : decode cX5_question 2 = .ok (.invokevirtual 174, 3) := dk_182 0 174 (dk_at dksX5_question_0 2 rfl rfl)
theorem dX5_question_5 : decode cX5_question 5 = .ok (.aload_n 0, 1) := dk_42 (dk_at dksX5_question_0 5 rfl rfl)
theorem dX5_question_6 : decode cX5_question 6 = .ok (.aload_n 0, 1) := dk_42 (dk_at dksX5_question_0 6 rfl rfl)
theorem dX5_question_7 : decode cX5_question 7 = .ok (.getfield 147, 3) := dk_180 0 147 (dk_at dksX5_question_0 7 rfl rfl)
theorem dX5_question_10 : decode cX5_question 10 = .ok (.invokevirtual 178, 3) := dk_182 0 178 (dk_at dksX5_question_0 10 rfl rfl)
theorem dX5_question_13 : decode cX5_question 13 = .ok (.ifCond .ne 4, 3) := dk_154 0 4 (dk_at dksX5_question_0 13 rfl rfl)
theorem dX5_question_16 : decode cX5_question 16 = .ok (.return_, 1) := dk_177 (dk_at dksX5_question_0 16 rfl rfl)
theorem dX5_question_17 : decode cX5_question 17 = .ok (.aload_n 0, 1) := dk_42 (dk_at dksX5_question_0 17 rfl rfl)
theorem dX5_question_18 : decode cX5_question 18 = .ok (.dup, 1) := dk_89 (dk_at dksX5_question_0 18 rfl rfl)
theorem dX5_question_19 : decode cX5_question 19 = .ok (.getfield 164, 3) := dk_180 0 164 (dk_at dksX5_question_0 19 rfl rfl)
theorem dX5_question_22 : decode cX5_question 22 = .ok (.iconst 1, 1) := dk_4 (dk_at dksX5_question_0 22 rfl rfl)
theorem dX5_question_23 : decode cX5_question 23 = .ok (.isub, 1) := dk_100 (dk_at dksX5_question_0 23 rfl rfl)
theorem dX5_question_24 : decode cX5_question 24 = .ok (.putfield 164, 3) := dk_181 0 164 (dk_at dksX5_question_1 0 rfl rfl)
theorem dX5_question_27 : decode cX5_question 27 = .ok (.aload_n 0, 1) := dk_42 (dk_at dksX5_question_1 3 rfl rfl)
theorem dX5_question_28 : decode cX5_question 28 = .ok (.bipush 7, 2) := dk_16 7 (dk_at dksX5_question_1 4 rfl rfl)
theorem dX5_question_30 : decode cX5_question 30 = .ok (.aload_n 0, 1) := dk_42 (dk_at dksX5_question_1 6 rfl rfl)
theorem dX5_question_31 : decode cX5_question 31 = .ok (.getfield 144, 3) := dk_180 0 144 (dk_at dksX5_question_1 7 rfl rfl)
theorem dX5_question_34 : decode cX5_question 34 = .ok (.aload_n 0, 1) := dk_42 (dk_at dksX5_question_1 10 rfl rfl)
theorem dX5_question_35 : decode cX5_question 35 = .ok (.getfield 45, 3) := dk_180 0 45 (dk_at dksX5_question_1 11 rfl rfl)
theorem dX5_question_38 : decode cX5_question 38 = .ok (.aload_n 0, 1) := dk_42 (dk_at dksX5_question_1 14 rfl rfl)
theorem dX5_question_39 : decode cX5_question 39 = .ok (.getfield 164, 3) := dk_180 0 164 (dk_at dksX5_question_1 15 rfl rfl)
theorem dX5_question_42 : decode cX5_question 42 = .ok (.iaload, 1) := dk_46 (dk_at dksX5_question_1 18 rfl rfl)
theorem dX5_question_43 : decode cX5_question 43 = .ok (.invokevirtual 198, 3) := dk_182 0 198 (dk_at dksX5_question_1 19 rfl rfl)
theorem dX5_question_46 : decode cX5_question 46 = .ok (.aload_n 0, 1) := dk_42 (dk_at dksX5_question_1 22 rfl rfl)
theorem dX5_question_47 : decode cX5_question 47 = .ok (.iconst 5, 1) := dk_8 (dk_at dksX5_question_1 23 rfl rfl)
theorem dX5_question_48 : decode cX5_question 48 = .ok (.lconst 0, 1) := dk_9 (dk_at dksX5_question_2 0 rfl rfl)
theorem dX5_question_49 : decode cX5_question 49 = .ok (.invokevirtual 167, 3) := dk_182 0 167 (dk_at dksX5_question_2 1 rfl rfl)
theorem dX5_question_52 : decode cX5_question 52 = .ok (.aload_n 0, 1) := dk_42 (dk_at dksX5_question_2 4 rfl rfl)
theorem dX5_question_53 : decode cX5_question 53 = .ok (.dup, 1) := dk_89 (dk_at dksX5_question_2 5 rfl rfl)
theorem dX5_question_54 : decode cX5_question 54 = .ok (.getfield 147, 3) := dk_180 0 147 (dk_at dksX5_question_2 6 rfl rfl)
theorem dX5_question_57 : decode cX5_question 57 = .ok (.iconst 1, 1) := dk_4 (dk_at dksX5_question_2 9 rfl rfl)
theorem dX5_question_58 : decode cX5_question 58 = .ok (.iadd, 1) := dk_96 (dk_at dksX5_question_2 10 rfl rfl)
theorem dX5_question_59 : decode cX5_question 59 = .ok (.putfield 147, 3) := dk_181 0 147 (dk_at dksX5_question_2 11 rfl rfl)
theorem dX5_question_62 : decode cX5_question 62 = .ok (.return_, 1) := dk_177 (dk_at dksX5_question_2 14 rfl rfl)
abbrev cX5_colon : ByteArray := prog_12_method_31_code
def yX5_colon : MethodName := ⟨RX5, "colon", "()V"⟩
def dkwX5_colon_4 : List UInt8 := [180, 0, 144, 27, 100, 4, 100, 133, 80, 42, 89, 180, 0, 147, 4, 96, 181, 0, 147, 177]
abbrev dktX5_colon_4 : List UInt8 := dkwX5_colon_4 ++ []
def dkwX5_colon_3 : List UInt8 := [182, 0, 198, 42, 16, 6, 9, 182, 0, 167, 42, 180, 0, 20, 16, 32, 184, 0, 141, 27, 96, 42]
abbrev dktX5_colon_3 : List UInt8 := dkwX5_colon_3 ++ dktX5_colon_4
def dkwX5_colon_2 : List UInt8 := [180, 0, 161, 46, 61, 42, 89, 180, 0, 164, 4, 100, 181, 0, 164, 42, 5, 42, 180, 0, 144, 28]
abbrev dktX5_colon_2 : List UInt8 := dkwX5_colon_2 ++ dktX5_colon_3
def dkwX5_colon_1 : List UInt8 := [89, 180, 0, 161, 4, 100, 181, 0, 161, 42, 180, 0, 36, 42, 180, 0, 161, 46, 60, 42, 180, 0, 39, 42]
abbrev dktX5_colon_1 : List UInt8 := dkwX5_colon_1 ++ dktX5_colon_2
def dkwX5_colon_0 : List UInt8 := [42, 182, 0, 235, 42, 182, 0, 218, 16, 7, 159, 0, 13, 42, 4, 42, 180, 0, 147, 182, 0, 157, 177, 42]
abbrev dktX5_colon_0 : List UInt8 := dkwX5_colon_0 ++ dktX5_colon_1
theorem dksX5_colon_0 : cX5_colon.data.toList.drop 0 = dktX5_colon_0 := by decide +kernel
theorem dksX5_colon_1 : cX5_colon.data.toList.drop 24 = dktX5_colon_1 := dk_seg dksX5_colon_0 24 rfl rfl
theorem dksX5_colon_2 : cX5_colon.data.toList.drop 48 = dktX5_colon_2 := dk_seg dksX5_colon_1 24 rfl rfl
theorem dksX5_colon_3 : cX5_colon.data.toList.drop 70 = dktX5_colon_3 := dk_seg dksX5_colon_2 22 rfl rfl
theorem dksX5_colon_4 : cX5_colon.data.toList.drop 92 = dktX5_colon_4 := dk_seg dksX5_colon_3 22 rfl rfl
theorem dX5_colon_0 : decode cX5_colon 0 = .ok (.aload_n 0, 1) := dk_42 (dk_at dksX5_colon_0 0 rfl rfl)
theorem dX5_colon_1 : decode cX5_colon 1 = .ok (.invokevirtual 235, 3) := dk_182 0 235 (dk_at dksX5_colon_0 1 rfl rfl)
theorem dX5_colon_4 : decode cX5_colon 4 = .ok (.aload_n 0, 1) := dk_42 (dk_at dksX5_colon_0 4 rfl rfl)
theorem dX5_colon_5 : decode cX5_colon 5 = .ok (.invokevirtual 218, 3) := dk_182 0 218 (dk_at dksX5_colon_0 5 rfl rfl)
theorem dX5_colon_8 : decode cX5_colon 8 = .ok (.bipush 7, 2) := dk_16 7 (dk_at dksX5_colon_0 8 rfl rfl)
theorem dX5_colon_10 : decode cX5_colon 10 = .ok (.if_icmp .eq 13, 3) := dk_159 0 13 (dk_at dksX5_colon_0 10 rfl rfl)
theorem dX5_colon_13 : decode cX5_colon 13 = .ok (.aload_n 0, 1) := dk_42 (dk_at dksX5_colon_0 13 rfl rfl)
theorem dX5_colon_14 : decode cX5_colon 14 = .ok (.iconst 1, 1) := dk_4 (dk_at dksX5_colon_0 14 rfl rfl)
theorem dX5_colon_15 : decode cX5_colon 15 = .ok (.aload_n 0, 1) := dk_42 (dk_at dksX5_colon_0 15 rfl rfl)
theorem dX5_colon_16 : decode cX5_colon 16 = .ok (.getfield 147, 3) := dk_180 0 147 (dk_at dksX5_colon_0 16 rfl rfl)
theorem dX5_colon_19 : decode cX5_colon 19 = .ok (.invokevirtual 157, 3) := dk_182 0 157 (dk_at dksX5_colon_0 19 rfl rfl)
theorem dX5_colon_22 : decode cX5_colon 22 = .ok (.return_, 1) := dk_177 (dk_at dksX5_colon_0 22 rfl rfl)
theorem dX5_colon_23 : decode cX5_colon 23 = .ok (.aload_n 0, 1) := dk_42 (dk_at dksX5_colon_0 23 rfl rfl)
theorem dX5_colon_24 : decode cX5_colon 24 = .ok (.dup, 1) := dk_89 (dk_at dksX5_colon_1 0 rfl rfl)
theorem dX5_colon_25 : decode cX5_colon 25 = .ok (.getfield 161, 3) := dk_180 0 161 (dk_at dksX5_colon_1 1 rfl rfl)
theorem dX5_colon_28 : decode cX5_colon 28 = .ok (.iconst 1, 1) := dk_4 (dk_at dksX5_colon_1 4 rfl rfl)
theorem dX5_colon_29 : decode cX5_colon 29 = .ok (.isub, 1) := dk_100 (dk_at dksX5_colon_1 5 rfl rfl)
theorem dX5_colon_30 : decode cX5_colon 30 = .ok (.putfield 161, 3) := dk_181 0 161 (dk_at dksX5_colon_1 6 rfl rfl)
theorem dX5_colon_33 : decode cX5_colon 33 = .ok (.aload_n 0, 1) := dk_42 (dk_at dksX5_colon_1 9 rfl rfl)
theorem dX5_colon_34 : decode cX5_colon 34 = .ok (.getfield 36, 3) := dk_180 0 36 (dk_at dksX5_colon_1 10 rfl rfl)
theorem dX5_colon_37 : decode cX5_colon 37 = .ok (.aload_n 0, 1) := dk_42 (dk_at dksX5_colon_1 13 rfl rfl)
theorem dX5_colon_38 : decode cX5_colon 38 = .ok (.getfield 161, 3) := dk_180 0 161 (dk_at dksX5_colon_1 14 rfl rfl)
theorem dX5_colon_41 : decode cX5_colon 41 = .ok (.iaload, 1) := dk_46 (dk_at dksX5_colon_1 17 rfl rfl)
theorem dX5_colon_42 : decode cX5_colon 42 = .ok (.istore_n 1, 1) := dk_60 (dk_at dksX5_colon_1 18 rfl rfl)
theorem dX5_colon_43 : decode cX5_colon 43 = .ok (.aload_n 0, 1) := dk_42 (dk_at dksX5_colon_1 19 rfl rfl)
theorem dX5_colon_44 : decode cX5_colon 44 = .ok (.getfield 39, 3) := dk_180 0 39 (dk_at dksX5_colon_1 20 rfl rfl)
theorem dX5_colon_47 : decode cX5_colon 47 = .ok (.aload_n 0, 1) := dk_42 (dk_at dksX5_colon_1 23 rfl rfl)
theorem dX5_colon_48 : decode cX5_colon 48 = .ok (.getfield 161, 3) := dk_180 0 161 (dk_at dksX5_colon_2 0 rfl rfl)
theorem dX5_colon_51 : decode cX5_colon 51 = .ok (.iaload, 1) := dk_46 (dk_at dksX5_colon_2 3 rfl rfl)
theorem dX5_colon_52 : decode cX5_colon 52 = .ok (.istore_n 2, 1) := dk_61 (dk_at dksX5_colon_2 4 rfl rfl)
theorem dX5_colon_53 : decode cX5_colon 53 = .ok (.aload_n 0, 1) := dk_42 (dk_at dksX5_colon_2 5 rfl rfl)
theorem dX5_colon_54 : decode cX5_colon 54 = .ok (.dup, 1) := dk_89 (dk_at dksX5_colon_2 6 rfl rfl)
theorem dX5_colon_55 : decode cX5_colon 55 = .ok (.getfield 164, 3) := dk_180 0 164 (dk_at dksX5_colon_2 7 rfl rfl)
theorem dX5_colon_58 : decode cX5_colon 58 = .ok (.iconst 1, 1) := dk_4 (dk_at dksX5_colon_2 10 rfl rfl)
theorem dX5_colon_59 : decode cX5_colon 59 = .ok (.isub, 1) := dk_100 (dk_at dksX5_colon_2 11 rfl rfl)
theorem dX5_colon_60 : decode cX5_colon 60 = .ok (.putfield 164, 3) := dk_181 0 164 (dk_at dksX5_colon_2 12 rfl rfl)
theorem dX5_colon_63 : decode cX5_colon 63 = .ok (.aload_n 0, 1) := dk_42 (dk_at dksX5_colon_2 15 rfl rfl)
theorem dX5_colon_64 : decode cX5_colon 64 = .ok (.iconst 2, 1) := dk_5 (dk_at dksX5_colon_2 16 rfl rfl)
theorem dX5_colon_65 : decode cX5_colon 65 = .ok (.aload_n 0, 1) := dk_42 (dk_at dksX5_colon_2 17 rfl rfl)
theorem dX5_colon_66 : decode cX5_colon 66 = .ok (.getfield 144, 3) := dk_180 0 144 (dk_at dksX5_colon_2 18 rfl rfl)
theorem dX5_colon_69 : decode cX5_colon 69 = .ok (.iload_n 2, 1) := dk_28 (dk_at dksX5_colon_2 21 rfl rfl)
theorem dX5_colon_70 : decode cX5_colon 70 = .ok (.invokevirtual 198, 3) := dk_182 0 198 (dk_at dksX5_colon_3 0 rfl rfl)
theorem dX5_colon_73 : decode cX5_colon 73 = .ok (.aload_n 0, 1) := dk_42 (dk_at dksX5_colon_3 3 rfl rfl)
theorem dX5_colon_74 : decode cX5_colon 74 = .ok (.bipush 6, 2) := dk_16 6 (dk_at dksX5_colon_3 4 rfl rfl)
theorem dX5_colon_76 : decode cX5_colon 76 = .ok (.lconst 0, 1) := dk_9 (dk_at dksX5_colon_3 6 rfl rfl)
theorem dX5_colon_77 : decode cX5_colon 77 = .ok (.invokevirtual 167, 3) := dk_182 0 167 (dk_at dksX5_colon_3 7 rfl rfl)
theorem dX5_colon_80 : decode cX5_colon 80 = .ok (.aload_n 0, 1) := dk_42 (dk_at dksX5_colon_3 10 rfl rfl)
theorem dX5_colon_81 : decode cX5_colon 81 = .ok (.getfield 20, 3) := dk_180 0 20 (dk_at dksX5_colon_3 11 rfl rfl)
theorem dX5_colon_84 : decode cX5_colon 84 = .ok (.bipush 32, 2) := dk_16 32 (dk_at dksX5_colon_3 14 rfl rfl)
theorem dX5_colon_86 : decode cX5_colon 86 = .ok (.invokestatic 141, 3) := dk_184 0 141 (dk_at dksX5_colon_3 16 rfl rfl)
theorem dX5_colon_89 : decode cX5_colon 89 = .ok (.iload_n 1, 1) := dk_27 (dk_at dksX5_colon_3 19 rfl rfl)
theorem dX5_colon_90 : decode cX5_colon 90 = .ok (.iadd, 1) := dk_96 (dk_at dksX5_colon_3 20 rfl rfl)
theorem dX5_colon_91 : decode cX5_colon 91 = .ok (.aload_n 0, 1) := dk_42 (dk_at dksX5_colon_3 21 rfl rfl)
theorem dX5_colon_92 : decode cX5_colon 92 = .ok (.getfield 144, 3) := dk_180 0 144 (dk_at dksX5_colon_4 0 rfl rfl)
theorem dX5_colon_95 : decode cX5_colon 95 = .ok (.iload_n 1, 1) := dk_27 (dk_at dksX5_colon_4 3 rfl rfl)
theorem dX5_colon_96 : decode cX5_colon 96 = .ok (.isub, 1) := dk_100 (dk_at dksX5_colon_4 4 rfl rfl)
theorem dX5_colon_97 : decode cX5_colon 97 = .ok (.iconst 1, 1) := dk_4 (dk_at dksX5_colon_4 5 rfl rfl)
theorem dX5_colon_98 : decode cX5_colon 98 = .ok (.isub, 1) := dk_100 (dk_at dksX5_colon_4 6 rfl rfl)
theorem dX5_colon_99 : decode cX5_colon 99 = .ok (.i2l, 1) := dk_133 (dk_at dksX5_colon_4 7 rfl rfl)
theorem dX5_colon_100 : decode cX5_colon 100 = .ok (.lastore, 1) := dk_80 (dk_at dksX5_colon_4 8 rfl rfl)
theorem dX5_colon_101 : decode cX5_colon 101 = .ok (.aload_n 0, 1) := dk_42 (dk_at dksX5_colon_4 9 rfl rfl)
theorem dX5_colon_102 : decode cX5_colon 102 = .ok (.dup, 1) := dk_89 (dk_at dksX5_colon_4 10 rfl rfl)
theorem dX5_colon_103 : decode cX5_colon 103 = .ok (.getfield 147, 3) := dk_180 0 147 (dk_at dksX5_colon_4 11 rfl rfl)
theorem dX5_colon_106 : decode cX5_colon 106 = .ok (.iconst 1, 1) := dk_4 (dk_at dksX5_colon_4 14 rfl rfl)
theorem dX5_colon_107 : decode cX5_colon 107 = .ok (.iadd, 1) := dk_96 (dk_at dksX5_colon_4 15 rfl rfl)
theorem dX5_colon_108 : decode cX5_colon 108 = .ok (.putfield 147, 3) := dk_181 0 147 (dk_at dksX5_colon_4 16 rfl rfl)
theorem dX5_colon_111 : decode cX5_colon 111 = .ok (.return_, 1) := dk_177 (dk_at dksX5_colon_4 19 rfl rfl)
abbrev cX5_between : ByteArray := prog_12_method_28_code
def yX5_between : MethodName := ⟨RX5, "between", "(II)V"⟩
def dkwX5_between_2 : List UInt8 := [182, 0, 198, 42, 89, 180, 0, 147, 4, 96, 181, 0, 147, 177]
abbrev dktX5_between_2 : List UInt8 := dkwX5_between_2 ++ []
def dkwX5_between_1 : List UInt8 := [182, 0, 157, 177, 42, 27, 182, 0, 174, 42, 42, 180, 0, 147, 182, 0, 178, 153, 0, 20, 42, 27, 3, 28]
abbrev dktX5_between_1 : List UInt8 := dkwX5_between_1 ++ dktX5_between_2
def dkwX5_between_0 : List UInt8 := [27, 6, 160, 0, 26, 42, 7, 182, 0, 174, 42, 182, 0, 218, 6, 160, 0, 18, 42, 4, 42, 180, 0, 147]
abbrev dktX5_between_0 : List UInt8 := dkwX5_between_0 ++ dktX5_between_1
theorem dksX5_between_0 : cX5_between.data.toList.drop 0 = dktX5_between_0 := by decide +kernel
theorem dksX5_between_1 : cX5_between.data.toList.drop 24 = dktX5_between_1 := dk_seg dksX5_between_0 24 rfl rfl
theorem dksX5_between_2 : cX5_between.data.toList.drop 48 = dktX5_between_2 := dk_seg dksX5_between_1 24 rfl rfl
theorem dX5_between_0 : decode cX5_between 0 = .ok (.iload_n 1, 1) := dk_27 (dk_at dksX5_between_0 0 rfl rfl)
theorem dX5_between_1 : decode cX5_between 1 = .ok (.iconst 3, 1) := dk_6 (dk_at dksX5_between_0 1 rfl rfl)
theorem dX5_between_2 : decode cX5_between 2 = .ok (.if_icmp .ne 26, 3) := dk_160 0 26 (dk_at dksX5_between_0 2 rfl rfl)
theorem dX5_between_5 : decode cX5_between 5 = .ok (.aload_n 0, 1) := dk_42 (dk_at dksX5_between_0 5 rfl rfl)
theorem dX5_between_6 : decode cX5_between 6 = .ok (.iconst 4, 1) := dk_7 (dk_at dksX5_between_0 6 rfl rfl)
theorem dX5_between_7 : decode cX5_between 7 = .ok (.invokevirtual 174, 3) := dk_182 0 174 (dk_at dksX5_between_0 7 rfl rfl)
theorem dX5_between_10 : decode cX5_between 10 = .ok (.aload_n 0, 1) := dk_42 (dk_at dksX5_between_0 10 rfl rfl)
theorem dX5_between_11 : decode cX5_between 11 = .ok (.invokevirtual 218, 3) := dk_182 0 218 (dk_at dksX5_between_0 11 rfl rfl)
theorem dX5_between_14 : decode cX5_between 14 = .ok (.iconst 3, 1) := dk_6 (dk_at dksX5_between_0 14 rfl rfl)
theorem dX5_between_15 : decode cX5_between 15 = .ok (.if_icmp .ne 18, 3) := dk_160 0 18 (dk_at dksX5_between_0 15 rfl rfl)
theorem dX5_between_18 : decode cX5_between 18 = .ok (.aload_n 0, 1) := dk_42 (dk_at dksX5_between_0 18 rfl rfl)
theorem dX5_between_19 : decode cX5_between 19 = .ok (.iconst 1, 1) := dk_4 (dk_at dksX5_between_0 19 rfl rfl)
theorem dX5_between_20 : decode cX5_between 20 = .ok (.aload_n 0, 1) := dk_42 (dk_at dksX5_between_0 20 rfl rfl)
theorem dX5_between_21 : decode cX5_between 21 = .ok (.getfield 147, 3) := dk_180 0 147 (dk_at dksX5_between_0 21 rfl rfl)
theorem dX5_between_24 : decode cX5_between 24 = .ok (.invokevirtual 157, 3) := dk_182 0 157 (dk_at dksX5_between_1 0 rfl rfl)
theorem dX5_between_27 : decode cX5_between 27 = .ok (.return_, 1) := dk_177 (dk_at dksX5_between_1 3 rfl rfl)
theorem dX5_between_28 : decode cX5_between 28 = .ok (.aload_n 0, 1) := dk_42 (dk_at dksX5_between_1 4 rfl rfl)
theorem dX5_between_29 : decode cX5_between 29 = .ok (.iload_n 1, 1) := dk_27 (dk_at dksX5_between_1 5 rfl rfl)
theorem dX5_between_30 : decode cX5_between 30 = .ok (.invokevirtual 174, 3) := dk_182 0 174 (dk_at dksX5_between_1 6 rfl rfl)
theorem dX5_between_33 : decode cX5_between 33 = .ok (.aload_n 0, 1) := dk_42 (dk_at dksX5_between_1 9 rfl rfl)
theorem dX5_between_34 : decode cX5_between 34 = .ok (.aload_n 0, 1) := dk_42 (dk_at dksX5_between_1 10 rfl rfl)
theorem dX5_between_35 : decode cX5_between 35 = .ok (.getfield 147, 3) := dk_180 0 147 (dk_at dksX5_between_1 11 rfl rfl)
theorem dX5_between_38 : decode cX5_between 38 = .ok (.invokevirtual 178, 3) := dk_182 0 178 (dk_at dksX5_between_1 14 rfl rfl)
theorem dX5_between_41 : decode cX5_between 41 = .ok (.ifCond .eq 20, 3) := dk_153 0 20 (dk_at dksX5_between_1 17 rfl rfl)
theorem dX5_between_44 : decode cX5_between 44 = .ok (.aload_n 0, 1) := dk_42 (dk_at dksX5_between_1 20 rfl rfl)
theorem dX5_between_45 : decode cX5_between 45 = .ok (.iload_n 1, 1) := dk_27 (dk_at dksX5_between_1 21 rfl rfl)
theorem dX5_between_46 : decode cX5_between 46 = .ok (.iconst 0, 1) := dk_3 (dk_at dksX5_between_1 22 rfl rfl)
theorem dX5_between_47 : decode cX5_between 47 = .ok (.iload_n 2, 1) := dk_28 (dk_at dksX5_between_1 23 rfl rfl)
theorem dX5_between_48 : decode cX5_between 48 = .ok (.invokevirtual 198, 3) := dk_182 0 198 (dk_at dksX5_between_2 0 rfl rfl)
theorem dX5_between_51 : decode cX5_between 51 = .ok (.aload_n 0, 1) := dk_42 (dk_at dksX5_between_2 3 rfl rfl)
theorem dX5_between_52 : decode cX5_between 52 = .ok (.dup, 1) := dk_89 (dk_at dksX5_between_2 4 rfl rfl)
theorem dX5_between_53 : decode cX5_between 53 = .ok (.getfield 147, 3) := dk_180 0 147 (dk_at dksX5_between_2 5 rfl rfl)
theorem dX5_between_56 : decode cX5_between 56 = .ok (.iconst 1, 1) := dk_4 (dk_at dksX5_between_2 8 rfl rfl)
theorem dX5_between_57 : decode cX5_between 57 = .ok (.iadd, 1) := dk_96 (dk_at dksX5_between_2 9 rfl rfl)
theorem dX5_between_58 : decode cX5_between 58 = .ok (.putfield 147, 3) := dk_181 0 147 (dk_at dksX5_between_2 10 rfl rfl)
theorem dX5_between_61 : decode cX5_between 61 = .ok (.return_, 1) := dk_177 (dk_at dksX5_between_2 13 rfl rfl)
abbrev cX5_comma : ByteArray := prog_12_method_32_code
def yX5_comma : MethodName := ⟨RX5, "comma", "()V"⟩
def dkwX5_comma_2 : List UInt8 := [177]
abbrev dktX5_comma_2 : List UInt8 := dkwX5_comma_2 ++ []
def dkwX5_comma_1 : List UInt8 := [180, 0, 39, 42, 180, 0, 161, 4, 100, 92, 46, 4, 96, 79, 42, 89, 180, 0, 147, 4, 96, 181, 0, 147]
abbrev dktX5_comma_1 : List UInt8 := dkwX5_comma_1 ++ dktX5_comma_2
def dkwX5_comma_0 : List UInt8 := [42, 182, 0, 235, 42, 182, 0, 218, 16, 8, 159, 0, 13, 42, 4, 42, 180, 0, 147, 182, 0, 157, 177, 42]
abbrev dktX5_comma_0 : List UInt8 := dkwX5_comma_0 ++ dktX5_comma_1
theorem dksX5_comma_0 : cX5_comma.data.toList.drop 0 = dktX5_comma_0 := by decide +kernel
theorem dksX5_comma_1 : cX5_comma.data.toList.drop 24 = dktX5_comma_1 := dk_seg dksX5_comma_0 24 rfl rfl
theorem dksX5_comma_2 : cX5_comma.data.toList.drop 48 = dktX5_comma_2 := dk_seg dksX5_comma_1 24 rfl rfl
theorem dX5_comma_0 : decode cX5_comma 0 = .ok (.aload_n 0, 1) := dk_42 (dk_at dksX5_comma_0 0 rfl rfl)
theorem dX5_comma_1 : decode cX5_comma 1 = .ok (.invokevirtual 235, 3) := dk_182 0 235 (dk_at dksX5_comma_0 1 rfl rfl)
theorem dX5_comma_4 : decode cX5_comma 4 = .ok (.aload_n 0, 1) := dk_42 (dk_at dksX5_comma_0 4 rfl rfl)
theorem dX5_comma_5 : decode cX5_comma 5 = .ok (.invokevirtual 218, 3) := dk_182 0 218 (dk_at dksX5_comma_0 5 rfl rfl)
theorem dX5_comma_8 : decode cX5_comma 8 = .ok (.bipush 8, 2) := dk_16 8 (dk_at dksX5_comma_0 8 rfl rfl)
theorem dX5_comma_10 : decode cX5_comma 10 = .ok (.if_icmp .eq 13, 3) := dk_159 0 13 (dk_at dksX5_comma_0 10 rfl rfl)
theorem dX5_comma_13 : decode cX5_comma 13 = .ok (.aload_n 0, 1) := dk_42 (dk_at dksX5_comma_0 13 rfl rfl)
theorem dX5_comma_14 : decode cX5_comma 14 = .ok (.iconst 1, 1) := dk_4 (dk_at dksX5_comma_0 14 rfl rfl)
theorem dX5_comma_15 : decode cX5_comma 15 = .ok (.aload_n 0, 1) := dk_42 (dk_at dksX5_comma_0 15 rfl rfl)
theorem dX5_comma_16 : decode cX5_comma 16 = .ok (.getfield 147, 3) := dk_180 0 147 (dk_at dksX5_comma_0 16 rfl rfl)
theorem dX5_comma_19 : decode cX5_comma 19 = .ok (.invokevirtual 157, 3) := dk_182 0 157 (dk_at dksX5_comma_0 19 rfl rfl)
theorem dX5_comma_22 : decode cX5_comma 22 = .ok (.return_, 1) := dk_177 (dk_at dksX5_comma_0 22 rfl rfl)
theorem dX5_comma_23 : decode cX5_comma 23 = .ok (.aload_n 0, 1) := dk_42 (dk_at dksX5_comma_0 23 rfl rfl)
theorem dX5_comma_24 : decode cX5_comma 24 = .ok (.getfield 39, 3) := dk_180 0 39 (dk_at dksX5_comma_1 0 rfl rfl)
theorem dX5_comma_27 : decode cX5_comma 27 = .ok (.aload_n 0, 1) := dk_42 (dk_at dksX5_comma_1 3 rfl rfl)
theorem dX5_comma_28 : decode cX5_comma 28 = .ok (.getfield 161, 3) := dk_180 0 161 (dk_at dksX5_comma_1 4 rfl rfl)
theorem dX5_comma_31 : decode cX5_comma 31 = .ok (.iconst 1, 1) := dk_4 (dk_at dksX5_comma_1 7 rfl rfl)
theorem dX5_comma_32 : decode cX5_comma 32 = .ok (.isub, 1) := dk_100 (dk_at dksX5_comma_1 8 rfl rfl)
theorem dX5_comma_33 : decode cX5_comma 33 = .ok (.dup2, 1) := dk_92 (dk_at dksX5_comma_1 9 rfl rfl)
theorem dX5_comma_34 : decode cX5_comma 34 = .ok (.iaload, 1) := dk_46 (dk_at dksX5_comma_1 10 rfl rfl)
theorem dX5_comma_35 : decode cX5_comma 35 = .ok (.iconst 1, 1) := dk_4 (dk_at dksX5_comma_1 11 rfl rfl)
theorem dX5_comma_36 : decode cX5_comma 36 = .ok (.iadd, 1) := dk_96 (dk_at dksX5_comma_1 12 rfl rfl)
theorem dX5_comma_37 : decode cX5_comma 37 = .ok (.iastore, 1) := dk_79 (dk_at dksX5_comma_1 13 rfl rfl)
theorem dX5_comma_38 : decode cX5_comma 38 = .ok (.aload_n 0, 1) := dk_42 (dk_at dksX5_comma_1 14 rfl rfl)
theorem dX5_comma_39 : decode cX5_comma 39 = .ok (.dup, 1) := dk_89 (dk_at dksX5_comma_1 15 rfl rfl)
theorem dX5_comma_40 : decode cX5_comma 40 = .ok (.getfield 147, 3) := dk_180 0 147 (dk_at dksX5_comma_1 16 rfl rfl)
theorem dX5_comma_43 : decode cX5_comma 43 = .ok (.iconst 1, 1) := dk_4 (dk_at dksX5_comma_1 19 rfl rfl)
theorem dX5_comma_44 : decode cX5_comma 44 = .ok (.iadd, 1) := dk_96 (dk_at dksX5_comma_1 20 rfl rfl)
theorem dX5_comma_45 : decode cX5_comma 45 = .ok (.putfield 147, 3) := dk_181 0 147 (dk_at dksX5_comma_1 21 rfl rfl)
theorem dX5_comma_48 : decode cX5_comma 48 = .ok (.return_, 1) := dk_177 (dk_at dksX5_comma_2 0 rfl rfl)
abbrev cX5_findMethod : ByteArray := prog_12_method_38_code
def yX5_findMethod : MethodName := ⟨RX5, "findMethod", "(JI)I"⟩
def dkwX5_findMethod_1 : List UInt8 := [42, 180, 0, 30, 21, 4, 46, 29, 160, 0, 6, 21, 4, 172, 132, 4, 1, 167, 255, 218, 2, 172]
abbrev dktX5_findMethod_1 : List UInt8 := dkwX5_findMethod_1 ++ []
def dkwX5_findMethod_0 : List UInt8 := [3, 54, 4, 21, 4, 42, 180, 1, 4, 162, 0, 35, 42, 180, 0, 27, 21, 4, 47, 31, 148, 154, 0, 17]
abbrev dktX5_findMethod_0 : List UInt8 := dkwX5_findMethod_0 ++ dktX5_findMethod_1
theorem dksX5_findMethod_0 : cX5_findMethod.data.toList.drop 0 = dktX5_findMethod_0 := by decide +kernel
theorem dksX5_findMethod_1 : cX5_findMethod.data.toList.drop 24 = dktX5_findMethod_1 := dk_seg dksX5_findMethod_0 24 rfl rfl
theorem dX5_findMethod_0 : decode cX5_findMethod 0 = .ok (.iconst 0, 1) := dk_3 (dk_at dksX5_findMethod_0 0 rfl rfl)
theorem dX5_findMethod_1 : decode cX5_findMethod 1 = .ok (.istore 4, 2) := dk_54 4 (dk_at dksX5_findMethod_0 1 rfl rfl)
theorem dX5_findMethod_3 : decode cX5_findMethod 3 = .ok (.iload 4, 2) := dk_21 4 (dk_at dksX5_findMethod_0 3 rfl rfl)
theorem dX5_findMethod_5 : decode cX5_findMethod 5 = .ok (.aload_n 0, 1) := dk_42 (dk_at dksX5_findMethod_0 5 rfl rfl)
theorem dX5_findMethod_6 : decode cX5_findMethod 6 = .ok (.getfield 260, 3) := dk_180 1 4 (dk_at dksX5_findMethod_0 6 rfl rfl)
theorem dX5_findMethod_9 : decode cX5_findMethod 9 = .ok (.if_icmp .ge 35, 3) := dk_162 0 35 (dk_at dksX5_findMethod_0 9 rfl rfl)
theorem dX5_findMethod_12 : decode cX5_findMethod 12 = .ok (.aload_n 0, 1) := dk_42 (dk_at dksX5_findMethod_0 12 rfl rfl)
theorem dX5_findMethod_13 : decode cX5_findMethod 13 = .ok (.getfield 27, 3) := dk_180 0 27 (dk_at dksX5_findMethod_0 13 rfl rfl)
theorem dX5_findMethod_16 : decode cX5_findMethod 16 = .ok (.iload 4, 2) := dk_21 4 (dk_at dksX5_findMethod_0 16 rfl rfl)
theorem dX5_findMethod_18 : decode cX5_findMethod 18 = .ok (.laload, 1) := dk_47 (dk_at dksX5_findMethod_0 18 rfl rfl)
theorem dX5_findMethod_19 : decode cX5_findMethod 19 = .ok (.lload_n 1, 1) := dk_31 (dk_at dksX5_findMethod_0 19 rfl rfl)
theorem dX5_findMethod_20 : decode cX5_findMethod 20 = .ok (.lcmp, 1) := dk_148 (dk_at dksX5_findMethod_0 20 rfl rfl)
theorem dX5_findMethod_21 : decode cX5_findMethod 21 = .ok (.ifCond .ne 17, 3) := dk_154 0 17 (dk_at dksX5_findMethod_0 21 rfl rfl)
theorem dX5_findMethod_24 : decode cX5_findMethod 24 = .ok (.aload_n 0, 1) := dk_42 (dk_at dksX5_findMethod_1 0 rfl rfl)
theorem dX5_findMethod_25 : decode cX5_findMethod 25 = .ok (.getfield 30, 3) := dk_180 0 30 (dk_at dksX5_findMethod_1 1 rfl rfl)
theorem dX5_findMethod_28 : decode cX5_findMethod 28 = .ok (.iload 4, 2) := dk_21 4 (dk_at dksX5_findMethod_1 4 rfl rfl)
theorem dX5_findMethod_30 : decode cX5_findMethod 30 = .ok (.iaload, 1) := dk_46 (dk_at dksX5_findMethod_1 6 rfl rfl)
theorem dX5_findMethod_31 : decode cX5_findMethod 31 = .ok (.iload_n 3, 1) := dk_29 (dk_at dksX5_findMethod_1 7 rfl rfl)
theorem dX5_findMethod_32 : decode cX5_findMethod 32 = .ok (.if_icmp .ne 6, 3) := dk_160 0 6 (dk_at dksX5_findMethod_1 8 rfl rfl)
theorem dX5_findMethod_35 : decode cX5_findMethod 35 = .ok (.iload 4, 2) := dk_21 4 (dk_at dksX5_findMethod_1 11 rfl rfl)
theorem dX5_findMethod_37 : decode cX5_findMethod 37 = .ok (.ireturn, 1) := dk_172 (dk_at dksX5_findMethod_1 13 rfl rfl)
theorem dX5_findMethod_38 : decode cX5_findMethod 38 = .ok (.iinc 4 1, 3) := dk_132 4 1 (dk_at dksX5_findMethod_1 14 rfl rfl)
theorem dX5_findMethod_41 : decode cX5_findMethod 41 = .ok (.goto (-38), 3) := dk_167 255 218 (dk_at dksX5_findMethod_1 17 rfl rfl)
theorem dX5_findMethod_44 : decode cX5_findMethod 44 = .ok (.iconst (-1), 1) := dk_2 (dk_at dksX5_findMethod_1 20 rfl rfl)
theorem dX5_findMethod_45 : decode cX5_findMethod 45 = .ok (.ireturn, 1) := dk_172 (dk_at dksX5_findMethod_1 21 rfl rfl)
abbrev cX5_keepExpression : ByteArray := prog_12_method_35_code
def yX5_keepExpression : MethodName := ⟨RX5, "keepExpression", "(I)V"⟩
def dkwX5_keepExpression_3 : List UInt8 := [79, 177]
abbrev dktX5_keepExpression_3 : List UInt8 := dkwX5_keepExpression_3 ++ []
def dkwX5_keepExpression_2 : List UInt8 := [16, 32, 184, 0, 141, 28, 96, 47, 80, 132, 2, 1, 167, 255, 199, 42, 180, 0, 24, 27, 42, 180, 0, 144]
abbrev dktX5_keepExpression_2 : List UInt8 := dkwX5_keepExpression_2 ++ dktX5_keepExpression_3
def dkwX5_keepExpression_1 : List UInt8 := [16, 32, 184, 0, 141, 28, 96, 46, 79, 42, 180, 0, 20, 27, 184, 0, 141, 28, 96, 42, 180, 0, 20]
abbrev dktX5_keepExpression_1 : List UInt8 := dkwX5_keepExpression_1 ++ dktX5_keepExpression_2
def dkwX5_keepExpression_0 : List UInt8 := [3, 61, 28, 42, 180, 0, 144, 162, 0, 55, 42, 180, 0, 17, 27, 184, 0, 141, 28, 96, 42, 180, 0, 17]
abbrev dktX5_keepExpression_0 : List UInt8 := dkwX5_keepExpression_0 ++ dktX5_keepExpression_1
theorem dksX5_keepExpression_0 : cX5_keepExpression.data.toList.drop 0 = dktX5_keepExpression_0 := by decide +kernel
theorem dksX5_keepExpression_1 : cX5_keepExpression.data.toList.drop 24 = dktX5_keepExpression_1 := dk_seg dksX5_keepExpression_0 24 rfl rfl
theorem dksX5_keepExpression_2 : cX5_keepExpression.data.toList.drop 47 = dktX5_keepExpression_2 := dk_seg dksX5_keepExpression_1 23 rfl rfl
theorem dksX5_keepExpression_3 : cX5_keepExpression.data.toList.drop 71 = dktX5_keepExpression_3 := dk_seg dksX5_keepExpression_2 24 rfl rfl
theorem dX5_keepExpression_0 : decode cX5_keepExpression 0 = .ok (.iconst 0, 1) := dk_3 (dk_at dksX5_keepExpression_0 0 rfl rfl)
theorem dX5_keepExpression_1 : decode cX5_keepExpression 1 = .ok (.istore_n 2, 1) := dk_61 (dk_at dksX5_keepExpression_0 1 rfl rfl)
theorem dX5_keepExpression_2 : decode cX5_keepExpression 2 = .ok (.iload_n 2, 1) := dk_28 (dk_at dksX5_keepExpression_0 2 rfl rfl)
theorem dX5_keepExpression_3 : decode cX5_keepExpression 3 = .ok (.aload_n 0, 1) := dk_42 (dk_at dksX5_keepExpression_0 3 rfl rfl)
theorem dX5_keepExpression_4 : decode cX5_keepExpression 4 = .ok (.getfield 144, 3) := dk_180 0 144 (dk_at dksX5_keepExpression_0 4 rfl rfl)
theorem dX5_keepExpression_7 : decode cX5_keepExpression 7 = .ok (.if_icmp .ge 55, 3) := dk_162 0 55 (dk_at dksX5_keepExpression_0 7 rfl rfl)
theorem dX5_keepExpression_10 : decode cX5_keepExpression 10 = .ok (.aload_n 0, 1) := dk_42 (dk_at dksX5_keepExpression_0 10 rfl rfl)
theorem dX5_keepExpression_11 : decode cX5_keepExpression 11 = .ok (.getfield 17, 3) := dk_180 0 17 (dk_at dksX5_keepExpression_0 11 rfl rfl)
theorem dX5_keepExpression_14 : decode cX5_keepExpression 14 = .ok (.iload_n 1, 1) := dk_27 (dk_at dksX5_keepExpression_0 14 rfl rfl)
theorem dX5_keepExpression_15 : decode cX5_keepExpression 15 = .ok (.invokestatic 141, 3) := dk_184 0 141 (dk_at dksX5_keepExpression_0 15 rfl rfl)
theorem dX5_keepExpression_18 : decode cX5_keepExpression 18 = .ok (.iload_n 2, 1) := dk_28 (dk_at dksX5_keepExpression_0 18 rfl rfl)
theorem dX5_keepExpression_19 : decode cX5_keepExpression 19 = .ok (.iadd, 1) := dk_96 (dk_at dksX5_keepExpression_0 19 rfl rfl)
theorem dX5_keepExpression_20 : decode cX5_keepExpression 20 = .ok (.aload_n 0, 1) := dk_42 (dk_at dksX5_keepExpression_0 20 rfl rfl)
theorem dX5_keepExpression_21 : decode cX5_keepExpression 21 = .ok (.getfield 17, 3) := dk_180 0 17 (dk_at dksX5_keepExpression_0 21 rfl rfl)
theorem dX5_keepExpression_24 : decode cX5_keepExpression 24 = .ok (.bipush 32, 2) := dk_16 32 (dk_at dksX5_keepExpression_1 0 rfl rfl)
theorem dX5_keepExpression_26 : decode cX5_keepExpression 26 = .ok (.invokestatic 141, 3) := dk_184 0 141 (dk_at dksX5_keepExpression_1 2 rfl rfl)
theorem dX5_keepExpression_29 : decode cX5_keepExpression 29 = .ok (.iload_n 2, 1) := dk_28 (dk_at dksX5_keepExpression_1 5 rfl rfl)
theorem dX5_keepExpression_30 : decode cX5_keepExpression 30 = .ok (.iadd, 1) := dk_96 (dk_at dksX5_keepExpression_1 6 rfl rfl)
theorem dX5_keepExpression_31 : decode cX5_keepExpression 31 = .ok (.iaload, 1) := dk_46 (dk_at dksX5_keepExpression_1 7 rfl rfl)
theorem dX5_keepExpression_32 : decode cX5_keepExpression 32 = .ok (.iastore, 1) := dk_79 (dk_at dksX5_keepExpression_1 8 rfl rfl)
theorem dX5_keepExpression_33 : decode cX5_keepExpression 33 = .ok (.aload_n 0, 1) := dk_42 (dk_at dksX5_keepExpression_1 9 rfl rfl)
theorem dX5_keepExpression_34 : decode cX5_keepExpression 34 = .ok (.getfield 20, 3) := dk_180 0 20 (dk_at dksX5_keepExpression_1 10 rfl rfl)
theorem dX5_keepExpression_37 : decode cX5_keepExpression 37 = .ok (.iload_n 1, 1) := dk_27 (dk_at dksX5_keepExpression_1 13 rfl rfl)
theorem dX5_keepExpression_38 : decode cX5_keepExpression 38 = .ok (.invokestatic 141, 3) := dk_184 0 141 (dk_at dksX5_keepExpression_1 14 rfl rfl)
theorem dX5_keepExpression_41 : decode cX5_keepExpression 41 = .ok (.iload_n 2, 1) := dk_28 (dk_at dksX5_keepExpression_1 17 rfl rfl)
theorem dX5_keepExpression_42 : decode cX5_keepExpression 42 = .ok (.iadd, 1) := dk_96 (dk_at dksX5_keepExpression_1 18 rfl rfl)
theorem dX5_keepExpression_43 : decode cX5_keepExpression 43 = .ok (.aload_n 0, 1) := dk_42 (dk_at dksX5_keepExpression_1 19 rfl rfl)
theorem dX5_keepExpression_44 : decode cX5_keepExpression 44 = .ok (.getfield 20, 3) := dk_180 0 20 (dk_at dksX5_keepExpression_1 20 rfl rfl)
theorem dX5_keepExpression_47 : decode cX5_keepExpression 47 = .ok (.bipush 32, 2) := dk_16 32 (dk_at dksX5_keepExpression_2 0 rfl rfl)
theorem dX5_keepExpression_49 : decode cX5_keepExpression 49 = .ok (.invokestatic 141, 3) := dk_184 0 141 (dk_at dksX5_keepExpression_2 2 rfl rfl)
theorem dX5_keepExpression_52 : decode cX5_keepExpression 52 = .ok (.iload_n 2, 1) := dk_28 (dk_at dksX5_keepExpression_2 5 rfl rfl)
theorem dX5_keepExpression_53 : decode cX5_keepExpression 53 = .ok (.iadd, 1) := dk_96 (dk_at dksX5_keepExpression_2 6 rfl rfl)
theorem dX5_keepExpression_54 : decode cX5_keepExpression 54 = .ok (.laload, 1) := dk_47 (dk_at dksX5_keepExpression_2 7 rfl rfl)
theorem dX5_keepExpression_55 : decode cX5_keepExpression 55 = .ok (.lastore, 1) := dk_80 (dk_at dksX5_keepExpression_2 8 rfl rfl)
theorem dX5_keepExpression_56 : decode cX5_keepExpression 56 = .ok (.iinc 2 1, 3) := dk_132 2 1 (dk_at dksX5_keepExpression_2 9 rfl rfl)
theorem dX5_keepExpression_59 : decode cX5_keepExpression 59 = .ok (.goto (-57), 3) := dk_167 255 199 (dk_at dksX5_keepExpression_2 12 rfl rfl)
theorem dX5_keepExpression_62 : decode cX5_keepExpression 62 = .ok (.aload_n 0, 1) := dk_42 (dk_at dksX5_keepExpression_2 15 rfl rfl)
theorem dX5_keepExpression_63 : decode cX5_keepExpression 63 = .ok (.getfield 24, 3) := dk_180 0 24 (dk_at dksX5_keepExpression_2 16 rfl rfl)
theorem dX5_keepExpression_66 : decode cX5_keepExpression 66 = .ok (.iload_n 1, 1) := dk_27 (dk_at dksX5_keepExpression_2 19 rfl rfl)
theorem dX5_keepExpression_67 : decode cX5_keepExpression 67 = .ok (.aload_n 0, 1) := dk_42 (dk_at dksX5_keepExpression_2 20 rfl rfl)
theorem dX5_keepExpression_68 : decode cX5_keepExpression 68 = .ok (.getfield 144, 3) := dk_180 0 144 (dk_at dksX5_keepExpression_2 21 rfl rfl)
theorem dX5_keepExpression_71 : decode cX5_keepExpression 71 = .ok (.iastore, 1) := dk_79 (dk_at dksX5_keepExpression_3 0 rfl rfl)
theorem dX5_keepExpression_72 : decode cX5_keepExpression 72 = .ok (.return_, 1) := dk_177 (dk_at dksX5_keepExpression_3 1 rfl rfl)
abbrev cX5_command : ByteArray := prog_12_method_55_code
def yX5_command : MethodName := ⟨RX5, "command", "()I"⟩
def dkwX5_command_13 : List UInt8 := [182, 1, 73, 172]
abbrev dktX5_command_13 : List UInt8 := dkwX5_command_13 ++ []
def dkwX5_command_12 : List UInt8 := [21, 15, 182, 1, 67, 167, 0, 20, 21, 15, 7, 160, 0, 10, 42, 182, 1, 70, 167, 0, 7, 42]
abbrev dktX5_command_12 : List UInt8 := dkwX5_command_12 ++ dktX5_command_13
def dkwX5_command_11 : List UInt8 := [181, 0, 147, 21, 15, 4, 160, 0, 10, 42, 182, 1, 64, 167, 0, 35, 21, 15, 7, 162, 0, 12, 42]
abbrev dktX5_command_11 : List UInt8 := dkwX5_command_11 ++ dktX5_command_12
def dkwX5_command_10 : List UInt8 := [21, 4, 96, 182, 1, 42, 154, 0, 11, 42, 4, 27, 182, 0, 157, 2, 172, 42, 27, 21, 4, 96]
abbrev dktX5_command_10 : List UInt8 := dkwX5_command_10 ++ dktX5_command_11
def dkwX5_command_9 : List UInt8 := [160, 0, 14, 32, 22, 13, 148, 154, 0, 7, 8, 167, 0, 4, 3, 54, 15, 21, 15, 153, 0, 14, 42, 27]
abbrev dktX5_command_9 : List UInt8 := dkwX5_command_9 ++ dktX5_command_10
def dkwX5_command_8 : List UInt8 := [167, 0, 38, 21, 4, 7, 160, 0, 14, 32, 22, 11, 148, 154, 0, 7, 7, 167, 0, 21, 21, 4, 8]
abbrev dktX5_command_8 : List UInt8 := dkwX5_command_8 ++ dktX5_command_9
def dkwX5_command_7 : List UInt8 := [148, 154, 0, 7, 5, 167, 0, 55, 21, 4, 7, 160, 0, 14, 32, 22, 9, 148, 154, 0, 7, 6]
abbrev dktX5_command_7 : List UInt8 := dkwX5_command_7 ++ dktX5_command_8
def dkwX5_command_6 : List UInt8 := [160, 0, 14, 32, 22, 5, 148, 154, 0, 7, 4, 167, 0, 73, 21, 4, 16, 7, 160, 0, 14, 32, 22, 7]
abbrev dktX5_command_6 : List UInt8 := dkwX5_command_6 ++ dktX5_command_7
def dkwX5_command_5 : List UInt8 := [8, 16, 19, 184, 1, 38, 16, 10, 121, 3, 3, 8, 16, 20, 184, 1, 38, 129, 55, 13, 21, 4, 8]
abbrev dktX5_command_5 : List UInt8 := dkwX5_command_5 ++ dktX5_command_6
def dkwX5_command_4 : List UInt8 := [8, 16, 16, 184, 1, 38, 55, 9, 16, 11, 16, 9, 16, 12, 16, 12, 184, 1, 38, 55, 11, 3, 16, 18]
abbrev dktX5_command_4 : List UInt8 := dkwX5_command_4 ++ dktX5_command_5
def dkwX5_command_3 : List UInt8 := [16, 9, 184, 1, 38, 16, 15, 121, 3, 16, 20, 16, 15, 16, 18, 184, 1, 38, 129, 55, 7, 16, 11, 8]
abbrev dktX5_command_3 : List UInt8 := dkwX5_command_3 ++ dktX5_command_4
def dkwX5_command_2 : List UInt8 := [184, 1, 38, 16, 10, 121, 3, 3, 6, 16, 8, 184, 1, 38, 129, 55, 5, 16, 13, 16, 15, 16, 14]
abbrev dktX5_command_2 : List UInt8 := dkwX5_command_2 ++ dktX5_command_3
def dkwX5_command_1 : List UInt8 := [42, 180, 0, 147, 182, 1, 34, 65, 42, 42, 180, 0, 147, 182, 0, 205, 54, 4, 3, 16, 23, 4, 16, 20]
abbrev dktX5_command_1 : List UInt8 := dkwX5_command_1 ++ dktX5_command_2
def dkwX5_command_0 : List UInt8 := [42, 182, 1, 7, 42, 4, 181, 0, 150, 42, 6, 181, 0, 202, 42, 182, 1, 25, 42, 180, 0, 147, 60, 42]
abbrev dktX5_command_0 : List UInt8 := dkwX5_command_0 ++ dktX5_command_1
theorem dksX5_command_0 : cX5_command.data.toList.drop 0 = dktX5_command_0 := by decide +kernel
theorem dksX5_command_1 : cX5_command.data.toList.drop 24 = dktX5_command_1 := dk_seg dksX5_command_0 24 rfl rfl
theorem dksX5_command_2 : cX5_command.data.toList.drop 48 = dktX5_command_2 := dk_seg dksX5_command_1 24 rfl rfl
theorem dksX5_command_3 : cX5_command.data.toList.drop 71 = dktX5_command_3 := dk_seg dksX5_command_2 23 rfl rfl
theorem dksX5_command_4 : cX5_command.data.toList.drop 95 = dktX5_command_4 := dk_seg dksX5_command_3 24 rfl rfl
theorem dksX5_command_5 : cX5_command.data.toList.drop 119 = dktX5_command_5 := dk_seg dksX5_command_4 24 rfl rfl
theorem dksX5_command_6 : cX5_command.data.toList.drop 142 = dktX5_command_6 := dk_seg dksX5_command_5 23 rfl rfl
theorem dksX5_command_7 : cX5_command.data.toList.drop 166 = dktX5_command_7 := dk_seg dksX5_command_6 24 rfl rfl
theorem dksX5_command_8 : cX5_command.data.toList.drop 188 = dktX5_command_8 := dk_seg dksX5_command_7 22 rfl rfl
theorem dksX5_command_9 : cX5_command.data.toList.drop 211 = dktX5_command_9 := dk_seg dksX5_command_8 23 rfl rfl
theorem dksX5_command_10 : cX5_command.data.toList.drop 235 = dktX5_command_10 := dk_seg dksX5_command_9 24 rfl rfl
theorem dksX5_command_11 : cX5_command.data.toList.drop 257 = dktX5_command_11 := dk_seg dksX5_command_10 22 rfl rfl
theorem dksX5_command_12 : cX5_command.data.toList.drop 280 = dktX5_command_12 := dk_seg dksX5_command_11 23 rfl rfl
theorem dksX5_command_13 : cX5_command.data.toList.drop 302 = dktX5_command_13 := dk_seg dksX5_command_12 22 rfl rfl
theorem dX5_command_0 : decode cX5_command 0 = .ok (.aload_n 0, 1) := dk_42 (dk_at dksX5_command_0 0 rfl rfl)
theorem dX5_command_1 : decode cX5_command 1 = .ok (.invokevirtual 263, 3) := dk_182 1 7 (dk_at dksX5_command_0 1 rfl rfl)
theorem dX5_command_4 : decode cX5_command 4 = .ok (.aload_n 0, 1) := dk_42 (dk_at dksX5_command_0 4 rfl rfl)
theorem dX5_command_5 : decode cX5_command 5 = .ok (.iconst 1, 1) := dk_4 (dk_at dksX5_command_0 5 rfl rfl)
theorem dX5_command_6 : decode cX5_command 6 = .ok (.putfield 150, 3) := dk_181 0 150 (dk_at dksX5_command_0 6 rfl rfl)
theorem dX5_command_9 : decode cX5_command 9 = .ok (.aload_n 0, 1) := dk_42 (dk_at dksX5_command_0 9 rfl rfl)
theorem dX5_command_10 : decode cX5_command 10 = .ok (.iconst 3, 1) := dk_6 (dk_at dksX5_command_0 10 rfl rfl)
theorem dX5_command_11 : decode cX5_command 11 = .ok (.putfield 202, 3) := dk_181 0 202 (dk_at dksX5_command_0 11 rfl rfl)
theorem dX5_command_14 : decode cX5_command 14 = .ok (.aload_n 0, 1) := dk_42 (dk_at dksX5_command_0 14 rfl rfl)
theorem dX5_command_15 : decode cX5_command 15 = .ok (.invokevirtual 281, 3) := dk_182 1 25 (dk_at dksX5_command_0 15 rfl rfl)
theorem dX5_command_18 : decode cX5_command 18 = .ok (.aload_n 0, 1) := dk_42 (dk_at dksX5_command_0 18 rfl rfl)
theorem dX5_command_19 : decode cX5_command 19 = .ok (.getfield 147, 3) := dk_180 0 147 (dk_at dksX5_command_0 19 rfl rfl)
theorem dX5_command_22 : decode cX5_command 22 = .ok (.istore_n 1, 1) := dk_60 (dk_at dksX5_command_0 22 rfl rfl)
theorem dX5_command_23 : decode cX5_command 23 = .ok (.aload_n 0, 1) := dk_42 (dk_at dksX5_command_0 23 rfl rfl)
theorem dX5_command_24 : decode cX5_command 24 = .ok (.aload_n 0, 1) := dk_42 (dk_at dksX5_command_1 0 rfl rfl)
theorem dX5_command_25 : decode cX5_command 25 = .ok (.getfield 147, 3) := dk_180 0 147 (dk_at dksX5_command_1 1 rfl rfl)
theorem dX5_command_28 : decode cX5_command 28 = .ok (.invokevirtual 290, 3) := dk_182 1 34 (dk_at dksX5_command_1 4 rfl rfl)
theorem dX5_command_31 : decode cX5_command 31 = .ok (.lstore_n 2, 1) := dk_65 (dk_at dksX5_command_1 7 rfl rfl)
theorem dX5_command_32 : decode cX5_command 32 = .ok (.aload_n 0, 1) := dk_42 (dk_at dksX5_command_1 8 rfl rfl)
theorem dX5_command_33 : decode cX5_command 33 = .ok (.aload_n 0, 1) := dk_42 (dk_at dksX5_command_1 9 rfl rfl)
theorem dX5_command_34 : decode cX5_command 34 = .ok (.getfield 147, 3) := dk_180 0 147 (dk_at dksX5_command_1 10 rfl rfl)
theorem dX5_command_37 : decode cX5_command 37 = .ok (.invokevirtual 205, 3) := dk_182 0 205 (dk_at dksX5_command_1 13 rfl rfl)
theorem dX5_command_40 : decode cX5_command 40 = .ok (.istore 4, 2) := dk_54 4 (dk_at dksX5_command_1 16 rfl rfl)
theorem dX5_command_42 : decode cX5_command 42 = .ok (.iconst 0, 1) := dk_3 (dk_at dksX5_command_1 18 rfl rfl)
theorem dX5_command_43 : decode cX5_command 43 = .ok (.bipush 23, 2) := dk_16 23 (dk_at dksX5_command_1 19 rfl rfl)
theorem dX5_command_45 : decode cX5_command 45 = .ok (.iconst 1, 1) := dk_4 (dk_at dksX5_command_1 21 rfl rfl)
theorem dX5_command_46 : decode cX5_command 46 = .ok (.bipush 20, 2) := dk_16 20 (dk_at dksX5_command_1 22 rfl rfl)
theorem dX5_command_48 : decode cX5_command 48 = .ok (.invokestatic 294, 3) := dk_184 1 38 (dk_at dksX5_command_2 0 rfl rfl)
theorem dX5_command_51 : decode cX5_command 51 = .ok (.bipush 10, 2) := dk_16 10 (dk_at dksX5_command_2 3 rfl rfl)
theorem dX5_command_53 : decode cX5_command 53 = .ok (.lshl, 1) := dk_121 (dk_at dksX5_command_2 5 rfl rfl)
theorem dX5_command_54 : decode cX5_command 54 = .ok (.iconst 0, 1) := dk_3 (dk_at dksX5_command_2 6 rfl rfl)
theorem dX5_command_55 : decode cX5_command 55 = .ok (.iconst 0, 1) := dk_3 (dk_at dksX5_command_2 7 rfl rfl)
theorem dX5_command_56 : decode cX5_command 56 = .ok (.iconst 3, 1) := dk_6 (dk_at dksX5_command_2 8 rfl rfl)
theorem dX5_command_57 : decode cX5_command 57 = .ok (.bipush 8, 2) := dk_16 8 (dk_at dksX5_command_2 9 rfl rfl)
theorem dX5_command_59 : decode cX5_command 59 = .ok (.invokestatic 294, 3) := dk_184 1 38 (dk_at dksX5_command_2 11 rfl rfl)
theorem dX5_command_62 : decode cX5_command 62 = .ok (.lor, 1) := dk_129 (dk_at dksX5_command_2 14 rfl rfl)
theorem dX5_command_63 : decode cX5_command 63 = .ok (.lstore 5, 2) := dk_55 5 (dk_at dksX5_command_2 15 rfl rfl)
theorem dX5_command_65 : decode cX5_command 65 = .ok (.bipush 13, 2) := dk_16 13 (dk_at dksX5_command_2 17 rfl rfl)
theorem dX5_command_67 : decode cX5_command 67 = .ok (.bipush 15, 2) := dk_16 15 (dk_at dksX5_command_2 19 rfl rfl)
theorem dX5_command_69 : decode cX5_command 69 = .ok (.bipush 14, 2) := dk_16 14 (dk_at dksX5_command_2 21 rfl rfl)
theorem dX5_command_71 : decode cX5_command 71 = .ok (.bipush 9, 2) := dk_16 9 (dk_at dksX5_command_3 0 rfl rfl)
theorem dX5_command_73 : decode cX5_command 73 = .ok (.invokestatic 294, 3) := dk_184 1 38 (dk_at dksX5_command_3 2 rfl rfl)
theorem dX5_command_76 : decode cX5_command 76 = .ok (.bipush 15, 2) := dk_16 15 (dk_at dksX5_command_3 5 rfl rfl)
theorem dX5_command_78 : decode cX5_command 78 = .ok (.lshl, 1) := dk_121 (dk_at dksX5_command_3 7 rfl rfl)
theorem dX5_command_79 : decode cX5_command 79 = .ok (.iconst 0, 1) := dk_3 (dk_at dksX5_command_3 8 rfl rfl)
theorem dX5_command_80 : decode cX5_command 80 = .ok (.bipush 20, 2) := dk_16 20 (dk_at dksX5_command_3 9 rfl rfl)
theorem dX5_command_82 : decode cX5_command 82 = .ok (.bipush 15, 2) := dk_16 15 (dk_at dksX5_command_3 11 rfl rfl)
theorem dX5_command_84 : decode cX5_command 84 = .ok (.bipush 18, 2) := dk_16 18 (dk_at dksX5_command_3 13 rfl rfl)
theorem dX5_command_86 : decode cX5_command 86 = .ok (.invokestatic 294, 3) := dk_184 1 38 (dk_at dksX5_command_3 15 rfl rfl)
theorem dX5_command_89 : decode cX5_command 89 = .ok (.lor, 1) := dk_129 (dk_at dksX5_command_3 18 rfl rfl)
theorem dX5_command_90 : decode cX5_command 90 = .ok (.lstore 7, 2) := dk_55 7 (dk_at dksX5_command_3 19 rfl rfl)
theorem dX5_command_92 : decode cX5_command 92 = .ok (.bipush 11, 2) := dk_16 11 (dk_at dksX5_command_3 21 rfl rfl)
theorem dX5_command_94 : decode cX5_command 94 = .ok (.iconst 5, 1) := dk_8 (dk_at dksX5_command_3 23 rfl rfl)
theorem dX5_command_95 : decode cX5_command 95 = .ok (.iconst 5, 1) := dk_8 (dk_at dksX5_command_4 0 rfl rfl)
theorem dX5_command_96 : decode cX5_command 96 = .ok (.bipush 16, 2) := dk_16 16 (dk_at dksX5_command_4 1 rfl rfl)
theorem dX5_command_98 : decode cX5_command 98 = .ok (.invokestatic 294, 3) := dk_184 1 38 (dk_at dksX5_command_4 3 rfl rfl)
theorem dX5_command_101 : decode cX5_command 101 = .ok (.lstore 9, 2) := dk_55 9 (dk_at dksX5_command_4 6 rfl rfl)
theorem dX5_command_103 : decode cX5_command 103 = .ok (.bipush 11, 2) := dk_16 11 (dk_at dksX5_command_4 8 rfl rfl)
theorem dX5_command_105 : decode cX5_command 105 = .ok (.bipush 9, 2) := dk_16 9 (dk_at dksX5_command_4 10 rfl rfl)
theorem dX5_command_107 : decode cX5_command 107 = .ok (.bipush 12, 2) := dk_16 12 (dk_at dksX5_command_4 12 rfl rfl)
theorem dX5_command_109 : decode cX5_command 109 = .ok (.bipush 12, 2) := dk_16 12 (dk_at dksX5_command_4 14 rfl rfl)
theorem dX5_command_111 : decode cX5_command 111 = .ok (.invokestatic 294, 3) := dk_184 1 38 (dk_at dksX5_command_4 16 rfl rfl)
theorem dX5_command_114 : decode cX5_command 114 = .ok (.lstore 11, 2) := dk_55 11 (dk_at dksX5_command_4 19 rfl rfl)
theorem dX5_command_116 : decode cX5_command 116 = .ok (.iconst 0, 1) := dk_3 (dk_at dksX5_command_4 21 rfl rfl)
theorem dX5_command_117 : decode cX5_command 117 = .ok (.bipush 18, 2) := dk_16 18 (dk_at dksX5_command_4 22 rfl rfl)
theorem dX5_command_119 : decode cX5_command 119 = .ok (.iconst 5, 1) := dk_8 (dk_at dksX5_command_5 0 rfl rfl)
theorem dX5_command_120 : decode cX5_command 120 = .ok (.bipush 19, 2) := dk_16 19 (dk_at dksX5_command_5 1 rfl rfl)
theorem dX5_command_122 : decode cX5_command 122 = .ok (.invokestatic 294, 3) := dk_184 1 38 (dk_at dksX5_command_5 3 rfl rfl)
theorem dX5_command_125 : decode cX5_command 125 = .ok (.bipush 10, 2) := dk_16 10 (dk_at dksX5_command_5 6 rfl rfl)
theorem dX5_command_127 : decode cX5_command 127 = .ok (.lshl, 1) := dk_121 (dk_at dksX5_command_5 8 rfl rfl)
theorem dX5_command_128 : decode cX5_command 128 = .ok (.iconst 0, 1) := dk_3 (dk_at dksX5_command_5 9 rfl rfl)
theorem dX5_command_129 : decode cX5_command 129 = .ok (.iconst 0, 1) := dk_3 (dk_at dksX5_command_5 10 rfl rfl)
theorem dX5_command_130 : decode cX5_command 130 = .ok (.iconst 5, 1) := dk_8 (dk_at dksX5_command_5 11 rfl rfl)
theorem dX5_command_131 : decode cX5_command 131 = .ok (.bipush 20, 2) := dk_16 20 (dk_at dksX5_command_5 12 rfl rfl)
theorem dX5_command_133 : decode cX5_command 133 = .ok (.invokestatic 294, 3) := dk_184 1 38 (dk_at dksX5_command_5 14 rfl rfl)
theorem dX5_command_136 : decode cX5_command 136 = .ok (.lor, 1) := dk_129 (dk_at dksX5_command_5 17 rfl rfl)
theorem dX5_command_137 : decode cX5_command 137 = .ok (.lstore 13, 2) := dk_55 13 (dk_at dksX5_command_5 18 rfl rfl)
theorem dX5_command_139 : decode cX5_command 139 = .ok (.iload 4, 2) := dk_21 4 (dk_at dksX5_command_5 20 rfl rfl)
theorem dX5_command_141 : decode cX5_command 141 = .ok (.iconst 5, 1) := dk_8 (dk_at dksX5_command_5 22 rfl rfl)
theorem dX5_command_142 : decode cX5_command 142 = .ok (.if_icmp .ne 14, 3) := dk_160 0 14 (dk_at dksX5_command_6 0 rfl rfl)
theorem dX5_command_145 : decode cX5_command 145 = .ok (.lload_n 2, 1) := dk_32 (dk_at dksX5_command_6 3 rfl rfl)
theorem dX5_command_146 : decode cX5_command 146 = .ok (.lload 5, 2) := dk_22 5 (dk_at dksX5_command_6 4 rfl rfl)
theorem dX5_command_148 : decode cX5_command 148 = .ok (.lcmp, 1) := dk_148 (dk_at dksX5_command_6 6 rfl rfl)
theorem dX5_command_149 : decode cX5_command 149 = .ok (.ifCond .ne 7, 3) := dk_154 0 7 (dk_at dksX5_command_6 7 rfl rfl)
theorem dX5_command_152 : decode cX5_command 152 = .ok (.iconst 1, 1) := dk_4 (dk_at dksX5_command_6 10 rfl rfl)
theorem dX5_command_153 : decode cX5_command 153 = .ok (.goto 73, 3) := dk_167 0 73 (dk_at dksX5_command_6 11 rfl rfl)
theorem dX5_command_156 : decode cX5_command 156 = .ok (.iload 4, 2) := dk_21 4 (dk_at dksX5_command_6 14 rfl rfl)
theorem dX5_command_158 : decode cX5_command 158 = .ok (.bipush 7, 2) := dk_16 7 (dk_at dksX5_command_6 16 rfl rfl)
theorem dX5_command_160 : decode cX5_command 160 = .ok (.if_icmp .ne 14, 3) := dk_160 0 14 (dk_at dksX5_command_6 18 rfl rfl)
theorem dX5_command_163 : decode cX5_command 163 = .ok (.lload_n 2, 1) := dk_32 (dk_at dksX5_command_6 21 rfl rfl)
theorem dX5_command_164 : decode cX5_command 164 = .ok (.lload 7, 2) := dk_22 7 (dk_at dksX5_command_6 22 rfl rfl)
theorem dX5_command_166 : decode cX5_command 166 = .ok (.lcmp, 1) := dk_148 (dk_at dksX5_command_7 0 rfl rfl)
theorem dX5_command_167 : decode cX5_command 167 = .ok (.ifCond .ne 7, 3) := dk_154 0 7 (dk_at dksX5_command_7 1 rfl rfl)
theorem dX5_command_170 : decode cX5_command 170 = .ok (.iconst 2, 1) := dk_5 (dk_at dksX5_command_7 4 rfl rfl)
theorem dX5_command_171 : decode cX5_command 171 = .ok (.goto 55, 3) := dk_167 0 55 (dk_at dksX5_command_7 5 rfl rfl)
theorem dX5_command_174 : decode cX5_command 174 = .ok (.iload 4, 2) := dk_21 4 (dk_at dksX5_command_7 8 rfl rfl)
theorem dX5_command_176 : decode cX5_command 176 = .ok (.iconst 4, 1) := dk_7 (dk_at dksX5_command_7 10 rfl rfl)
theorem dX5_command_177 : decode cX5_command 177 = .ok (.if_icmp .ne 14, 3) := dk_160 0 14 (dk_at dksX5_command_7 11 rfl rfl)
theorem dX5_command_180 : decode cX5_command 180 = .ok (.lload_n 2, 1) := dk_32 (dk_at dksX5_command_7 14 rfl rfl)
theorem dX5_command_181 : decode cX5_command 181 = .ok (.lload 9, 2) := dk_22 9 (dk_at dksX5_command_7 15 rfl rfl)
theorem dX5_command_183 : decode cX5_command 183 = .ok (.lcmp, 1) := dk_148 (dk_at dksX5_command_7 17 rfl rfl)
theorem dX5_command_184 : decode cX5_command 184 = .ok (.ifCond .ne 7, 3) := dk_154 0 7 (dk_at dksX5_command_7 18 rfl rfl)
theorem dX5_command_187 : decode cX5_command 187 = .ok (.iconst 3, 1) := dk_6 (dk_at dksX5_command_7 21 rfl rfl)
theorem dX5_command_188 : decode cX5_command 188 = .ok (.goto 38, 3) := dk_167 0 38 (dk_at dksX5_command_8 0 rfl rfl)
theorem dX5_command_191 : decode cX5_command 191 = .ok (.iload 4, 2) := dk_21 4 (dk_at dksX5_command_8 3 rfl rfl)
theorem dX5_command_193 : decode cX5_command 193 = .ok (.iconst 4, 1) := dk_7 (dk_at dksX5_command_8 5 rfl rfl)
theorem dX5_command_194 : decode cX5_command 194 = .ok (.if_icmp .ne 14, 3) := dk_160 0 14 (dk_at dksX5_command_8 6 rfl rfl)
theorem dX5_command_197 : decode cX5_command 197 = .ok (.lload_n 2, 1) := dk_32 (dk_at dksX5_command_8 9 rfl rfl)
theorem dX5_command_198 : decode cX5_command 198 = .ok (.lload 11, 2) := dk_22 11 (dk_at dksX5_command_8 10 rfl rfl)
theorem dX5_command_200 : decode cX5_command 200 = .ok (.lcmp, 1) := dk_148 (dk_at dksX5_command_8 12 rfl rfl)
theorem dX5_command_201 : decode cX5_command 201 = .ok (.ifCond .ne 7, 3) := dk_154 0 7 (dk_at dksX5_command_8 13 rfl rfl)
theorem dX5_command_204 : decode cX5_command 204 = .ok (.iconst 4, 1) := dk_7 (dk_at dksX5_command_8 16 rfl rfl)
theorem dX5_command_205 : decode cX5_command 205 = .ok (.goto 21, 3) := dk_167 0 21 (dk_at dksX5_command_8 17 rfl rfl)
theorem dX5_command_208 : decode cX5_command 208 = .ok (.iload 4, 2) := dk_21 4 (dk_at dksX5_command_8 20 rfl rfl)
theorem dX5_command_210 : decode cX5_command 210 = .ok (.iconst 5, 1) := dk_8 (dk_at dksX5_command_8 22 rfl rfl)
theorem dX5_command_211 : decode cX5_command 211 = .ok (.if_icmp .ne 14, 3) := dk_160 0 14 (dk_at dksX5_command_9 0 rfl rfl)
theorem dX5_command_214 : decode cX5_command 214 = .ok (.lload_n 2, 1) := dk_32 (dk_at dksX5_command_9 3 rfl rfl)
theorem dX5_command_215 : decode cX5_command 215 = .ok (.lload 13, 2) := dk_22 13 (dk_at dksX5_command_9 4 rfl rfl)
theorem dX5_command_217 : decode cX5_command 217 = .ok (.lcmp, 1) := dk_148 (dk_at dksX5_command_9 6 rfl rfl)
theorem dX5_command_218 : decode cX5_command 218 = .ok (.ifCond .ne 7, 3) := dk_154 0 7 (dk_at dksX5_command_9 7 rfl rfl)
theorem dX5_command_221 : decode cX5_command 221 = .ok (.iconst 5, 1) := dk_8 (dk_at dksX5_command_9 10 rfl rfl)
theorem dX5_command_222 : decode cX5_command 222 = .ok (.goto 4, 3) := dk_167 0 4 (dk_at dksX5_command_9 11 rfl rfl)
theorem dX5_command_225 : decode cX5_command 225 = .ok (.iconst 0, 1) := dk_3 (dk_at dksX5_command_9 14 rfl rfl)
theorem dX5_command_226 : decode cX5_command 226 = .ok (.istore 15, 2) := dk_54 15 (dk_at dksX5_command_9 15 rfl rfl)
theorem dX5_command_228 : decode cX5_command 228 = .ok (.iload 15, 2) := dk_21 15 (dk_at dksX5_command_9 17 rfl rfl)
theorem dX5_command_230 : decode cX5_command 230 = .ok (.ifCond .eq 14, 3) := dk_153 0 14 (dk_at dksX5_command_9 19 rfl rfl)
theorem dX5_command_233 : decode cX5_command 233 = .ok (.aload_n 0, 1) := dk_42 (dk_at dksX5_command_9 22 rfl rfl)
theorem dX5_command_234 : decode cX5_command 234 = .ok (.iload_n 1, 1) := dk_27 (dk_at dksX5_command_9 23 rfl rfl)
theorem dX5_command_235 : decode cX5_command 235 = .ok (.iload 4, 2) := dk_21 4 (dk_at dksX5_command_10 0 rfl rfl)
theorem dX5_command_237 : decode cX5_command 237 = .ok (.iadd, 1) := dk_96 (dk_at dksX5_command_10 2 rfl rfl)
theorem dX5_command_238 : decode cX5_command 238 = .ok (.invokevirtual 298, 3) := dk_182 1 42 (dk_at dksX5_command_10 3 rfl rfl)
theorem dX5_command_241 : decode cX5_command 241 = .ok (.ifCond .ne 11, 3) := dk_154 0 11 (dk_at dksX5_command_10 6 rfl rfl)
theorem dX5_command_244 : decode cX5_command 244 = .ok (.aload_n 0, 1) := dk_42 (dk_at dksX5_command_10 9 rfl rfl)
theorem dX5_command_245 : decode cX5_command 245 = .ok (.iconst 1, 1) := dk_4 (dk_at dksX5_command_10 10 rfl rfl)
theorem dX5_command_246 : decode cX5_command 246 = .ok (.iload_n 1, 1) := dk_27 (dk_at dksX5_command_10 11 rfl rfl)
theorem dX5_command_247 : decode cX5_command 247 = .ok (.invokevirtual 157, 3) := dk_182 0 157 (dk_at dksX5_command_10 12 rfl rfl)
theorem dX5_command_250 : decode cX5_command 250 = .ok (.iconst (-1), 1) := dk_2 (dk_at dksX5_command_10 15 rfl rfl)
theorem dX5_command_251 : decode cX5_command 251 = .ok (.ireturn, 1) := dk_172 (dk_at dksX5_command_10 16 rfl rfl)
theorem dX5_command_252 : decode cX5_command 252 = .ok (.aload_n 0, 1) := dk_42 (dk_at dksX5_command_10 17 rfl rfl)
theorem dX5_command_253 : decode cX5_command 253 = .ok (.iload_n 1, 1) := dk_27 (dk_at dksX5_command_10 18 rfl rfl)
theorem dX5_command_254 : decode cX5_command 254 = .ok (.iload 4, 2) := dk_21 4 (dk_at dksX5_command_10 19 rfl rfl)
theorem dX5_command_256 : decode cX5_command 256 = .ok (.iadd, 1) := dk_96 (dk_at dksX5_command_10 21 rfl rfl)
theorem dX5_command_257 : decode cX5_command 257 = .ok (.putfield 147, 3) := dk_181 0 147 (dk_at dksX5_command_11 0 rfl rfl)
theorem dX5_command_260 : decode cX5_command 260 = .ok (.iload 15, 2) := dk_21 15 (dk_at dksX5_command_11 3 rfl rfl)
theorem dX5_command_262 : decode cX5_command 262 = .ok (.iconst 1, 1) := dk_4 (dk_at dksX5_command_11 5 rfl rfl)
theorem dX5_command_263 : decode cX5_command 263 = .ok (.if_icmp .ne 10, 3) := dk_160 0 10 (dk_at dksX5_command_11 6 rfl rfl)
theorem dX5_command_266 : decode cX5_command 266 = .ok (.aload_n 0, 1) := dk_42 (dk_at dksX5_command_11 9 rfl rfl)
theorem dX5_command_267 : decode cX5_command 267 = .ok (.invokevirtual 320, 3) := dk_182 1 64 (dk_at dksX5_command_11 10 rfl rfl)
theorem dX5_command_270 : decode cX5_command 270 = .ok (.goto 35, 3) := dk_167 0 35 (dk_at dksX5_command_11 13 rfl rfl)
theorem dX5_command_273 : decode cX5_command 273 = .ok (.iload 15, 2) := dk_21 15 (dk_at dksX5_command_11 16 rfl rfl)
theorem dX5_command_275 : decode cX5_command 275 = .ok (.iconst 4, 1) := dk_7 (dk_at dksX5_command_11 18 rfl rfl)
theorem dX5_command_276 : decode cX5_command 276 = .ok (.if_icmp .ge 12, 3) := dk_162 0 12 (dk_at dksX5_command_11 19 rfl rfl)
theorem dX5_command_279 : decode cX5_command 279 = .ok (.aload_n 0, 1) := dk_42 (dk_at dksX5_command_11 22 rfl rfl)
theorem dX5_command_280 : decode cX5_command 280 = .ok (.iload 15, 2) := dk_21 15 (dk_at dksX5_command_12 0 rfl rfl)
theorem dX5_command_282 : decode cX5_command 282 = .ok (.invokevirtual 323, 3) := dk_182 1 67 (dk_at dksX5_command_12 2 rfl rfl)
theorem dX5_command_285 : decode cX5_command 285 = .ok (.goto 20, 3) := dk_167 0 20 (dk_at dksX5_command_12 5 rfl rfl)
theorem dX5_command_288 : decode cX5_command 288 = .ok (.iload 15, 2) := dk_21 15 (dk_at dksX5_command_12 8 rfl rfl)
theorem dX5_command_290 : decode cX5_command 290 = .ok (.iconst 4, 1) := dk_7 (dk_at dksX5_command_12 10 rfl rfl)
theorem dX5_command_291 : decode cX5_command 291 = .ok (.if_icmp .ne 10, 3) := dk_160 0 10 (dk_at dksX5_command_12 11 rfl rfl)
theorem dX5_command_294 : decode cX5_command 294 = .ok (.aload_n 0, 1) := dk_42 (dk_at dksX5_command_12 14 rfl rfl)
theorem dX5_command_295 : decode cX5_command 295 = .ok (.invokevirtual 326, 3) := dk_182 1 70 (dk_at dksX5_command_12 15 rfl rfl)
theorem dX5_command_298 : decode cX5_command 298 = .ok (.goto 7, 3) := dk_167 0 7 (dk_at dksX5_command_12 18 rfl rfl)
theorem dX5_command_301 : decode cX5_command 301 = .ok (.aload_n 0, 1) := dk_42 (dk_at dksX5_command_12 21 rfl rfl)
theorem dX5_command_302 : decode cX5_command 302 = .ok (.invokevirtual 329, 3) := dk_182 1 73 (dk_at dksX5_command_13 0 rfl rfl)
theorem dX5_command_305 : decode cX5_command 305 = .ok (.ireturn, 1) := dk_172 (dk_at dksX5_command_13 3 rfl rfl)
abbrev cX5_skip : ByteArray := prog_12_method_40_code
def yX5_skip : MethodName := ⟨RX5, "skip", "()V"⟩
def dkwX5_skip_1 : List UInt8 := [163, 0, 16, 42, 89, 180, 0, 147, 4, 96, 181, 0, 147, 167, 255, 221, 177]
abbrev dktX5_skip_1 : List UInt8 := dkwX5_skip_1 ++ []
def dkwX5_skip_0 : List UInt8 := [42, 180, 0, 147, 42, 180, 0, 118, 162, 0, 30, 42, 180, 0, 7, 42, 180, 0, 147, 46, 16, 32]
abbrev dktX5_skip_0 : List UInt8 := dkwX5_skip_0 ++ dktX5_skip_1
theorem dksX5_skip_0 : cX5_skip.data.toList.drop 0 = dktX5_skip_0 := by decide +kernel
theorem dksX5_skip_1 : cX5_skip.data.toList.drop 22 = dktX5_skip_1 := dk_seg dksX5_skip_0 22 rfl rfl
theorem dX5_skip_0 : decode cX5_skip 0 = .ok (.aload_n 0, 1) := dk_42 (dk_at dksX5_skip_0 0 rfl rfl)
theorem dX5_skip_1 : decode cX5_skip 1 = .ok (.getfield 147, 3) := dk_180 0 147 (dk_at dksX5_skip_0 1 rfl rfl)
theorem dX5_skip_4 : decode cX5_skip 4 = .ok (.aload_n 0, 1) := dk_42 (dk_at dksX5_skip_0 4 rfl rfl)
theorem dX5_skip_5 : decode cX5_skip 5 = .ok (.getfield 118, 3) := dk_180 0 118 (dk_at dksX5_skip_0 5 rfl rfl)
theorem dX5_skip_8 : decode cX5_skip 8 = .ok (.if_icmp .ge 30, 3) := dk_162 0 30 (dk_at dksX5_skip_0 8 rfl rfl)
theorem dX5_skip_11 : decode cX5_skip 11 = .ok (.aload_n 0, 1) := dk_42 (dk_at dksX5_skip_0 11 rfl rfl)
theorem dX5_skip_12 : decode cX5_skip 12 = .ok (.getfield 7, 3) := dk_180 0 7 (dk_at dksX5_skip_0 12 rfl rfl)
theorem dX5_skip_15 : decode cX5_skip 15 = .ok (.aload_n 0, 1) := dk_42 (dk_at dksX5_skip_0 15 rfl rfl)
theorem dX5_skip_16 : decode cX5_skip 16 = .ok (.getfield 147, 3) := dk_180 0 147 (dk_at dksX5_skip_0 16 rfl rfl)
theorem dX5_skip_19 : decode cX5_skip 19 = .ok (.iaload, 1) := dk_46 (dk_at dksX5_skip_0 19 rfl rfl)
theorem dX5_skip_20 : decode cX5_skip 20 = .ok (.bipush 32, 2) := dk_16 32 (dk_at dksX5_skip_0 20 rfl rfl)
theorem dX5_skip_22 : decode cX5_skip 22 = .ok (.if_icmp .gt 16, 3) := dk_163 0 16 (dk_at dksX5_skip_1 0 rfl rfl)
theorem dX5_skip_25 : decode cX5_skip 25 = .ok (.aload_n 0, 1) := dk_42 (dk_at dksX5_skip_1 3 rfl rfl)
theorem dX5_skip_26 : decode cX5_skip 26 = .ok (.dup, 1) := dk_89 (dk_at dksX5_skip_1 4 rfl rfl)
theorem dX5_skip_27 : decode cX5_skip 27 = .ok (.getfield 147, 3) := dk_180 0 147 (dk_at dksX5_skip_1 5 rfl rfl)
theorem dX5_skip_30 : decode cX5_skip 30 = .ok (.iconst 1, 1) := dk_4 (dk_at dksX5_skip_1 8 rfl rfl)
theorem dX5_skip_31 : decode cX5_skip 31 = .ok (.iadd, 1) := dk_96 (dk_at dksX5_skip_1 9 rfl rfl)
theorem dX5_skip_32 : decode cX5_skip 32 = .ok (.putfield 147, 3) := dk_181 0 147 (dk_at dksX5_skip_1 10 rfl rfl)
theorem dX5_skip_35 : decode cX5_skip 35 = .ok (.goto (-35), 3) := dk_167 255 221 (dk_at dksX5_skip_1 13 rfl rfl)
theorem dX5_skip_38 : decode cX5_skip 38 = .ok (.return_, 1) := dk_177 (dk_at dksX5_skip_1 16 rfl rfl)
abbrev cX5_rowAt : ByteArray := prog_12_method_42_code
def yX5_rowAt : MethodName := ⟨RX5, "rowAt", "(I)J"⟩
def dkwX5_rowAt_2 : List UInt8 := [180, 0, 137, 173]
abbrev dktX5_rowAt_2 : List UInt8 := dkwX5_rowAt_2 ++ []
def dkwX5_rowAt_1 : List UInt8 := [28, 16, 8, 164, 0, 7, 9, 167, 0, 18, 29, 153, 0, 10, 42, 180, 0, 137, 167, 0, 7, 42]
abbrev dktX5_rowAt_1 : List UInt8 := dkwX5_rowAt_1 ++ dktX5_rowAt_2
def dkwX5_rowAt_0 : List UInt8 := [42, 27, 182, 0, 205, 61, 42, 27, 28, 16, 12, 164, 0, 8, 16, 12, 167, 0, 4, 28, 182, 0, 211, 62]
abbrev dktX5_rowAt_0 : List UInt8 := dkwX5_rowAt_0 ++ dktX5_rowAt_1
theorem dksX5_rowAt_0 : cX5_rowAt.data.toList.drop 0 = dktX5_rowAt_0 := by decide +kernel
theorem dksX5_rowAt_1 : cX5_rowAt.data.toList.drop 24 = dktX5_rowAt_1 := dk_seg dksX5_rowAt_0 24 rfl rfl
theorem dksX5_rowAt_2 : cX5_rowAt.data.toList.drop 46 = dktX5_rowAt_2 := dk_seg dksX5_rowAt_1 22 rfl rfl
theorem dX5_rowAt_0 : decode cX5_rowAt 0 = .ok (.aload_n 0, 1) := dk_42 (dk_at dksX5_rowAt_0 0 rfl rfl)
theorem dX5_rowAt_1 : decode cX5_rowAt 1 = .ok (.iload_n 1, 1) := dk_27 (dk_at dksX5_rowAt_0 1 rfl rfl)
theorem dX5_rowAt_2 : decode cX5_rowAt 2 = .ok (.invokevirtual 205, 3) := dk_182 0 205 (dk_at dksX5_rowAt_0 2 rfl rfl)
theorem dX5_rowAt_5 : decode cX5_rowAt 5 = .ok (.istore_n 2, 1) := dk_61 (dk_at dksX5_rowAt_0 5 rfl rfl)
theorem dX5_rowAt_6 : decode cX5_rowAt 6 = .ok (.aload_n 0, 1) := dk_42 (dk_at dksX5_rowAt_0 6 rfl rfl)
theorem dX5_rowAt_7 : decode cX5_rowAt 7 = .ok (.iload_n 1, 1) := dk_27 (dk_at dksX5_rowAt_0 7 rfl rfl)
theorem dX5_rowAt_8 : decode cX5_rowAt 8 = .ok (.iload_n 2, 1) := dk_28 (dk_at dksX5_rowAt_0 8 rfl rfl)
theorem dX5_rowAt_9 : decode cX5_rowAt 9 = .ok (.bipush 12, 2) := dk_16 12 (dk_at dksX5_rowAt_0 9 rfl rfl)
theorem dX5_rowAt_11 : decode cX5_rowAt 11 = .ok (.if_icmp .le 8, 3) := dk_164 0 8 (dk_at dksX5_rowAt_0 11 rfl rfl)
theorem dX5_rowAt_14 : decode cX5_rowAt 14 = .ok (.bipush 12, 2) := dk_16 12 (dk_at dksX5_rowAt_0 14 rfl rfl)
theorem dX5_rowAt_16 : decode cX5_rowAt 16 = .ok (.goto 4, 3) := dk_167 0 4 (dk_at dksX5_rowAt_0 16 rfl rfl)
theorem dX5_rowAt_19 : decode cX5_rowAt 19 = .ok (.iload_n 2, 1) := dk_28 (dk_at dksX5_rowAt_0 19 rfl rfl)
theorem dX5_rowAt_20 : decode cX5_rowAt 20 = .ok (.invokevirtual 211, 3) := dk_182 0 211 (dk_at dksX5_rowAt_0 20 rfl rfl)
theorem dX5_rowAt_23 : decode cX5_rowAt 23 = .ok (.istore_n 3, 1) := dk_62 (dk_at dksX5_rowAt_0 23 rfl rfl)
theorem dX5_rowAt_24 : decode cX5_rowAt 24 = .ok (.iload_n 2, 1) := dk_28 (dk_at dksX5_rowAt_1 0 rfl rfl)
theorem dX5_rowAt_25 : decode cX5_rowAt 25 = .ok (.bipush 8, 2) := dk_16 8 (dk_at dksX5_rowAt_1 1 rfl rfl)
theorem dX5_rowAt_27 : decode cX5_rowAt 27 = .ok (.if_icmp .le 7, 3) := dk_164 0 7 (dk_at dksX5_rowAt_1 3 rfl rfl)
theorem dX5_rowAt_30 : decode cX5_rowAt 30 = .ok (.lconst 0, 1) := dk_9 (dk_at dksX5_rowAt_1 6 rfl rfl)
theorem dX5_rowAt_31 : decode cX5_rowAt 31 = .ok (.goto 18, 3) := dk_167 0 18 (dk_at dksX5_rowAt_1 7 rfl rfl)
theorem dX5_rowAt_34 : decode cX5_rowAt 34 = .ok (.iload_n 3, 1) := dk_29 (dk_at dksX5_rowAt_1 10 rfl rfl)
theorem dX5_rowAt_35 : decode cX5_rowAt 35 = .ok (.ifCond .eq 10, 3) := dk_153 0 10 (dk_at dksX5_rowAt_1 11 rfl rfl)
theorem dX5_rowAt_38 : decode cX5_rowAt 38 = .ok (.aload_n 0, 1) := dk_42 (dk_at dksX5_rowAt_1 14 rfl rfl)
theorem dX5_rowAt_39 : decode cX5_rowAt 39 = .ok (.getfield 137, 3) := dk_180 0 137 (dk_at dksX5_rowAt_1 15 rfl rfl)
theorem dX5_rowAt_42 : decode cX5_rowAt 42 = .ok (.goto 7, 3) := dk_167 0 7 (dk_at dksX5_rowAt_1 18 rfl rfl)
theorem dX5_rowAt_45 : decode cX5_rowAt 45 = .ok (.aload_n 0, 1) := dk_42 (dk_at dksX5_rowAt_1 21 rfl rfl)
theorem dX5_rowAt_46 : decode cX5_rowAt 46 = .ok (.getfield 137, 3) := dk_180 0 137 (dk_at dksX5_rowAt_2 0 rfl rfl)
theorem dX5_rowAt_49 : decode cX5_rowAt 49 = .ok (.lreturn, 1) := dk_173 (dk_at dksX5_rowAt_2 3 rfl rfl)
abbrev cX5_word : ByteArray := prog_12_method_41_code
def yX5_word : MethodName := ⟨RX5, "word", "(IIII)J"⟩
def dkwX5_word_0 : List UInt8 := [26, 133, 16, 15, 121, 27, 133, 16, 10, 121, 129, 28, 133, 8, 121, 129, 29, 133, 129, 20, 1, 23, 127, 173]
abbrev dktX5_word_0 : List UInt8 := dkwX5_word_0 ++ []
theorem dksX5_word_0 : cX5_word.data.toList.drop 0 = dktX5_word_0 := by decide +kernel
theorem dX5_word_0 : decode cX5_word 0 = .ok (.iload_n 0, 1) := dk_26 (dk_at dksX5_word_0 0 rfl rfl)
theorem dX5_word_1 : decode cX5_word 1 = .ok (.i2l, 1) := dk_133 (dk_at dksX5_word_0 1 rfl rfl)
theorem dX5_word_2 : decode cX5_word 2 = .ok (.bipush 15, 2) := dk_16 15 (dk_at dksX5_word_0 2 rfl rfl)
theorem dX5_word_4 : decode cX5_word 4 = .ok (.lshl, 1) := dk_121 (dk_at dksX5_word_0 4 rfl rfl)
theorem dX5_word_5 : decode cX5_word 5 = .ok (.iload_n 1, 1) := dk_27 (dk_at dksX5_word_0 5 rfl rfl)
theorem dX5_word_6 : decode cX5_word 6 = .ok (.i2l, 1) := dk_133 (dk_at dksX5_word_0 6 rfl rfl)
theorem dX5_word_7 : decode cX5_word 7 = .ok (.bipush 10, 2) := dk_16 10 (dk_at dksX5_word_0 7 rfl rfl)
theorem dX5_word_9 : decode cX5_word 9 = .ok (.lshl, 1) := dk_121 (dk_at dksX5_word_0 9 rfl rfl)
theorem dX5_word_10 : decode cX5_word 10 = .ok (.lor, 1) := dk_129 (dk_at dksX5_word_0 10 rfl rfl)
theorem dX5_word_11 : decode cX5_word 11 = .ok (.iload_n 2, 1) := dk_28 (dk_at dksX5_word_0 11 rfl rfl)
theorem dX5_word_12 : decode cX5_word 12 = .ok (.i2l, 1) := dk_133 (dk_at dksX5_word_0 12 rfl rfl)
theorem dX5_word_13 : decode cX5_word 13 = .ok (.iconst 5, 1) := dk_8 (dk_at dksX5_word_0 13 rfl rfl)
theorem dX5_word_14 : decode cX5_word 14 = .ok (.lshl, 1) := dk_121 (dk_at dksX5_word_0 14 rfl rfl)
theorem dX5_word_15 : decode cX5_word 15 = .ok (.lor, 1) := dk_129 (dk_at dksX5_word_0 15 rfl rfl)
theorem dX5_word_16 : decode cX5_word 16 = .ok (.iload_n 3, 1) := dk_29 (dk_at dksX5_word_0 16 rfl rfl)
theorem dX5_word_17 : decode cX5_word 17 = .ok (.i2l, 1) := dk_133 (dk_at dksX5_word_0 17 rfl rfl)
theorem dX5_word_18 : decode cX5_word 18 = .ok (.lor, 1) := dk_129 (dk_at dksX5_word_0 18 rfl rfl)
theorem dX5_word_19 : decode cX5_word 19 = .ok (.ldc2_w 279, 3) := dk_20 1 23 (dk_at dksX5_word_0 19 rfl rfl)
theorem dX5_word_22 : decode cX5_word 22 = .ok (.land, 1) := dk_127 (dk_at dksX5_word_0 22 rfl rfl)
theorem dX5_word_23 : decode cX5_word 23 = .ok (.lreturn, 1) := dk_173 (dk_at dksX5_word_0 23 rfl rfl)
abbrev cX5_endsAt : ByteArray := prog_12_method_43_code
def yX5_endsAt : MethodName := ⟨RX5, "endsAt", "(I)Z"⟩
def dkwX5_endsAt_1 : List UInt8 := [172]
abbrev dktX5_endsAt_1 : List UInt8 := dkwX5_endsAt_1 ++ []
def dkwX5_endsAt_0 : List UInt8 := [27, 42, 180, 0, 118, 162, 0, 14, 42, 180, 0, 7, 27, 46, 16, 32, 163, 0, 7, 4, 167, 0, 4, 3]
abbrev dktX5_endsAt_0 : List UInt8 := dkwX5_endsAt_0 ++ dktX5_endsAt_1
theorem dksX5_endsAt_0 : cX5_endsAt.data.toList.drop 0 = dktX5_endsAt_0 := by decide +kernel
theorem dksX5_endsAt_1 : cX5_endsAt.data.toList.drop 24 = dktX5_endsAt_1 := dk_seg dksX5_endsAt_0 24 rfl rfl
theorem dX5_endsAt_0 : decode cX5_endsAt 0 = .ok (.iload_n 1, 1) := dk_27 (dk_at dksX5_endsAt_0 0 rfl rfl)
theorem dX5_endsAt_1 : decode cX5_endsAt 1 = .ok (.aload_n 0, 1) := dk_42 (dk_at dksX5_endsAt_0 1 rfl rfl)
theorem dX5_endsAt_2 : decode cX5_endsAt 2 = .ok (.getfield 118, 3) := dk_180 0 118 (dk_at dksX5_endsAt_0 2 rfl rfl)
theorem dX5_endsAt_5 : decode cX5_endsAt 5 = .ok (.if_icmp .ge 14, 3) := dk_162 0 14 (dk_at dksX5_endsAt_0 5 rfl rfl)
theorem dX5_endsAt_8 : decode cX5_endsAt 8 = .ok (.aload_n 0, 1) := dk_42 (dk_at dksX5_endsAt_0 8 rfl rfl)
theorem dX5_endsAt_9 : decode cX5_endsAt 9 = .ok (.getfield 7, 3) := dk_180 0 7 (dk_at dksX5_endsAt_0 9 rfl rfl)
theorem dX5_endsAt_12 : decode cX5_endsAt 12 = .ok (.iload_n 1, 1) := dk_27 (dk_at dksX5_endsAt_0 12 rfl rfl)
theorem dX5_endsAt_13 : decode cX5_endsAt 13 = .ok (.iaload, 1) := dk_46 (dk_at dksX5_endsAt_0 13 rfl rfl)
theorem dX5_endsAt_14 : decode cX5_endsAt 14 = .ok (.bipush 32, 2) := dk_16 32 (dk_at dksX5_endsAt_0 14 rfl rfl)
theorem dX5_endsAt_16 : decode cX5_endsAt 16 = .ok (.if_icmp .gt 7, 3) := dk_163 0 7 (dk_at dksX5_endsAt_0 16 rfl rfl)
theorem dX5_endsAt_19 : decode cX5_endsAt 19 = .ok (.iconst 1, 1) := dk_4 (dk_at dksX5_endsAt_0 19 rfl rfl)
theorem dX5_endsAt_20 : decode cX5_endsAt 20 = .ok (.goto 4, 3) := dk_167 0 4 (dk_at dksX5_endsAt_0 20 rfl rfl)
theorem dX5_endsAt_23 : decode cX5_endsAt 23 = .ok (.iconst 0, 1) := dk_3 (dk_at dksX5_endsAt_0 23 rfl rfl)
theorem dX5_endsAt_24 : decode cX5_endsAt 24 = .ok (.ireturn, 1) := dk_172 (dk_at dksX5_endsAt_1 0 rfl rfl)
abbrev cX5_watch : ByteArray := prog_12_method_51_code
def yX5_watch : MethodName := ⟨RX5, "watch", "()I"⟩
def dkwX5_watch_8 : List UInt8 := [27, 79, 42, 180, 0, 54, 28, 21, 4, 79, 42, 180, 0, 60, 28, 29, 84, 28, 172]
abbrev dktX5_watch_8 : List UInt8 := dkwX5_watch_8 ++ []
def dkwX5_watch_7 : List UInt8 := [182, 0, 157, 42, 180, 0, 123, 158, 0, 5, 2, 172, 42, 4, 28, 182, 1, 60, 87, 42, 180, 0, 51, 28]
abbrev dktX5_watch_7 : List UInt8 := dkwX5_watch_7 ++ dktX5_watch_8
def dkwX5_watch_6 : List UInt8 := [54, 4, 42, 182, 1, 57, 42, 180, 0, 123, 154, 0, 16, 28, 156, 0, 12, 42, 8, 42, 180, 0, 118]
abbrev dktX5_watch_6 : List UInt8 := dkwX5_watch_6 ++ dktX5_watch_7
def dkwX5_watch_5 : List UInt8 := [154, 0, 25, 42, 182, 1, 25, 42, 180, 0, 147, 42, 180, 0, 118, 162, 0, 10, 42, 4, 182, 1, 54]
abbrev dktX5_watch_5 : List UInt8 := dkwX5_watch_5 ++ dktX5_watch_6
def dkwX5_watch_4 : List UInt8 := [180, 0, 123, 154, 0, 17, 28, 155, 0, 13, 42, 16, 17, 5, 28, 104, 96, 182, 1, 20, 42, 180, 0, 123]
abbrev dktX5_watch_4 : List UInt8 := dkwX5_watch_4 ++ dktX5_watch_5
def dkwX5_watch_3 : List UInt8 := [42, 182, 1, 25, 42, 180, 0, 147, 42, 180, 0, 118, 162, 0, 30, 42, 182, 1, 13, 4, 62, 42]
abbrev dktX5_watch_3 : List UInt8 := dkwX5_watch_3 ++ dktX5_watch_4
def dkwX5_watch_2 : List UInt8 := [154, 0, 17, 28, 155, 0, 13, 42, 16, 16, 5, 28, 104, 96, 182, 1, 20, 42, 180, 0, 123, 154, 0, 45]
abbrev dktX5_watch_2 : List UInt8 := dkwX5_watch_2 ++ dktX5_watch_3
def dkwX5_watch_1 : List UInt8 := [16, 99, 54, 4, 42, 180, 0, 123, 154, 0, 11, 42, 182, 1, 25, 42, 182, 1, 13, 42, 180, 0, 123]
abbrev dktX5_watch_1 : List UInt8 := dkwX5_watch_1 ++ dktX5_watch_2
def dkwX5_watch_0 : List UInt8 := [42, 182, 1, 45, 60, 42, 180, 0, 123, 154, 0, 7, 42, 182, 1, 48, 42, 182, 1, 51, 61, 3, 62]
abbrev dktX5_watch_0 : List UInt8 := dkwX5_watch_0 ++ dktX5_watch_1
theorem dksX5_watch_0 : cX5_watch.data.toList.drop 0 = dktX5_watch_0 := by decide +kernel
theorem dksX5_watch_1 : cX5_watch.data.toList.drop 23 = dktX5_watch_1 := dk_seg dksX5_watch_0 23 rfl rfl
theorem dksX5_watch_2 : cX5_watch.data.toList.drop 46 = dktX5_watch_2 := dk_seg dksX5_watch_1 23 rfl rfl
theorem dksX5_watch_3 : cX5_watch.data.toList.drop 70 = dktX5_watch_3 := dk_seg dksX5_watch_2 24 rfl rfl
theorem dksX5_watch_4 : cX5_watch.data.toList.drop 92 = dktX5_watch_4 := dk_seg dksX5_watch_3 22 rfl rfl
theorem dksX5_watch_5 : cX5_watch.data.toList.drop 116 = dktX5_watch_5 := dk_seg dksX5_watch_4 24 rfl rfl
theorem dksX5_watch_6 : cX5_watch.data.toList.drop 139 = dktX5_watch_6 := dk_seg dksX5_watch_5 23 rfl rfl
theorem dksX5_watch_7 : cX5_watch.data.toList.drop 162 = dktX5_watch_7 := dk_seg dksX5_watch_6 23 rfl rfl
theorem dksX5_watch_8 : cX5_watch.data.toList.drop 186 = dktX5_watch_8 := dk_seg dksX5_watch_7 24 rfl rfl
theorem dX5_watch_0 : decode cX5_watch 0 = .ok (.aload_n 0, 1) := dk_42 (dk_at dksX5_watch_0 0 rfl rfl)
theorem dX5_watch_1 : decode cX5_watch 1 = .ok (.invokevirtual 301, 3) := dk_182 1 45 (dk_at dksX5_watch_0 1 rfl rfl)
theorem dX5_watch_4 : decode cX5_watch 4 = .ok (.istore_n 1, 1) := dk_60 (dk_at dksX5_watch_0 4 rfl rfl)
theorem dX5_watch_5 : decode cX5_watch 5 = .ok (.aload_n 0, 1) := dk_42 (dk_at dksX5_watch_0 5 rfl rfl)
theorem dX5_watch_6 : decode cX5_watch 6 = .ok (.getfield 123, 3) := dk_180 0 123 (dk_at dksX5_watch_0 6 rfl rfl)
theorem dX5_watch_9 : decode cX5_watch 9 = .ok (.ifCond .ne 7, 3) := dk_154 0 7 (dk_at dksX5_watch_0 9 rfl rfl)
theorem dX5_watch_12 : decode cX5_watch 12 = .ok (.aload_n 0, 1) := dk_42 (dk_at dksX5_watch_0 12 rfl rfl)
theorem dX5_watch_13 : decode cX5_watch 13 = .ok (.invokevirtual 304, 3) := dk_182 1 48 (dk_at dksX5_watch_0 13 rfl rfl)
theorem dX5_watch_16 : decode cX5_watch 16 = .ok (.aload_n 0, 1) := dk_42 (dk_at dksX5_watch_0 16 rfl rfl)
theorem dX5_watch_17 : decode cX5_watch 17 = .ok (.invokevirtual 307, 3) := dk_182 1 51 (dk_at dksX5_watch_0 17 rfl rfl)
theorem dX5_watch_20 : decode cX5_watch 20 = .ok (.istore_n 2, 1) := dk_61 (dk_at dksX5_watch_0 20 rfl rfl)
theorem dX5_watch_21 : decode cX5_watch 21 = .ok (.iconst 0, 1) := dk_3 (dk_at dksX5_watch_0 21 rfl rfl)
theorem dX5_watch_22 : decode cX5_watch 22 = .ok (.istore_n 3, 1) := dk_62 (dk_at dksX5_watch_0 22 rfl rfl)
theorem dX5_watch_23 : decode cX5_watch 23 = .ok (.bipush 99, 2) := dk_16 99 (dk_at dksX5_watch_1 0 rfl rfl)
theorem dX5_watch_25 : decode cX5_watch 25 = .ok (.istore 4, 2) := dk_54 4 (dk_at dksX5_watch_1 2 rfl rfl)
theorem dX5_watch_27 : decode cX5_watch 27 = .ok (.aload_n 0, 1) := dk_42 (dk_at dksX5_watch_1 4 rfl rfl)
theorem dX5_watch_28 : decode cX5_watch 28 = .ok (.getfield 123, 3) := dk_180 0 123 (dk_at dksX5_watch_1 5 rfl rfl)
theorem dX5_watch_31 : decode cX5_watch 31 = .ok (.ifCond .ne 11, 3) := dk_154 0 11 (dk_at dksX5_watch_1 8 rfl rfl)
theorem dX5_watch_34 : decode cX5_watch 34 = .ok (.aload_n 0, 1) := dk_42 (dk_at dksX5_watch_1 11 rfl rfl)
theorem dX5_watch_35 : decode cX5_watch 35 = .ok (.invokevirtual 281, 3) := dk_182 1 25 (dk_at dksX5_watch_1 12 rfl rfl)
theorem dX5_watch_38 : decode cX5_watch 38 = .ok (.aload_n 0, 1) := dk_42 (dk_at dksX5_watch_1 15 rfl rfl)
theorem dX5_watch_39 : decode cX5_watch 39 = .ok (.invokevirtual 269, 3) := dk_182 1 13 (dk_at dksX5_watch_1 16 rfl rfl)
theorem dX5_watch_42 : decode cX5_watch 42 = .ok (.aload_n 0, 1) := dk_42 (dk_at dksX5_watch_1 19 rfl rfl)
theorem dX5_watch_43 : decode cX5_watch 43 = .ok (.getfield 123, 3) := dk_180 0 123 (dk_at dksX5_watch_1 20 rfl rfl)
theorem dX5_watch_46 : decode cX5_watch 46 = .ok (.ifCond .ne 17, 3) := dk_154 0 17 (dk_at dksX5_watch_2 0 rfl rfl)
theorem dX5_watch_49 : decode cX5_watch 49 = .ok (.iload_n 2, 1) := dk_28 (dk_at dksX5_watch_2 3 rfl rfl)
theorem dX5_watch_50 : decode cX5_watch 50 = .ok (.ifCond .lt 13, 3) := dk_155 0 13 (dk_at dksX5_watch_2 4 rfl rfl)
theorem dX5_watch_53 : decode cX5_watch 53 = .ok (.aload_n 0, 1) := dk_42 (dk_at dksX5_watch_2 7 rfl rfl)
theorem dX5_watch_54 : decode cX5_watch 54 = .ok (.bipush 16, 2) := dk_16 16 (dk_at dksX5_watch_2 8 rfl rfl)
theorem dX5_watch_56 : decode cX5_watch 56 = .ok (.iconst 2, 1) := dk_5 (dk_at dksX5_watch_2 10 rfl rfl)
theorem dX5_watch_57 : decode cX5_watch 57 = .ok (.iload_n 2, 1) := dk_28 (dk_at dksX5_watch_2 11 rfl rfl)
theorem dX5_watch_58 : decode cX5_watch 58 = .ok (.imul, 1) := dk_104 (dk_at dksX5_watch_2 12 rfl rfl)
theorem dX5_watch_59 : decode cX5_watch 59 = .ok (.iadd, 1) := dk_96 (dk_at dksX5_watch_2 13 rfl rfl)
theorem dX5_watch_60 : decode cX5_watch 60 = .ok (.invokevirtual 276, 3) := dk_182 1 20 (dk_at dksX5_watch_2 14 rfl rfl)
theorem dX5_watch_63 : decode cX5_watch 63 = .ok (.aload_n 0, 1) := dk_42 (dk_at dksX5_watch_2 17 rfl rfl)
theorem dX5_watch_64 : decode cX5_watch 64 = .ok (.getfield 123, 3) := dk_180 0 123 (dk_at dksX5_watch_2 18 rfl rfl)
theorem dX5_watch_67 : decode cX5_watch 67 = .ok (.ifCond .ne 45, 3) := dk_154 0 45 (dk_at dksX5_watch_2 21 rfl rfl)
theorem dX5_watch_70 : decode cX5_watch 70 = .ok (.aload_n 0, 1) := dk_42 (dk_at dksX5_watch_3 0 rfl rfl)
theorem dX5_watch_71 : decode cX5_watch 71 = .ok (.invokevirtual 281, 3) := dk_182 1 25 (dk_at dksX5_watch_3 1 rfl rfl)
theorem dX5_watch_74 : decode cX5_watch 74 = .ok (.aload_n 0, 1) := dk_42 (dk_at dksX5_watch_3 4 rfl rfl)
theorem dX5_watch_75 : decode cX5_watch 75 = .ok (.getfield 147, 3) := dk_180 0 147 (dk_at dksX5_watch_3 5 rfl rfl)
theorem dX5_watch_78 : decode cX5_watch 78 = .ok (.aload_n 0, 1) := dk_42 (dk_at dksX5_watch_3 8 rfl rfl)
theorem dX5_watch_79 : decode cX5_watch 79 = .ok (.getfield 118, 3) := dk_180 0 118 (dk_at dksX5_watch_3 9 rfl rfl)
theorem dX5_watch_82 : decode cX5_watch 82 = .ok (.if_icmp .ge 30, 3) := dk_162 0 30 (dk_at dksX5_watch_3 12 rfl rfl)
theorem dX5_watch_85 : decode cX5_watch 85 = .ok (.aload_n 0, 1) := dk_42 (dk_at dksX5_watch_3 15 rfl rfl)
theorem dX5_watch_86 : decode cX5_watch 86 = .ok (.invokevirtual 269, 3) := dk_182 1 13 (dk_at dksX5_watch_3 16 rfl rfl)
theorem dX5_watch_89 : decode cX5_watch 89 = .ok (.iconst 1, 1) := dk_4 (dk_at dksX5_watch_3 19 rfl rfl)
theorem dX5_watch_90 : decode cX5_watch 90 = .ok (.istore_n 3, 1) := dk_62 (dk_at dksX5_watch_3 20 rfl rfl)
theorem dX5_watch_91 : decode cX5_watch 91 = .ok (.aload_n 0, 1) := dk_42 (dk_at dksX5_watch_3 21 rfl rfl)
theorem dX5_watch_92 : decode cX5_watch 92 = .ok (.getfield 123, 3) := dk_180 0 123 (dk_at dksX5_watch_4 0 rfl rfl)
theorem dX5_watch_95 : decode cX5_watch 95 = .ok (.ifCond .ne 17, 3) := dk_154 0 17 (dk_at dksX5_watch_4 3 rfl rfl)
theorem dX5_watch_98 : decode cX5_watch 98 = .ok (.iload_n 2, 1) := dk_28 (dk_at dksX5_watch_4 6 rfl rfl)
theorem dX5_watch_99 : decode cX5_watch 99 = .ok (.ifCond .lt 13, 3) := dk_155 0 13 (dk_at dksX5_watch_4 7 rfl rfl)
theorem dX5_watch_102 : decode cX5_watch 102 = .ok (.aload_n 0, 1) := dk_42 (dk_at dksX5_watch_4 10 rfl rfl)
theorem dX5_watch_103 : decode cX5_watch 103 = .ok (.bipush 17, 2) := dk_16 17 (dk_at dksX5_watch_4 11 rfl rfl)
theorem dX5_watch_105 : decode cX5_watch 105 = .ok (.iconst 2, 1) := dk_5 (dk_at dksX5_watch_4 13 rfl rfl)
theorem dX5_watch_106 : decode cX5_watch 106 = .ok (.iload_n 2, 1) := dk_28 (dk_at dksX5_watch_4 14 rfl rfl)
theorem dX5_watch_107 : decode cX5_watch 107 = .ok (.imul, 1) := dk_104 (dk_at dksX5_watch_4 15 rfl rfl)
theorem dX5_watch_108 : decode cX5_watch 108 = .ok (.iadd, 1) := dk_96 (dk_at dksX5_watch_4 16 rfl rfl)
theorem dX5_watch_109 : decode cX5_watch 109 = .ok (.invokevirtual 276, 3) := dk_182 1 20 (dk_at dksX5_watch_4 17 rfl rfl)
theorem dX5_watch_112 : decode cX5_watch 112 = .ok (.aload_n 0, 1) := dk_42 (dk_at dksX5_watch_4 20 rfl rfl)
theorem dX5_watch_113 : decode cX5_watch 113 = .ok (.getfield 123, 3) := dk_180 0 123 (dk_at dksX5_watch_4 21 rfl rfl)
theorem dX5_watch_116 : decode cX5_watch 116 = .ok (.ifCond .ne 25, 3) := dk_154 0 25 (dk_at dksX5_watch_5 0 rfl rfl)
theorem dX5_watch_119 : decode cX5_watch 119 = .ok (.aload_n 0, 1) := dk_42 (dk_at dksX5_watch_5 3 rfl rfl)
theorem dX5_watch_120 : decode cX5_watch 120 = .ok (.invokevirtual 281, 3) := dk_182 1 25 (dk_at dksX5_watch_5 4 rfl rfl)
theorem dX5_watch_123 : decode cX5_watch 123 = .ok (.aload_n 0, 1) := dk_42 (dk_at dksX5_watch_5 7 rfl rfl)
theorem dX5_watch_124 : decode cX5_watch 124 = .ok (.getfield 147, 3) := dk_180 0 147 (dk_at dksX5_watch_5 8 rfl rfl)
theorem dX5_watch_127 : decode cX5_watch 127 = .ok (.aload_n 0, 1) := dk_42 (dk_at dksX5_watch_5 11 rfl rfl)
theorem dX5_watch_128 : decode cX5_watch 128 = .ok (.getfield 118, 3) := dk_180 0 118 (dk_at dksX5_watch_5 12 rfl rfl)
theorem dX5_watch_131 : decode cX5_watch 131 = .ok (.if_icmp .ge 10, 3) := dk_162 0 10 (dk_at dksX5_watch_5 15 rfl rfl)
theorem dX5_watch_134 : decode cX5_watch 134 = .ok (.aload_n 0, 1) := dk_42 (dk_at dksX5_watch_5 18 rfl rfl)
theorem dX5_watch_135 : decode cX5_watch 135 = .ok (.iconst 1, 1) := dk_4 (dk_at dksX5_watch_5 19 rfl rfl)
theorem dX5_watch_136 : decode cX5_watch 136 = .ok (.invokevirtual 310, 3) := dk_182 1 54 (dk_at dksX5_watch_5 20 rfl rfl)
theorem dX5_watch_139 : decode cX5_watch 139 = .ok (.istore 4, 2) := dk_54 4 (dk_at dksX5_watch_6 0 rfl rfl)
theorem dX5_watch_141 : decode cX5_watch 141 = .ok (.aload_n 0, 1) := dk_42 (dk_at dksX5_watch_6 2 rfl rfl)
theorem dX5_watch_142 : decode cX5_watch 142 = .ok (.invokevirtual 313, 3) := dk_182 1 57 (dk_at dksX5_watch_6 3 rfl rfl)
theorem dX5_watch_145 : decode cX5_watch 145 = .ok (.aload_n 0, 1) := dk_42 (dk_at dksX5_watch_6 6 rfl rfl)
theorem dX5_watch_146 : decode cX5_watch 146 = .ok (.getfield 123, 3) := dk_180 0 123 (dk_at dksX5_watch_6 7 rfl rfl)
theorem dX5_watch_149 : decode cX5_watch 149 = .ok (.ifCond .ne 16, 3) := dk_154 0 16 (dk_at dksX5_watch_6 10 rfl rfl)
theorem dX5_watch_152 : decode cX5_watch 152 = .ok (.iload_n 2, 1) := dk_28 (dk_at dksX5_watch_6 13 rfl rfl)
theorem dX5_watch_153 : decode cX5_watch 153 = .ok (.ifCond .ge 12, 3) := dk_156 0 12 (dk_at dksX5_watch_6 14 rfl rfl)
theorem dX5_watch_156 : decode cX5_watch 156 = .ok (.aload_n 0, 1) := dk_42 (dk_at dksX5_watch_6 17 rfl rfl)
theorem dX5_watch_157 : decode cX5_watch 157 = .ok (.iconst 5, 1) := dk_8 (dk_at dksX5_watch_6 18 rfl rfl)
theorem dX5_watch_158 : decode cX5_watch 158 = .ok (.aload_n 0, 1) := dk_42 (dk_at dksX5_watch_6 19 rfl rfl)
theorem dX5_watch_159 : decode cX5_watch 159 = .ok (.getfield 118, 3) := dk_180 0 118 (dk_at dksX5_watch_6 20 rfl rfl)
theorem dX5_watch_162 : decode cX5_watch 162 = .ok (.invokevirtual 157, 3) := dk_182 0 157 (dk_at dksX5_watch_7 0 rfl rfl)
theorem dX5_watch_165 : decode cX5_watch 165 = .ok (.aload_n 0, 1) := dk_42 (dk_at dksX5_watch_7 3 rfl rfl)
theorem dX5_watch_166 : decode cX5_watch 166 = .ok (.getfield 123, 3) := dk_180 0 123 (dk_at dksX5_watch_7 4 rfl rfl)
theorem dX5_watch_169 : decode cX5_watch 169 = .ok (.ifCond .le 5, 3) := dk_158 0 5 (dk_at dksX5_watch_7 7 rfl rfl)
theorem dX5_watch_172 : decode cX5_watch 172 = .ok (.iconst (-1), 1) := dk_2 (dk_at dksX5_watch_7 10 rfl rfl)
theorem dX5_watch_173 : decode cX5_watch 173 = .ok (.ireturn, 1) := dk_172 (dk_at dksX5_watch_7 11 rfl rfl)
theorem dX5_watch_174 : decode cX5_watch 174 = .ok (.aload_n 0, 1) := dk_42 (dk_at dksX5_watch_7 12 rfl rfl)
theorem dX5_watch_175 : decode cX5_watch 175 = .ok (.iconst 1, 1) := dk_4 (dk_at dksX5_watch_7 13 rfl rfl)
theorem dX5_watch_176 : decode cX5_watch 176 = .ok (.iload_n 2, 1) := dk_28 (dk_at dksX5_watch_7 14 rfl rfl)
theorem dX5_watch_177 : decode cX5_watch 177 = .ok (.invokevirtual 316, 3) := dk_182 1 60 (dk_at dksX5_watch_7 15 rfl rfl)
theorem dX5_watch_180 : decode cX5_watch 180 = .ok (.pop, 1) := dk_87 (dk_at dksX5_watch_7 18 rfl rfl)
theorem dX5_watch_181 : decode cX5_watch 181 = .ok (.aload_n 0, 1) := dk_42 (dk_at dksX5_watch_7 19 rfl rfl)
theorem dX5_watch_182 : decode cX5_watch 182 = .ok (.getfield 51, 3) := dk_180 0 51 (dk_at dksX5_watch_7 20 rfl rfl)
theorem dX5_watch_185 : decode cX5_watch 185 = .ok (.iload_n 2, 1) := dk_28 (dk_at dksX5_watch_7 23 rfl rfl)
theorem dX5_watch_186 : decode cX5_watch 186 = .ok (.iload_n 1, 1) := dk_27 (dk_at dksX5_watch_8 0 rfl rfl)
theorem dX5_watch_187 : decode cX5_watch 187 = .ok (.iastore, 1) := dk_79 (dk_at dksX5_watch_8 1 rfl rfl)
theorem dX5_watch_188 : decode cX5_watch 188 = .ok (.aload_n 0, 1) := dk_42 (dk_at dksX5_watch_8 2 rfl rfl)
theorem dX5_watch_189 : decode cX5_watch 189 = .ok (.getfield 54, 3) := dk_180 0 54 (dk_at dksX5_watch_8 3 rfl rfl)
theorem dX5_watch_192 : decode cX5_watch 192 = .ok (.iload_n 2, 1) := dk_28 (dk_at dksX5_watch_8 6 rfl rfl)
theorem dX5_watch_193 : decode cX5_watch 193 = .ok (.iload 4, 2) := dk_21 4 (dk_at dksX5_watch_8 7 rfl rfl)
theorem dX5_watch_195 : decode cX5_watch 195 = .ok (.iastore, 1) := dk_79 (dk_at dksX5_watch_8 9 rfl rfl)
theorem dX5_watch_196 : decode cX5_watch 196 = .ok (.aload_n 0, 1) := dk_42 (dk_at dksX5_watch_8 10 rfl rfl)
theorem dX5_watch_197 : decode cX5_watch 197 = .ok (.getfield 60, 3) := dk_180 0 60 (dk_at dksX5_watch_8 11 rfl rfl)
theorem dX5_watch_200 : decode cX5_watch 200 = .ok (.iload_n 2, 1) := dk_28 (dk_at dksX5_watch_8 14 rfl rfl)
theorem dX5_watch_201 : decode cX5_watch 201 = .ok (.iload_n 3, 1) := dk_29 (dk_at dksX5_watch_8 15 rfl rfl)
theorem dX5_watch_202 : decode cX5_watch 202 = .ok (.bastore, 1) := dk_84 (dk_at dksX5_watch_8 16 rfl rfl)
theorem dX5_watch_203 : decode cX5_watch 203 = .ok (.iload_n 2, 1) := dk_28 (dk_at dksX5_watch_8 17 rfl rfl)
theorem dX5_watch_204 : decode cX5_watch 204 = .ok (.ireturn, 1) := dk_172 (dk_at dksX5_watch_8 18 rfl rfl)
abbrev cX5_readPoint : ByteArray := prog_12_method_50_code
def yX5_readPoint : MethodName := ⟨RX5, "readPoint", "()I"⟩
def dkwX5_readPoint_8 : List UInt8 := [181, 0, 147, 21, 5, 172]
abbrev dktX5_readPoint_8 : List UInt8 := dkwX5_readPoint_8 ++ []
def dkwX5_readPoint_7 : List UInt8 := [21, 4, 96, 182, 1, 42, 154, 0, 11, 42, 4, 27, 182, 0, 157, 2, 172, 42, 27, 21, 4, 96]
abbrev dktX5_readPoint_7 : List UInt8 := dkwX5_readPoint_7 ++ dktX5_readPoint_8
def dkwX5_readPoint_6 : List UInt8 := [184, 1, 38, 129, 148, 154, 0, 7, 5, 167, 0, 5, 21, 5, 54, 5, 21, 5, 155, 0, 14, 42, 27]
abbrev dktX5_readPoint_6 : List UInt8 := dkwX5_readPoint_6 ++ dktX5_readPoint_7
def dkwX5_readPoint_5 : List UInt8 := [160, 0, 35, 32, 3, 16, 20, 16, 8, 16, 18, 184, 1, 38, 16, 10, 121, 3, 3, 16, 15, 16, 23]
abbrev dktX5_readPoint_5 : List UInt8 := dkwX5_readPoint_5 ++ dktX5_readPoint_6
def dkwX5_readPoint_4 : List UInt8 := [16, 18, 16, 14, 184, 1, 38, 129, 148, 154, 0, 7, 4, 167, 0, 5, 21, 5, 54, 5, 21, 4, 8]
abbrev dktX5_readPoint_4 : List UInt8 := dkwX5_readPoint_4 ++ dktX5_readPoint_5
def dkwX5_readPoint_3 : List UInt8 := [21, 4, 16, 6, 160, 0, 35, 32, 16, 18, 8, 16, 20, 16, 21, 184, 1, 38, 16, 10, 121, 3, 3]
abbrev dktX5_readPoint_3 : List UInt8 := dkwX5_readPoint_3 ++ dktX5_readPoint_4
def dkwX5_readPoint_2 : List UInt8 := [16, 10, 121, 3, 3, 8, 16, 18, 184, 1, 38, 129, 148, 154, 0, 7, 3, 167, 0, 5, 21, 5, 54, 5]
abbrev dktX5_readPoint_2 : List UInt8 := dkwX5_readPoint_2 ++ dktX5_readPoint_3
def dkwX5_readPoint_1 : List UInt8 := [182, 0, 205, 54, 4, 2, 54, 5, 21, 4, 8, 160, 0, 33, 32, 3, 8, 16, 14, 16, 20, 184, 1, 38]
abbrev dktX5_readPoint_1 : List UInt8 := dkwX5_readPoint_1 ++ dktX5_readPoint_2
def dkwX5_readPoint_0 : List UInt8 := [42, 182, 1, 25, 42, 180, 0, 147, 60, 42, 42, 180, 0, 147, 182, 1, 34, 65, 42, 42, 180, 0, 147]
abbrev dktX5_readPoint_0 : List UInt8 := dkwX5_readPoint_0 ++ dktX5_readPoint_1
theorem dksX5_readPoint_0 : cX5_readPoint.data.toList.drop 0 = dktX5_readPoint_0 := by decide +kernel
theorem dksX5_readPoint_1 : cX5_readPoint.data.toList.drop 23 = dktX5_readPoint_1 := dk_seg dksX5_readPoint_0 23 rfl rfl
theorem dksX5_readPoint_2 : cX5_readPoint.data.toList.drop 47 = dktX5_readPoint_2 := dk_seg dksX5_readPoint_1 24 rfl rfl
theorem dksX5_readPoint_3 : cX5_readPoint.data.toList.drop 71 = dktX5_readPoint_3 := dk_seg dksX5_readPoint_2 24 rfl rfl
theorem dksX5_readPoint_4 : cX5_readPoint.data.toList.drop 94 = dktX5_readPoint_4 := dk_seg dksX5_readPoint_3 23 rfl rfl
theorem dksX5_readPoint_5 : cX5_readPoint.data.toList.drop 117 = dktX5_readPoint_5 := dk_seg dksX5_readPoint_4 23 rfl rfl
theorem dksX5_readPoint_6 : cX5_readPoint.data.toList.drop 140 = dktX5_readPoint_6 := dk_seg dksX5_readPoint_5 23 rfl rfl
theorem dksX5_readPoint_7 : cX5_readPoint.data.toList.drop 163 = dktX5_readPoint_7 := dk_seg dksX5_readPoint_6 23 rfl rfl
theorem dksX5_readPoint_8 : cX5_readPoint.data.toList.drop 185 = dktX5_readPoint_8 := dk_seg dksX5_readPoint_7 22 rfl rfl
theorem dX5_readPoint_0 : decode cX5_readPoint 0 = .ok (.aload_n 0, 1) := dk_42 (dk_at dksX5_readPoint_0 0 rfl rfl)
theorem dX5_readPoint_1 : decode cX5_readPoint 1 = .ok (.invokevirtual 281, 3) := dk_182 1 25 (dk_at dksX5_readPoint_0 1 rfl rfl)
theorem dX5_readPoint_4 : decode cX5_readPoint 4 = .ok (.aload_n 0, 1) := dk_42 (dk_at dksX5_readPoint_0 4 rfl rfl)
theorem dX5_readPoint_5 : decode cX5_readPoint 5 = .ok (.getfield 147, 3) := dk_180 0 147 (dk_at dksX5_readPoint_0 5 rfl rfl)
theorem dX5_readPoint_8 : decode cX5_readPoint 8 = .ok (.istore_n 1, 1) := dk_60 (dk_at dksX5_readPoint_0 8 rfl rfl)
theorem dX5_readPoint_9 : decode cX5_readPoint 9 = .ok (.aload_n 0, 1) := dk_42 (dk_at dksX5_readPoint_0 9 rfl rfl)
theorem dX5_readPoint_10 : decode cX5_readPoint 10 = .ok (.aload_n 0, 1) := dk_42 (dk_at dksX5_readPoint_0 10 rfl rfl)
theorem dX5_readPoint_11 : decode cX5_readPoint 11 = .ok (.getfield 147, 3) := dk_180 0 147 (dk_at dksX5_readPoint_0 11 rfl rfl)
theorem dX5_readPoint_14 : decode cX5_readPoint 14 = .ok (.invokevirtual 290, 3) := dk_182 1 34 (dk_at dksX5_readPoint_0 14 rfl rfl)
theorem dX5_readPoint_17 : decode cX5_readPoint 17 = .ok (.lstore_n 2, 1) := dk_65 (dk_at dksX5_readPoint_0 17 rfl rfl)
theorem dX5_readPoint_18 : decode cX5_readPoint 18 = .ok (.aload_n 0, 1) := dk_42 (dk_at dksX5_readPoint_0 18 rfl rfl)
theorem dX5_readPoint_19 : decode cX5_readPoint 19 = .ok (.aload_n 0, 1) := dk_42 (dk_at dksX5_readPoint_0 19 rfl rfl)
theorem dX5_readPoint_20 : decode cX5_readPoint 20 = .ok (.getfield 147, 3) := dk_180 0 147 (dk_at dksX5_readPoint_0 20 rfl rfl)
theorem dX5_readPoint_23 : decode cX5_readPoint 23 = .ok (.invokevirtual 205, 3) := dk_182 0 205 (dk_at dksX5_readPoint_1 0 rfl rfl)
theorem dX5_readPoint_26 : decode cX5_readPoint 26 = .ok (.istore 4, 2) := dk_54 4 (dk_at dksX5_readPoint_1 3 rfl rfl)
theorem dX5_readPoint_28 : decode cX5_readPoint 28 = .ok (.iconst (-1), 1) := dk_2 (dk_at dksX5_readPoint_1 5 rfl rfl)
theorem dX5_readPoint_29 : decode cX5_readPoint 29 = .ok (.istore 5, 2) := dk_54 5 (dk_at dksX5_readPoint_1 6 rfl rfl)
theorem dX5_readPoint_31 : decode cX5_readPoint 31 = .ok (.iload 4, 2) := dk_21 4 (dk_at dksX5_readPoint_1 8 rfl rfl)
theorem dX5_readPoint_33 : decode cX5_readPoint 33 = .ok (.iconst 5, 1) := dk_8 (dk_at dksX5_readPoint_1 10 rfl rfl)
theorem dX5_readPoint_34 : decode cX5_readPoint 34 = .ok (.if_icmp .ne 33, 3) := dk_160 0 33 (dk_at dksX5_readPoint_1 11 rfl rfl)
theorem dX5_readPoint_37 : decode cX5_readPoint 37 = .ok (.lload_n 2, 1) := dk_32 (dk_at dksX5_readPoint_1 14 rfl rfl)
theorem dX5_readPoint_38 : decode cX5_readPoint 38 = .ok (.iconst 0, 1) := dk_3 (dk_at dksX5_readPoint_1 15 rfl rfl)
theorem dX5_readPoint_39 : decode cX5_readPoint 39 = .ok (.iconst 5, 1) := dk_8 (dk_at dksX5_readPoint_1 16 rfl rfl)
theorem dX5_readPoint_40 : decode cX5_readPoint 40 = .ok (.bipush 14, 2) := dk_16 14 (dk_at dksX5_readPoint_1 17 rfl rfl)
theorem dX5_readPoint_42 : decode cX5_readPoint 42 = .ok (.bipush 20, 2) := dk_16 20 (dk_at dksX5_readPoint_1 19 rfl rfl)
theorem dX5_readPoint_44 : decode cX5_readPoint 44 = .ok (.invokestatic 294, 3) := dk_184 1 38 (dk_at dksX5_readPoint_1 21 rfl rfl)
theorem dX5_readPoint_47 : decode cX5_readPoint 47 = .ok (.bipush 10, 2) := dk_16 10 (dk_at dksX5_readPoint_2 0 rfl rfl)
theorem dX5_readPoint_49 : decode cX5_readPoint 49 = .ok (.lshl, 1) := dk_121 (dk_at dksX5_readPoint_2 2 rfl rfl)
theorem dX5_readPoint_50 : decode cX5_readPoint 50 = .ok (.iconst 0, 1) := dk_3 (dk_at dksX5_readPoint_2 3 rfl rfl)
theorem dX5_readPoint_51 : decode cX5_readPoint 51 = .ok (.iconst 0, 1) := dk_3 (dk_at dksX5_readPoint_2 4 rfl rfl)
theorem dX5_readPoint_52 : decode cX5_readPoint 52 = .ok (.iconst 5, 1) := dk_8 (dk_at dksX5_readPoint_2 5 rfl rfl)
theorem dX5_readPoint_53 : decode cX5_readPoint 53 = .ok (.bipush 18, 2) := dk_16 18 (dk_at dksX5_readPoint_2 6 rfl rfl)
theorem dX5_readPoint_55 : decode cX5_readPoint 55 = .ok (.invokestatic 294, 3) := dk_184 1 38 (dk_at dksX5_readPoint_2 8 rfl rfl)
theorem dX5_readPoint_58 : decode cX5_readPoint 58 = .ok (.lor, 1) := dk_129 (dk_at dksX5_readPoint_2 11 rfl rfl)
theorem dX5_readPoint_59 : decode cX5_readPoint 59 = .ok (.lcmp, 1) := dk_148 (dk_at dksX5_readPoint_2 12 rfl rfl)
theorem dX5_readPoint_60 : decode cX5_readPoint 60 = .ok (.ifCond .ne 7, 3) := dk_154 0 7 (dk_at dksX5_readPoint_2 13 rfl rfl)
theorem dX5_readPoint_63 : decode cX5_readPoint 63 = .ok (.iconst 0, 1) := dk_3 (dk_at dksX5_readPoint_2 16 rfl rfl)
theorem dX5_readPoint_64 : decode cX5_readPoint 64 = .ok (.goto 5, 3) := dk_167 0 5 (dk_at dksX5_readPoint_2 17 rfl rfl)
theorem dX5_readPoint_67 : decode cX5_readPoint 67 = .ok (.iload 5, 2) := dk_21 5 (dk_at dksX5_readPoint_2 20 rfl rfl)
theorem dX5_readPoint_69 : decode cX5_readPoint 69 = .ok (.istore 5, 2) := dk_54 5 (dk_at dksX5_readPoint_2 22 rfl rfl)
theorem dX5_readPoint_71 : decode cX5_readPoint 71 = .ok (.iload 4, 2) := dk_21 4 (dk_at dksX5_readPoint_3 0 rfl rfl)
theorem dX5_readPoint_73 : decode cX5_readPoint 73 = .ok (.bipush 6, 2) := dk_16 6 (dk_at dksX5_readPoint_3 2 rfl rfl)
theorem dX5_readPoint_75 : decode cX5_readPoint 75 = .ok (.if_icmp .ne 35, 3) := dk_160 0 35 (dk_at dksX5_readPoint_3 4 rfl rfl)
theorem dX5_readPoint_78 : decode cX5_readPoint 78 = .ok (.lload_n 2, 1) := dk_32 (dk_at dksX5_readPoint_3 7 rfl rfl)
theorem dX5_readPoint_79 : decode cX5_readPoint 79 = .ok (.bipush 18, 2) := dk_16 18 (dk_at dksX5_readPoint_3 8 rfl rfl)
theorem dX5_readPoint_81 : decode cX5_readPoint 81 = .ok (.iconst 5, 1) := dk_8 (dk_at dksX5_readPoint_3 10 rfl rfl)
theorem dX5_readPoint_82 : decode cX5_readPoint 82 = .ok (.bipush 20, 2) := dk_16 20 (dk_at dksX5_readPoint_3 11 rfl rfl)
theorem dX5_readPoint_84 : decode cX5_readPoint 84 = .ok (.bipush 21, 2) := dk_16 21 (dk_at dksX5_readPoint_3 13 rfl rfl)
theorem dX5_readPoint_86 : decode cX5_readPoint 86 = .ok (.invokestatic 294, 3) := dk_184 1 38 (dk_at dksX5_readPoint_3 15 rfl rfl)
theorem dX5_readPoint_89 : decode cX5_readPoint 89 = .ok (.bipush 10, 2) := dk_16 10 (dk_at dksX5_readPoint_3 18 rfl rfl)
theorem dX5_readPoint_91 : decode cX5_readPoint 91 = .ok (.lshl, 1) := dk_121 (dk_at dksX5_readPoint_3 20 rfl rfl)
theorem dX5_readPoint_92 : decode cX5_readPoint 92 = .ok (.iconst 0, 1) := dk_3 (dk_at dksX5_readPoint_3 21 rfl rfl)
theorem dX5_readPoint_93 : decode cX5_readPoint 93 = .ok (.iconst 0, 1) := dk_3 (dk_at dksX5_readPoint_3 22 rfl rfl)
theorem dX5_readPoint_94 : decode cX5_readPoint 94 = .ok (.bipush 18, 2) := dk_16 18 (dk_at dksX5_readPoint_4 0 rfl rfl)
theorem dX5_readPoint_96 : decode cX5_readPoint 96 = .ok (.bipush 14, 2) := dk_16 14 (dk_at dksX5_readPoint_4 2 rfl rfl)
theorem dX5_readPoint_98 : decode cX5_readPoint 98 = .ok (.invokestatic 294, 3) := dk_184 1 38 (dk_at dksX5_readPoint_4 4 rfl rfl)
theorem dX5_readPoint_101 : decode cX5_readPoint 101 = .ok (.lor, 1) := dk_129 (dk_at dksX5_readPoint_4 7 rfl rfl)
theorem dX5_readPoint_102 : decode cX5_readPoint 102 = .ok (.lcmp, 1) := dk_148 (dk_at dksX5_readPoint_4 8 rfl rfl)
theorem dX5_readPoint_103 : decode cX5_readPoint 103 = .ok (.ifCond .ne 7, 3) := dk_154 0 7 (dk_at dksX5_readPoint_4 9 rfl rfl)
theorem dX5_readPoint_106 : decode cX5_readPoint 106 = .ok (.iconst 1, 1) := dk_4 (dk_at dksX5_readPoint_4 12 rfl rfl)
theorem dX5_readPoint_107 : decode cX5_readPoint 107 = .ok (.goto 5, 3) := dk_167 0 5 (dk_at dksX5_readPoint_4 13 rfl rfl)
theorem dX5_readPoint_110 : decode cX5_readPoint 110 = .ok (.iload 5, 2) := dk_21 5 (dk_at dksX5_readPoint_4 16 rfl rfl)
theorem dX5_readPoint_112 : decode cX5_readPoint 112 = .ok (.istore 5, 2) := dk_54 5 (dk_at dksX5_readPoint_4 18 rfl rfl)
theorem dX5_readPoint_114 : decode cX5_readPoint 114 = .ok (.iload 4, 2) := dk_21 4 (dk_at dksX5_readPoint_4 20 rfl rfl)
theorem dX5_readPoint_116 : decode cX5_readPoint 116 = .ok (.iconst 5, 1) := dk_8 (dk_at dksX5_readPoint_4 22 rfl rfl)
theorem dX5_readPoint_117 : decode cX5_readPoint 117 = .ok (.if_icmp .ne 35, 3) := dk_160 0 35 (dk_at dksX5_readPoint_5 0 rfl rfl)
theorem dX5_readPoint_120 : decode cX5_readPoint 120 = .ok (.lload_n 2, 1) := dk_32 (dk_at dksX5_readPoint_5 3 rfl rfl)
theorem dX5_readPoint_121 : decode cX5_readPoint 121 = .ok (.iconst 0, 1) := dk_3 (dk_at dksX5_readPoint_5 4 rfl rfl)
theorem dX5_readPoint_122 : decode cX5_readPoint 122 = .ok (.bipush 20, 2) := dk_16 20 (dk_at dksX5_readPoint_5 5 rfl rfl)
theorem dX5_readPoint_124 : decode cX5_readPoint 124 = .ok (.bipush 8, 2) := dk_16 8 (dk_at dksX5_readPoint_5 7 rfl rfl)
theorem dX5_readPoint_126 : decode cX5_readPoint 126 = .ok (.bipush 18, 2) := dk_16 18 (dk_at dksX5_readPoint_5 9 rfl rfl)
theorem dX5_readPoint_128 : decode cX5_readPoint 128 = .ok (.invokestatic 294, 3) := dk_184 1 38 (dk_at dksX5_readPoint_5 11 rfl rfl)
theorem dX5_readPoint_131 : decode cX5_readPoint 131 = .ok (.bipush 10, 2) := dk_16 10 (dk_at dksX5_readPoint_5 14 rfl rfl)
theorem dX5_readPoint_133 : decode cX5_readPoint 133 = .ok (.lshl, 1) := dk_121 (dk_at dksX5_readPoint_5 16 rfl rfl)
theorem dX5_readPoint_134 : decode cX5_readPoint 134 = .ok (.iconst 0, 1) := dk_3 (dk_at dksX5_readPoint_5 17 rfl rfl)
theorem dX5_readPoint_135 : decode cX5_readPoint 135 = .ok (.iconst 0, 1) := dk_3 (dk_at dksX5_readPoint_5 18 rfl rfl)
theorem dX5_readPoint_136 : decode cX5_readPoint 136 = .ok (.bipush 15, 2) := dk_16 15 (dk_at dksX5_readPoint_5 19 rfl rfl)
theorem dX5_readPoint_138 : decode cX5_readPoint 138 = .ok (.bipush 23, 2) := dk_16 23 (dk_at dksX5_readPoint_5 21 rfl rfl)
theorem dX5_readPoint_140 : decode cX5_readPoint 140 = .ok (.invokestatic 294, 3) := dk_184 1 38 (dk_at dksX5_readPoint_6 0 rfl rfl)
theorem dX5_readPoint_143 : decode cX5_readPoint 143 = .ok (.lor, 1) := dk_129 (dk_at dksX5_readPoint_6 3 rfl rfl)
theorem dX5_readPoint_144 : decode cX5_readPoint 144 = .ok (.lcmp, 1) := dk_148 (dk_at dksX5_readPoint_6 4 rfl rfl)
theorem dX5_readPoint_145 : decode cX5_readPoint 145 = .ok (.ifCond .ne 7, 3) := dk_154 0 7 (dk_at dksX5_readPoint_6 5 rfl rfl)
theorem dX5_readPoint_148 : decode cX5_readPoint 148 = .ok (.iconst 2, 1) := dk_5 (dk_at dksX5_readPoint_6 8 rfl rfl)
theorem dX5_readPoint_149 : decode cX5_readPoint 149 = .ok (.goto 5, 3) := dk_167 0 5 (dk_at dksX5_readPoint_6 9 rfl rfl)
theorem dX5_readPoint_152 : decode cX5_readPoint 152 = .ok (.iload 5, 2) := dk_21 5 (dk_at dksX5_readPoint_6 12 rfl rfl)
theorem dX5_readPoint_154 : decode cX5_readPoint 154 = .ok (.istore 5, 2) := dk_54 5 (dk_at dksX5_readPoint_6 14 rfl rfl)
theorem dX5_readPoint_156 : decode cX5_readPoint 156 = .ok (.iload 5, 2) := dk_21 5 (dk_at dksX5_readPoint_6 16 rfl rfl)
theorem dX5_readPoint_158 : decode cX5_readPoint 158 = .ok (.ifCond .lt 14, 3) := dk_155 0 14 (dk_at dksX5_readPoint_6 18 rfl rfl)
theorem dX5_readPoint_161 : decode cX5_readPoint 161 = .ok (.aload_n 0, 1) := dk_42 (dk_at dksX5_readPoint_6 21 rfl rfl)
theorem dX5_readPoint_162 : decode cX5_readPoint 162 = .ok (.iload_n 1, 1) := dk_27 (dk_at dksX5_readPoint_6 22 rfl rfl)
theorem dX5_readPoint_163 : decode cX5_readPoint 163 = .ok (.iload 4, 2) := dk_21 4 (dk_at dksX5_readPoint_7 0 rfl rfl)
theorem dX5_readPoint_165 : decode cX5_readPoint 165 = .ok (.iadd, 1) := dk_96 (dk_at dksX5_readPoint_7 2 rfl rfl)
theorem dX5_readPoint_166 : decode cX5_readPoint 166 = .ok (.invokevirtual 298, 3) := dk_182 1 42 (dk_at dksX5_readPoint_7 3 rfl rfl)
theorem dX5_readPoint_169 : decode cX5_readPoint 169 = .ok (.ifCond .ne 11, 3) := dk_154 0 11 (dk_at dksX5_readPoint_7 6 rfl rfl)
theorem dX5_readPoint_172 : decode cX5_readPoint 172 = .ok (.aload_n 0, 1) := dk_42 (dk_at dksX5_readPoint_7 9 rfl rfl)
theorem dX5_readPoint_173 : decode cX5_readPoint 173 = .ok (.iconst 1, 1) := dk_4 (dk_at dksX5_readPoint_7 10 rfl rfl)
theorem dX5_readPoint_174 : decode cX5_readPoint 174 = .ok (.iload_n 1, 1) := dk_27 (dk_at dksX5_readPoint_7 11 rfl rfl)
theorem dX5_readPoint_175 : decode cX5_readPoint 175 = .ok (.invokevirtual 157, 3) := dk_182 0 157 (dk_at dksX5_readPoint_7 12 rfl rfl)
theorem dX5_readPoint_178 : decode cX5_readPoint 178 = .ok (.iconst (-1), 1) := dk_2 (dk_at dksX5_readPoint_7 15 rfl rfl)
theorem dX5_readPoint_179 : decode cX5_readPoint 179 = .ok (.ireturn, 1) := dk_172 (dk_at dksX5_readPoint_7 16 rfl rfl)
theorem dX5_readPoint_180 : decode cX5_readPoint 180 = .ok (.aload_n 0, 1) := dk_42 (dk_at dksX5_readPoint_7 17 rfl rfl)
theorem dX5_readPoint_181 : decode cX5_readPoint 181 = .ok (.iload_n 1, 1) := dk_27 (dk_at dksX5_readPoint_7 18 rfl rfl)
theorem dX5_readPoint_182 : decode cX5_readPoint 182 = .ok (.iload 4, 2) := dk_21 4 (dk_at dksX5_readPoint_7 19 rfl rfl)
theorem dX5_readPoint_184 : decode cX5_readPoint 184 = .ok (.iadd, 1) := dk_96 (dk_at dksX5_readPoint_7 21 rfl rfl)
theorem dX5_readPoint_185 : decode cX5_readPoint 185 = .ok (.putfield 147, 3) := dk_181 0 147 (dk_at dksX5_readPoint_8 0 rfl rfl)
theorem dX5_readPoint_188 : decode cX5_readPoint 188 = .ok (.iload 5, 2) := dk_21 5 (dk_at dksX5_readPoint_8 3 rfl rfl)
theorem dX5_readPoint_190 : decode cX5_readPoint 190 = .ok (.ireturn, 1) := dk_172 (dk_at dksX5_readPoint_8 5 rfl rfl)
abbrev cX5_readPattern : ByteArray := prog_12_method_46_code
def yX5_readPattern : MethodName := ⟨RX5, "readPattern", "()V"⟩
def dkwX5_readPattern_6 : List UInt8 := [181, 1, 28, 42, 89, 180, 0, 147, 4, 96, 181, 0, 147, 167, 255, 132, 177]
abbrev dktX5_readPattern_6 : List UInt8 := dkwX5_readPattern_6 ++ []
def dkwX5_readPattern_5 : List UInt8 := [182, 0, 157, 167, 0, 33, 42, 180, 0, 70, 42, 180, 1, 28, 27, 79, 42, 89, 180, 1, 28, 4, 96]
abbrev dktX5_readPattern_5 : List UInt8 := dkwX5_readPattern_5 ++ dktX5_readPattern_6
def dkwX5_readPattern_4 : List UInt8 := [180, 0, 147, 182, 0, 157, 167, 0, 54, 42, 180, 1, 28, 16, 12, 160, 0, 15, 42, 6, 42, 180, 0, 147]
abbrev dktX5_readPattern_4 : List UInt8 := dkwX5_readPattern_4 ++ dktX5_readPattern_5
def dkwX5_readPattern_3 : List UInt8 := [27, 184, 0, 134, 154, 0, 27, 27, 16, 42, 159, 0, 21, 27, 16, 63, 159, 0, 15, 42, 4, 42]
abbrev dktX5_readPattern_3 : List UInt8 := dkwX5_readPattern_3 ++ dktX5_readPattern_4
def dkwX5_readPattern_2 : List UInt8 := [42, 180, 0, 7, 42, 180, 0, 147, 46, 16, 32, 164, 0, 98, 42, 180, 0, 7, 42, 180, 0, 147, 46, 60]
abbrev dktX5_readPattern_2 : List UInt8 := dkwX5_readPattern_2 ++ dktX5_readPattern_3
def dkwX5_readPattern_1 : List UInt8 := [180, 0, 147, 182, 0, 157, 42, 180, 0, 123, 154, 0, 123, 42, 180, 0, 147, 42, 180, 0, 118, 162, 0, 112]
abbrev dktX5_readPattern_1 : List UInt8 := dkwX5_readPattern_1 ++ dktX5_readPattern_2
def dkwX5_readPattern_0 : List UInt8 := [42, 182, 1, 25, 42, 3, 181, 1, 28, 42, 180, 0, 147, 42, 180, 0, 118, 161, 0, 12, 42, 4, 42]
abbrev dktX5_readPattern_0 : List UInt8 := dkwX5_readPattern_0 ++ dktX5_readPattern_1
theorem dksX5_readPattern_0 : cX5_readPattern.data.toList.drop 0 = dktX5_readPattern_0 := by decide +kernel
theorem dksX5_readPattern_1 : cX5_readPattern.data.toList.drop 23 = dktX5_readPattern_1 := dk_seg dksX5_readPattern_0 23 rfl rfl
theorem dksX5_readPattern_2 : cX5_readPattern.data.toList.drop 47 = dktX5_readPattern_2 := dk_seg dksX5_readPattern_1 24 rfl rfl
theorem dksX5_readPattern_3 : cX5_readPattern.data.toList.drop 71 = dktX5_readPattern_3 := dk_seg dksX5_readPattern_2 24 rfl rfl
theorem dksX5_readPattern_4 : cX5_readPattern.data.toList.drop 93 = dktX5_readPattern_4 := dk_seg dksX5_readPattern_3 22 rfl rfl
theorem dksX5_readPattern_5 : cX5_readPattern.data.toList.drop 117 = dktX5_readPattern_5 := dk_seg dksX5_readPattern_4 24 rfl rfl
theorem dksX5_readPattern_6 : cX5_readPattern.data.toList.drop 140 = dktX5_readPattern_6 := dk_seg dksX5_readPattern_5 23 rfl rfl
theorem dX5_readPattern_0 : decode cX5_readPattern 0 = .ok (.aload_n 0, 1) := dk_42 (dk_at dksX5_readPattern_0 0 rfl rfl)
theorem dX5_readPattern_1 : decode cX5_readPattern 1 = .ok (.invokevirtual 281, 3) := dk_182 1 25 (dk_at dksX5_readPattern_0 1 rfl rfl)
theorem dX5_readPattern_4 : decode cX5_readPattern 4 = .ok (.aload_n 0, 1) := dk_42 (dk_at dksX5_readPattern_0 4 rfl rfl)
theorem dX5_readPattern_5 : decode cX5_readPattern 5 = .ok (.iconst 0, 1) := dk_3 (dk_at dksX5_readPattern_0 5 rfl rfl)
theorem dX5_readPattern_6 : decode cX5_readPattern 6 = .ok (.putfield 284, 3) := dk_181 1 28 (dk_at dksX5_readPattern_0 6 rfl rfl)
theorem dX5_readPattern_9 : decode cX5_readPattern 9 = .ok (.aload_n 0, 1) := dk_42 (dk_at dksX5_readPattern_0 9 rfl rfl)
theorem dX5_readPattern_10 : decode cX5_readPattern 10 = .ok (.getfield 147, 3) := dk_180 0 147 (dk_at dksX5_readPattern_0 10 rfl rfl)
theorem dX5_readPattern_13 : decode cX5_readPattern 13 = .ok (.aload_n 0, 1) := dk_42 (dk_at dksX5_readPattern_0 13 rfl rfl)
theorem dX5_readPattern_14 : decode cX5_readPattern 14 = .ok (.getfield 118, 3) := dk_180 0 118 (dk_at dksX5_readPattern_0 14 rfl rfl)
theorem dX5_readPattern_17 : decode cX5_readPattern 17 = .ok (.if_icmp .lt 12, 3) := dk_161 0 12 (dk_at dksX5_readPattern_0 17 rfl rfl)
theorem dX5_readPattern_20 : decode cX5_readPattern 20 = .ok (.aload_n 0, 1) := dk_42 (dk_at dksX5_readPattern_0 20 rfl rfl)
theorem dX5_readPattern_21 : decode cX5_readPattern 21 = .ok (.iconst 1, 1) := dk_4 (dk_at dksX5_readPattern_0 21 rfl rfl)
theorem dX5_readPattern_22 : decode cX5_readPattern 22 = .ok (.aload_n 0, 1) := dk_42 (dk_at dksX5_readPattern_0 22 rfl rfl)
theorem dX5_readPattern_23 : decode cX5_readPattern 23 = .ok (.getfield 147, 3) := dk_180 0 147 (dk_at dksX5_readPattern_1 0 rfl rfl)
theorem dX5_readPattern_26 : decode cX5_readPattern 26 = .ok (.invokevirtual 157, 3) := dk_182 0 157 (dk_at dksX5_readPattern_1 3 rfl rfl)
theorem dX5_readPattern_29 : decode cX5_readPattern 29 = .ok (.aload_n 0, 1) := dk_42 (dk_at dksX5_readPattern_1 6 rfl rfl)
theorem dX5_readPattern_30 : decode cX5_readPattern 30 = .ok (.getfield 123, 3) := dk_180 0 123 (dk_at dksX5_readPattern_1 7 rfl rfl)
theorem dX5_readPattern_33 : decode cX5_readPattern 33 = .ok (.ifCond .ne 123, 3) := dk_154 0 123 (dk_at dksX5_readPattern_1 10 rfl rfl)
theorem dX5_readPattern_36 : decode cX5_readPattern 36 = .ok (.aload_n 0, 1) := dk_42 (dk_at dksX5_readPattern_1 13 rfl rfl)
theorem dX5_readPattern_37 : decode cX5_readPattern 37 = .ok (.getfield 147, 3) := dk_180 0 147 (dk_at dksX5_readPattern_1 14 rfl rfl)
theorem dX5_readPattern_40 : decode cX5_readPattern 40 = .ok (.aload_n 0, 1) := dk_42 (dk_at dksX5_readPattern_1 17 rfl rfl)
theorem dX5_readPattern_41 : decode cX5_readPattern 41 = .ok (.getfield 118, 3) := dk_180 0 118 (dk_at dksX5_readPattern_1 18 rfl rfl)
theorem dX5_readPattern_44 : decode cX5_readPattern 44 = .ok (.if_icmp .ge 112, 3) := dk_162 0 112 (dk_at dksX5_readPattern_1 21 rfl rfl)
theorem dX5_readPattern_47 : decode cX5_readPattern 47 = .ok (.aload_n 0, 1) := dk_42 (dk_at dksX5_readPattern_2 0 rfl rfl)
theorem dX5_readPattern_48 : decode cX5_readPattern 48 = .ok (.getfield 7, 3) := dk_180 0 7 (dk_at dksX5_readPattern_2 1 rfl rfl)
theorem dX5_readPattern_51 : decode cX5_readPattern 51 = .ok (.aload_n 0, 1) := dk_42 (dk_at dksX5_readPattern_2 4 rfl rfl)
theorem dX5_readPattern_52 : decode cX5_readPattern 52 = .ok (.getfield 147, 3) := dk_180 0 147 (dk_at dksX5_readPattern_2 5 rfl rfl)
theorem dX5_readPattern_55 : decode cX5_readPattern 55 = .ok (.iaload, 1) := dk_46 (dk_at dksX5_readPattern_2 8 rfl rfl)
theorem dX5_readPattern_56 : decode cX5_readPattern 56 = .ok (.bipush 32, 2) := dk_16 32 (dk_at dksX5_readPattern_2 9 rfl rfl)
theorem dX5_readPattern_58 : decode cX5_readPattern 58 = .ok (.if_icmp .le 98, 3) := dk_164 0 98 (dk_at dksX5_readPattern_2 11 rfl rfl)
theorem dX5_readPattern_61 : decode cX5_readPattern 61 = .ok (.aload_n 0, 1) := dk_42 (dk_at dksX5_readPattern_2 14 rfl rfl)
theorem dX5_readPattern_62 : decode cX5_readPattern 62 = .ok (.getfield 7, 3) := dk_180 0 7 (dk_at dksX5_readPattern_2 15 rfl rfl)
theorem dX5_readPattern_65 : decode cX5_readPattern 65 = .ok (.aload_n 0, 1) := dk_42 (dk_at dksX5_readPattern_2 18 rfl rfl)
theorem dX5_readPattern_66 : decode cX5_readPattern 66 = .ok (.getfield 147, 3) := dk_180 0 147 (dk_at dksX5_readPattern_2 19 rfl rfl)
theorem dX5_readPattern_69 : decode cX5_readPattern 69 = .ok (.iaload, 1) := dk_46 (dk_at dksX5_readPattern_2 22 rfl rfl)
theorem dX5_readPattern_70 : decode cX5_readPattern 70 = .ok (.istore_n 1, 1) := dk_60 (dk_at dksX5_readPattern_2 23 rfl rfl)
theorem dX5_readPattern_71 : decode cX5_readPattern 71 = .ok (.iload_n 1, 1) := dk_27 (dk_at dksX5_readPattern_3 0 rfl rfl)
theorem dX5_readPattern_72 : decode cX5_readPattern 72 = .ok (.invokestatic 134, 3) := dk_184 0 134 (dk_at dksX5_readPattern_3 1 rfl rfl)
theorem dX5_readPattern_75 : decode cX5_readPattern 75 = .ok (.ifCond .ne 27, 3) := dk_154 0 27 (dk_at dksX5_readPattern_3 4 rfl rfl)
theorem dX5_readPattern_78 : decode cX5_readPattern 78 = .ok (.iload_n 1, 1) := dk_27 (dk_at dksX5_readPattern_3 7 rfl rfl)
theorem dX5_readPattern_79 : decode cX5_readPattern 79 = .ok (.bipush 42, 2) := dk_16 42 (dk_at dksX5_readPattern_3 8 rfl rfl)
theorem dX5_readPattern_81 : decode cX5_readPattern 81 = .ok (.if_icmp .eq 21, 3) := dk_159 0 21 (dk_at dksX5_readPattern_3 10 rfl rfl)
theorem dX5_readPattern_84 : decode cX5_readPattern 84 = .ok (.iload_n 1, 1) := dk_27 (dk_at dksX5_readPattern_3 13 rfl rfl)
theorem dX5_readPattern_85 : decode cX5_readPattern 85 = .ok (.bipush 63, 2) := dk_16 63 (dk_at dksX5_readPattern_3 14 rfl rfl)
theorem dX5_readPattern_87 : decode cX5_readPattern 87 = .ok (.if_icmp .eq 15, 3) := dk_159 0 15 (dk_at dksX5_readPattern_3 16 rfl rfl)
theorem dX5_readPattern_90 : decode cX5_readPattern 90 = .ok (.aload_n 0, 1) := dk_42 (dk_at dksX5_readPattern_3 19 rfl rfl)
theorem dX5_readPattern_91 : decode cX5_readPattern 91 = .ok (.iconst 1, 1) := dk_4 (dk_at dksX5_readPattern_3 20 rfl rfl)
theorem dX5_readPattern_92 : decode cX5_readPattern 92 = .ok (.aload_n 0, 1) := dk_42 (dk_at dksX5_readPattern_3 21 rfl rfl)
theorem dX5_readPattern_93 : decode cX5_readPattern 93 = .ok (.getfield 147, 3) := dk_180 0 147 (dk_at dksX5_readPattern_4 0 rfl rfl)
theorem dX5_readPattern_96 : decode cX5_readPattern 96 = .ok (.invokevirtual 157, 3) := dk_182 0 157 (dk_at dksX5_readPattern_4 3 rfl rfl)
theorem dX5_readPattern_99 : decode cX5_readPattern 99 = .ok (.goto 54, 3) := dk_167 0 54 (dk_at dksX5_readPattern_4 6 rfl rfl)
theorem dX5_readPattern_102 : decode cX5_readPattern 102 = .ok (.aload_n 0, 1) := dk_42 (dk_at dksX5_readPattern_4 9 rfl rfl)
theorem dX5_readPattern_103 : decode cX5_readPattern 103 = .ok (.getfield 284, 3) := dk_180 1 28 (dk_at dksX5_readPattern_4 10 rfl rfl)
theorem dX5_readPattern_106 : decode cX5_readPattern 106 = .ok (.bipush 12, 2) := dk_16 12 (dk_at dksX5_readPattern_4 13 rfl rfl)
theorem dX5_readPattern_108 : decode cX5_readPattern 108 = .ok (.if_icmp .ne 15, 3) := dk_160 0 15 (dk_at dksX5_readPattern_4 15 rfl rfl)
theorem dX5_readPattern_111 : decode cX5_readPattern 111 = .ok (.aload_n 0, 1) := dk_42 (dk_at dksX5_readPattern_4 18 rfl rfl)
theorem dX5_readPattern_112 : decode cX5_readPattern 112 = .ok (.iconst 3, 1) := dk_6 (dk_at dksX5_readPattern_4 19 rfl rfl)
theorem dX5_readPattern_113 : decode cX5_readPattern 113 = .ok (.aload_n 0, 1) := dk_42 (dk_at dksX5_readPattern_4 20 rfl rfl)
theorem dX5_readPattern_114 : decode cX5_readPattern 114 = .ok (.getfield 147, 3) := dk_180 0 147 (dk_at dksX5_readPattern_4 21 rfl rfl)
theorem dX5_readPattern_117 : decode cX5_readPattern 117 = .ok (.invokevirtual 157, 3) := dk_182 0 157 (dk_at dksX5_readPattern_5 0 rfl rfl)
theorem dX5_readPattern_120 : decode cX5_readPattern 120 = .ok (.goto 33, 3) := dk_167 0 33 (dk_at dksX5_readPattern_5 3 rfl rfl)
theorem dX5_readPattern_123 : decode cX5_readPattern 123 = .ok (.aload_n 0, 1) := dk_42 (dk_at dksX5_readPattern_5 6 rfl rfl)
theorem dX5_readPattern_124 : decode cX5_readPattern 124 = .ok (.getfield 70, 3) := dk_180 0 70 (dk_at dksX5_readPattern_5 7 rfl rfl)
theorem dX5_readPattern_127 : decode cX5_readPattern 127 = .ok (.aload_n 0, 1) := dk_42 (dk_at dksX5_readPattern_5 10 rfl rfl)
theorem dX5_readPattern_128 : decode cX5_readPattern 128 = .ok (.getfield 284, 3) := dk_180 1 28 (dk_at dksX5_readPattern_5 11 rfl rfl)
theorem dX5_readPattern_131 : decode cX5_readPattern 131 = .ok (.iload_n 1, 1) := dk_27 (dk_at dksX5_readPattern_5 14 rfl rfl)
theorem dX5_readPattern_132 : decode cX5_readPattern 132 = .ok (.iastore, 1) := dk_79 (dk_at dksX5_readPattern_5 15 rfl rfl)
theorem dX5_readPattern_133 : decode cX5_readPattern 133 = .ok (.aload_n 0, 1) := dk_42 (dk_at dksX5_readPattern_5 16 rfl rfl)
theorem dX5_readPattern_134 : decode cX5_readPattern 134 = .ok (.dup, 1) := dk_89 (dk_at dksX5_readPattern_5 17 rfl rfl)
theorem dX5_readPattern_135 : decode cX5_readPattern 135 = .ok (.getfield 284, 3) := dk_180 1 28 (dk_at dksX5_readPattern_5 18 rfl rfl)
theorem dX5_readPattern_138 : decode cX5_readPattern 138 = .ok (.iconst 1, 1) := dk_4 (dk_at dksX5_readPattern_5 21 rfl rfl)
theorem dX5_readPattern_139 : decode cX5_readPattern 139 = .ok (.iadd, 1) := dk_96 (dk_at dksX5_readPattern_5 22 rfl rfl)
theorem dX5_readPattern_140 : decode cX5_readPattern 140 = .ok (.putfield 284, 3) := dk_181 1 28 (dk_at dksX5_readPattern_6 0 rfl rfl)
theorem dX5_readPattern_143 : decode cX5_readPattern 143 = .ok (.aload_n 0, 1) := dk_42 (dk_at dksX5_readPattern_6 3 rfl rfl)
theorem dX5_readPattern_144 : decode cX5_readPattern 144 = .ok (.dup, 1) := dk_89 (dk_at dksX5_readPattern_6 4 rfl rfl)
theorem dX5_readPattern_145 : decode cX5_readPattern 145 = .ok (.getfield 147, 3) := dk_180 0 147 (dk_at dksX5_readPattern_6 5 rfl rfl)
theorem dX5_readPattern_148 : decode cX5_readPattern 148 = .ok (.iconst 1, 1) := dk_4 (dk_at dksX5_readPattern_6 8 rfl rfl)
theorem dX5_readPattern_149 : decode cX5_readPattern 149 = .ok (.iadd, 1) := dk_96 (dk_at dksX5_readPattern_6 9 rfl rfl)
theorem dX5_readPattern_150 : decode cX5_readPattern 150 = .ok (.putfield 147, 3) := dk_181 0 147 (dk_at dksX5_readPattern_6 10 rfl rfl)
theorem dX5_readPattern_153 : decode cX5_readPattern 153 = .ok (.goto (-124), 3) := dk_167 255 132 (dk_at dksX5_readPattern_6 13 rfl rfl)
theorem dX5_readPattern_156 : decode cX5_readPattern 156 = .ok (.return_, 1) := dk_177 (dk_at dksX5_readPattern_6 16 rfl rfl)
abbrev cX5_freeJob : ByteArray := prog_12_method_48_code
def yX5_freeJob : MethodName := ⟨RX5, "freeJob", "()I"⟩
def dkwX5_freeJob_1 : List UInt8 := [167, 255, 236, 2, 172]
abbrev dktX5_freeJob_1 : List UInt8 := dkwX5_freeJob_1 ++ []
def dkwX5_freeJob_0 : List UInt8 := [3, 60, 27, 16, 8, 162, 0, 20, 42, 180, 0, 48, 27, 46, 154, 0, 5, 27, 172, 132, 1, 1]
abbrev dktX5_freeJob_0 : List UInt8 := dkwX5_freeJob_0 ++ dktX5_freeJob_1
theorem dksX5_freeJob_0 : cX5_freeJob.data.toList.drop 0 = dktX5_freeJob_0 := by decide +kernel
theorem dksX5_freeJob_1 : cX5_freeJob.data.toList.drop 22 = dktX5_freeJob_1 := dk_seg dksX5_freeJob_0 22 rfl rfl
theorem dX5_freeJob_0 : decode cX5_freeJob 0 = .ok (.iconst 0, 1) := dk_3 (dk_at dksX5_freeJob_0 0 rfl rfl)
theorem dX5_freeJob_1 : decode cX5_freeJob 1 = .ok (.istore_n 1, 1) := dk_60 (dk_at dksX5_freeJob_0 1 rfl rfl)
theorem dX5_freeJob_2 : decode cX5_freeJob 2 = .ok (.iload_n 1, 1) := dk_27 (dk_at dksX5_freeJob_0 2 rfl rfl)
theorem dX5_freeJob_3 : decode cX5_freeJob 3 = .ok (.bipush 8, 2) := dk_16 8 (dk_at dksX5_freeJob_0 3 rfl rfl)
theorem dX5_freeJob_5 : decode cX5_freeJob 5 = .ok (.if_icmp .ge 20, 3) := dk_162 0 20 (dk_at dksX5_freeJob_0 5 rfl rfl)
theorem dX5_freeJob_8 : decode cX5_freeJob 8 = .ok (.aload_n 0, 1) := dk_42 (dk_at dksX5_freeJob_0 8 rfl rfl)
theorem dX5_freeJob_9 : decode cX5_freeJob 9 = .ok (.getfield 48, 3) := dk_180 0 48 (dk_at dksX5_freeJob_0 9 rfl rfl)
theorem dX5_freeJob_12 : decode cX5_freeJob 12 = .ok (.iload_n 1, 1) := dk_27 (dk_at dksX5_freeJob_0 12 rfl rfl)
theorem dX5_freeJob_13 : decode cX5_freeJob 13 = .ok (.iaload, 1) := dk_46 (dk_at dksX5_freeJob_0 13 rfl rfl)
theorem dX5_freeJob_14 : decode cX5_freeJob 14 = .ok (.ifCond .ne 5, 3) := dk_154 0 5 (dk_at dksX5_freeJob_0 14 rfl rfl)
theorem dX5_freeJob_17 : decode cX5_freeJob 17 = .ok (.iload_n 1, 1) := dk_27 (dk_at dksX5_freeJob_0 17 rfl rfl)
theorem dX5_freeJob_18 : decode cX5_freeJob 18 = .ok (.ireturn, 1) := dk_172 (dk_at dksX5_freeJob_0 18 rfl rfl)
theorem dX5_freeJob_19 : decode cX5_freeJob 19 = .ok (.iinc 1 1, 3) := dk_132 1 1 (dk_at dksX5_freeJob_0 19 rfl rfl)
theorem dX5_freeJob_22 : decode cX5_freeJob 22 = .ok (.goto (-20), 3) := dk_167 255 236 (dk_at dksX5_freeJob_1 0 rfl rfl)
theorem dX5_freeJob_25 : decode cX5_freeJob 25 = .ok (.iconst (-1), 1) := dk_2 (dk_at dksX5_freeJob_1 3 rfl rfl)
theorem dX5_freeJob_26 : decode cX5_freeJob 26 = .ok (.ireturn, 1) := dk_172 (dk_at dksX5_freeJob_1 4 rfl rfl)
abbrev cX5_smallNumber : ByteArray := prog_12_method_47_code
def yX5_smallNumber : MethodName := ⟨RX5, "smallNumber", "(I)I"⟩
def dkwX5_smallNumber_4 : List UInt8 := [29, 27, 161, 0, 9, 29, 16, 99, 164, 0, 9, 42, 5, 28, 182, 0, 157, 42, 182, 1, 31, 29, 172]
abbrev dktX5_smallNumber_4 : List UInt8 := dkwX5_smallNumber_4 ++ []
def dkwX5_smallNumber_3 : List UInt8 := [164, 0, 9, 17, 3, 231, 167, 0, 4, 29, 62, 42, 89, 180, 0, 147, 4, 96, 181, 0, 147, 167, 255, 200]
abbrev dktX5_smallNumber_3 : List UInt8 := dkwX5_smallNumber_3 ++ dktX5_smallNumber_4
def dkwX5_smallNumber_2 : List UInt8 := [153, 0, 48, 29, 16, 10, 104, 42, 42, 180, 0, 147, 182, 0, 130, 96, 16, 48, 100, 62, 29, 17, 3, 231]
abbrev dktX5_smallNumber_2 : List UInt8 := dkwX5_smallNumber_2 ++ dktX5_smallNumber_3
def dkwX5_smallNumber_1 : List UInt8 := [4, 42, 180, 0, 147, 182, 0, 157, 3, 172, 3, 62, 42, 42, 180, 0, 147, 182, 0, 130, 184, 0, 181]
abbrev dktX5_smallNumber_1 : List UInt8 := dkwX5_smallNumber_1 ++ dktX5_smallNumber_2
def dkwX5_smallNumber_0 : List UInt8 := [42, 182, 1, 25, 42, 180, 0, 147, 61, 42, 42, 180, 0, 147, 182, 0, 130, 184, 0, 181, 154, 0, 14, 42]
abbrev dktX5_smallNumber_0 : List UInt8 := dkwX5_smallNumber_0 ++ dktX5_smallNumber_1
theorem dksX5_smallNumber_0 : cX5_smallNumber.data.toList.drop 0 = dktX5_smallNumber_0 := by decide +kernel
theorem dksX5_smallNumber_1 : cX5_smallNumber.data.toList.drop 24 = dktX5_smallNumber_1 := dk_seg dksX5_smallNumber_0 24 rfl rfl
theorem dksX5_smallNumber_2 : cX5_smallNumber.data.toList.drop 47 = dktX5_smallNumber_2 := dk_seg dksX5_smallNumber_1 23 rfl rfl
theorem dksX5_smallNumber_3 : cX5_smallNumber.data.toList.drop 71 = dktX5_smallNumber_3 := dk_seg dksX5_smallNumber_2 24 rfl rfl
theorem dksX5_smallNumber_4 : cX5_smallNumber.data.toList.drop 95 = dktX5_smallNumber_4 := dk_seg dksX5_smallNumber_3 24 rfl rfl
theorem dX5_smallNumber_0 : decode cX5_smallNumber 0 = .ok (.aload_n 0, 1) := dk_42 (dk_at dksX5_smallNumber_0 0 rfl rfl)
theorem dX5_smallNumber_1 : decode cX5_smallNumber 1 = .ok (.invokevirtual 281, 3) := dk_182 1 25 (dk_at dksX5_smallNumber_0 1 rfl rfl)
theorem dX5_smallNumber_4 : decode cX5_smallNumber 4 = .ok (.aload_n 0, 1) := dk_42 (dk_at dksX5_smallNumber_0 4 rfl rfl)
theorem dX5_smallNumber_5 : decode cX5_smallNumber 5 = .ok (.getfield 147, 3) := dk_180 0 147 (dk_at dksX5_smallNumber_0 5 rfl rfl)
theorem dX5_smallNumber_8 : decode cX5_smallNumber 8 = .ok (.istore_n 2, 1) := dk_61 (dk_at dksX5_smallNumber_0 8 rfl rfl)
theorem dX5_smallNumber_9 : decode cX5_smallNumber 9 = .ok (.aload_n 0, 1) := dk_42 (dk_at dksX5_smallNumber_0 9 rfl rfl)
theorem dX5_smallNumber_10 : decode cX5_smallNumber 10 = .ok (.aload_n 0, 1) := dk_42 (dk_at dksX5_smallNumber_0 10 rfl rfl)
theorem dX5_smallNumber_11 : decode cX5_smallNumber 11 = .ok (.getfield 147, 3) := dk_180 0 147 (dk_at dksX5_smallNumber_0 11 rfl rfl)
theorem dX5_smallNumber_14 : decode cX5_smallNumber 14 = .ok (.invokevirtual 130, 3) := dk_182 0 130 (dk_at dksX5_smallNumber_0 14 rfl rfl)
theorem dX5_smallNumber_17 : decode cX5_smallNumber 17 = .ok (.invokestatic 181, 3) := dk_184 0 181 (dk_at dksX5_smallNumber_0 17 rfl rfl)
theorem dX5_smallNumber_20 : decode cX5_smallNumber 20 = .ok (.ifCond .ne 14, 3) := dk_154 0 14 (dk_at dksX5_smallNumber_0 20 rfl rfl)
theorem dX5_smallNumber_23 : decode cX5_smallNumber 23 = .ok (.aload_n 0, 1) := dk_42 (dk_at dksX5_smallNumber_0 23 rfl rfl)
theorem dX5_smallNumber_24 : decode cX5_smallNumber 24 = .ok (.iconst 1, 1) := dk_4 (dk_at dksX5_smallNumber_1 0 rfl rfl)
theorem dX5_smallNumber_25 : decode cX5_smallNumber 25 = .ok (.aload_n 0, 1) := dk_42 (dk_at dksX5_smallNumber_1 1 rfl rfl)
theorem dX5_smallNumber_26 : decode cX5_smallNumber 26 = .ok (.getfield 147, 3) := dk_180 0 147 (dk_at dksX5_smallNumber_1 2 rfl rfl)
theorem dX5_smallNumber_29 : decode cX5_smallNumber 29 = .ok (.invokevirtual 157, 3) := dk_182 0 157 (dk_at dksX5_smallNumber_1 5 rfl rfl)
theorem dX5_smallNumber_32 : decode cX5_smallNumber 32 = .ok (.iconst 0, 1) := dk_3 (dk_at dksX5_smallNumber_1 8 rfl rfl)
theorem dX5_smallNumber_33 : decode cX5_smallNumber 33 = .ok (.ireturn, 1) := dk_172 (dk_at dksX5_smallNumber_1 9 rfl rfl)
theorem dX5_smallNumber_34 : decode cX5_smallNumber 34 = .ok (.iconst 0, 1) := dk_3 (dk_at dksX5_smallNumber_1 10 rfl rfl)
theorem dX5_smallNumber_35 : decode cX5_smallNumber 35 = .ok (.istore_n 3, 1) := dk_62 (dk_at dksX5_smallNumber_1 11 rfl rfl)
theorem dX5_smallNumber_36 : decode cX5_smallNumber 36 = .ok (.aload_n 0, 1) := dk_42 (dk_at dksX5_smallNumber_1 12 rfl rfl)
theorem dX5_smallNumber_37 : decode cX5_smallNumber 37 = .ok (.aload_n 0, 1) := dk_42 (dk_at dksX5_smallNumber_1 13 rfl rfl)
theorem dX5_smallNumber_38 : decode cX5_smallNumber 38 = .ok (.getfield 147, 3) := dk_180 0 147 (dk_at dksX5_smallNumber_1 14 rfl rfl)
theorem dX5_smallNumber_41 : decode cX5_smallNumber 41 = .ok (.invokevirtual 130, 3) := dk_182 0 130 (dk_at dksX5_smallNumber_1 17 rfl rfl)
theorem dX5_smallNumber_44 : decode cX5_smallNumber 44 = .ok (.invokestatic 181, 3) := dk_184 0 181 (dk_at dksX5_smallNumber_1 20 rfl rfl)
theorem dX5_smallNumber_47 : decode cX5_smallNumber 47 = .ok (.ifCond .eq 48, 3) := dk_153 0 48 (dk_at dksX5_smallNumber_2 0 rfl rfl)
theorem dX5_smallNumber_50 : decode cX5_smallNumber 50 = .ok (.iload_n 3, 1) := dk_29 (dk_at dksX5_smallNumber_2 3 rfl rfl)
theorem dX5_smallNumber_51 : decode cX5_smallNumber 51 = .ok (.bipush 10, 2) := dk_16 10 (dk_at dksX5_smallNumber_2 4 rfl rfl)
theorem dX5_smallNumber_53 : decode cX5_smallNumber 53 = .ok (.imul, 1) := dk_104 (dk_at dksX5_smallNumber_2 6 rfl rfl)
theorem dX5_smallNumber_54 : decode cX5_smallNumber 54 = .ok (.aload_n 0, 1) := dk_42 (dk_at dksX5_smallNumber_2 7 rfl rfl)
theorem dX5_smallNumber_55 : decode cX5_smallNumber 55 = .ok (.aload_n 0, 1) := dk_42 (dk_at dksX5_smallNumber_2 8 rfl rfl)
theorem dX5_smallNumber_56 : decode cX5_smallNumber 56 = .ok (.getfield 147, 3) := dk_180 0 147 (dk_at dksX5_smallNumber_2 9 rfl rfl)
theorem dX5_smallNumber_59 : decode cX5_smallNumber 59 = .ok (.invokevirtual 130, 3) := dk_182 0 130 (dk_at dksX5_smallNumber_2 12 rfl rfl)
theorem dX5_smallNumber_62 : decode cX5_smallNumber 62 = .ok (.iadd, 1) := dk_96 (dk_at dksX5_smallNumber_2 15 rfl rfl)
theorem dX5_smallNumber_63 : decode cX5_smallNumber 63 = .ok (.bipush 48, 2) := dk_16 48 (dk_at dksX5_smallNumber_2 16 rfl rfl)
theorem dX5_smallNumber_65 : decode cX5_smallNumber 65 = .ok (.isub, 1) := dk_100 (dk_at dksX5_smallNumber_2 18 rfl rfl)
theorem dX5_smallNumber_66 : decode cX5_smallNumber 66 = .ok (.istore_n 3, 1) := dk_62 (dk_at dksX5_smallNumber_2 19 rfl rfl)
theorem dX5_smallNumber_67 : decode cX5_smallNumber 67 = .ok (.iload_n 3, 1) := dk_29 (dk_at dksX5_smallNumber_2 20 rfl rfl)
theorem dX5_smallNumber_68 : decode cX5_smallNumber 68 = .ok (.sipush 999, 3) := dk_17 3 231 (dk_at dksX5_smallNumber_2 21 rfl rfl)
theorem dX5_smallNumber_71 : decode cX5_smallNumber 71 = .ok (.if_icmp .le 9, 3) := dk_164 0 9 (dk_at dksX5_smallNumber_3 0 rfl rfl)
theorem dX5_smallNumber_74 : decode cX5_smallNumber 74 = .ok (.sipush 999, 3) := dk_17 3 231 (dk_at dksX5_smallNumber_3 3 rfl rfl)
theorem dX5_smallNumber_77 : decode cX5_smallNumber 77 = .ok (.goto 4, 3) := dk_167 0 4 (dk_at dksX5_smallNumber_3 6 rfl rfl)
theorem dX5_smallNumber_80 : decode cX5_smallNumber 80 = .ok (.iload_n 3, 1) := dk_29 (dk_at dksX5_smallNumber_3 9 rfl rfl)
theorem dX5_smallNumber_81 : decode cX5_smallNumber 81 = .ok (.istore_n 3, 1) := dk_62 (dk_at dksX5_smallNumber_3 10 rfl rfl)
theorem dX5_smallNumber_82 : decode cX5_smallNumber 82 = .ok (.aload_n 0, 1) := dk_42 (dk_at dksX5_smallNumber_3 11 rfl rfl)
theorem dX5_smallNumber_83 : decode cX5_smallNumber 83 = .ok (.dup, 1) := dk_89 (dk_at dksX5_smallNumber_3 12 rfl rfl)
theorem dX5_smallNumber_84 : decode cX5_smallNumber 84 = .ok (.getfield 147, 3) := dk_180 0 147 (dk_at dksX5_smallNumber_3 13 rfl rfl)
theorem dX5_smallNumber_87 : decode cX5_smallNumber 87 = .ok (.iconst 1, 1) := dk_4 (dk_at dksX5_smallNumber_3 16 rfl rfl)
theorem dX5_smallNumber_88 : decode cX5_smallNumber 88 = .ok (.iadd, 1) := dk_96 (dk_at dksX5_smallNumber_3 17 rfl rfl)
theorem dX5_smallNumber_89 : decode cX5_smallNumber 89 = .ok (.putfield 147, 3) := dk_181 0 147 (dk_at dksX5_smallNumber_3 18 rfl rfl)
theorem dX5_smallNumber_92 : decode cX5_smallNumber 92 = .ok (.goto (-56), 3) := dk_167 255 200 (dk_at dksX5_smallNumber_3 21 rfl rfl)
theorem dX5_smallNumber_95 : decode cX5_smallNumber 95 = .ok (.iload_n 3, 1) := dk_29 (dk_at dksX5_smallNumber_4 0 rfl rfl)
theorem dX5_smallNumber_96 : decode cX5_smallNumber 96 = .ok (.iload_n 1, 1) := dk_27 (dk_at dksX5_smallNumber_4 1 rfl rfl)
theorem dX5_smallNumber_97 : decode cX5_smallNumber 97 = .ok (.if_icmp .lt 9, 3) := dk_161 0 9 (dk_at dksX5_smallNumber_4 2 rfl rfl)
theorem dX5_smallNumber_100 : decode cX5_smallNumber 100 = .ok (.iload_n 3, 1) := dk_29 (dk_at dksX5_smallNumber_4 5 rfl rfl)
theorem dX5_smallNumber_101 : decode cX5_smallNumber 101 = .ok (.bipush 99, 2) := dk_16 99 (dk_at dksX5_smallNumber_4 6 rfl rfl)
theorem dX5_smallNumber_103 : decode cX5_smallNumber 103 = .ok (.if_icmp .le 9, 3) := dk_164 0 9 (dk_at dksX5_smallNumber_4 8 rfl rfl)
theorem dX5_smallNumber_106 : decode cX5_smallNumber 106 = .ok (.aload_n 0, 1) := dk_42 (dk_at dksX5_smallNumber_4 11 rfl rfl)
theorem dX5_smallNumber_107 : decode cX5_smallNumber 107 = .ok (.iconst 2, 1) := dk_5 (dk_at dksX5_smallNumber_4 12 rfl rfl)
theorem dX5_smallNumber_108 : decode cX5_smallNumber 108 = .ok (.iload_n 2, 1) := dk_28 (dk_at dksX5_smallNumber_4 13 rfl rfl)
theorem dX5_smallNumber_109 : decode cX5_smallNumber 109 = .ok (.invokevirtual 157, 3) := dk_182 0 157 (dk_at dksX5_smallNumber_4 14 rfl rfl)
theorem dX5_smallNumber_112 : decode cX5_smallNumber 112 = .ok (.aload_n 0, 1) := dk_42 (dk_at dksX5_smallNumber_4 17 rfl rfl)
theorem dX5_smallNumber_113 : decode cX5_smallNumber 113 = .ok (.invokevirtual 287, 3) := dk_182 1 31 (dk_at dksX5_smallNumber_4 18 rfl rfl)
theorem dX5_smallNumber_116 : decode cX5_smallNumber 116 = .ok (.iload_n 3, 1) := dk_29 (dk_at dksX5_smallNumber_4 21 rfl rfl)
theorem dX5_smallNumber_117 : decode cX5_smallNumber 117 = .ok (.ireturn, 1) := dk_172 (dk_at dksX5_smallNumber_4 22 rfl rfl)
abbrev cX5_wantBlank : ByteArray := prog_12_method_44_code
def yX5_wantBlank : MethodName := ⟨RX5, "wantBlank", "()V"⟩
def dkwX5_wantBlank_1 : List UInt8 := [180, 0, 147, 46, 16, 32, 164, 0, 12, 42, 4, 42, 180, 0, 147, 182, 0, 157, 177]
abbrev dktX5_wantBlank_1 : List UInt8 := dkwX5_wantBlank_1 ++ []
def dkwX5_wantBlank_0 : List UInt8 := [42, 180, 0, 123, 154, 0, 37, 42, 180, 0, 147, 42, 180, 0, 118, 162, 0, 26, 42, 180, 0, 7, 42]
abbrev dktX5_wantBlank_0 : List UInt8 := dkwX5_wantBlank_0 ++ dktX5_wantBlank_1
theorem dksX5_wantBlank_0 : cX5_wantBlank.data.toList.drop 0 = dktX5_wantBlank_0 := by decide +kernel
theorem dksX5_wantBlank_1 : cX5_wantBlank.data.toList.drop 23 = dktX5_wantBlank_1 := dk_seg dksX5_wantBlank_0 23 rfl rfl
theorem dX5_wantBlank_0 : decode cX5_wantBlank 0 = .ok (.aload_n 0, 1) := dk_42 (dk_at dksX5_wantBlank_0 0 rfl rfl)
theorem dX5_wantBlank_1 : decode cX5_wantBlank 1 = .ok (.getfield 123, 3) := dk_180 0 123 (dk_at dksX5_wantBlank_0 1 rfl rfl)
theorem dX5_wantBlank_4 : decode cX5_wantBlank 4 = .ok (.ifCond .ne 37, 3) := dk_154 0 37 (dk_at dksX5_wantBlank_0 4 rfl rfl)
theorem dX5_wantBlank_7 : decode cX5_wantBlank 7 = .ok (.aload_n 0, 1) := dk_42 (dk_at dksX5_wantBlank_0 7 rfl rfl)
theorem dX5_wantBlank_8 : decode cX5_wantBlank 8 = .ok (.getfield 147, 3) := dk_180 0 147 (dk_at dksX5_wantBlank_0 8 rfl rfl)
theorem dX5_wantBlank_11 : decode cX5_wantBlank 11 = .ok (.aload_n 0, 1) := dk_42 (dk_at dksX5_wantBlank_0 11 rfl rfl)
theorem dX5_wantBlank_12 : decode cX5_wantBlank 12 = .ok (.getfield 118, 3) := dk_180 0 118 (dk_at dksX5_wantBlank_0 12 rfl rfl)
theorem dX5_wantBlank_15 : decode cX5_wantBlank 15 = .ok (.if_icmp .ge 26, 3) := dk_162 0 26 (dk_at dksX5_wantBlank_0 15 rfl rfl)
theorem dX5_wantBlank_18 : decode cX5_wantBlank 18 = .ok (.aload_n 0, 1) := dk_42 (dk_at dksX5_wantBlank_0 18 rfl rfl)
theorem dX5_wantBlank_19 : decode cX5_wantBlank 19 = .ok (.getfield 7, 3) := dk_180 0 7 (dk_at dksX5_wantBlank_0 19 rfl rfl)
theorem dX5_wantBlank_22 : decode cX5_wantBlank 22 = .ok (.aload_n 0, 1) := dk_42 (dk_at dksX5_wantBlank_0 22 rfl rfl)
theorem dX5_wantBlank_23 : decode cX5_wantBlank 23 = .ok (.getfield 147, 3) := dk_180 0 147 (dk_at dksX5_wantBlank_1 0 rfl rfl)
theorem dX5_wantBlank_26 : decode cX5_wantBlank 26 = .ok (.iaload, 1) := dk_46 (dk_at dksX5_wantBlank_1 3 rfl rfl)
theorem dX5_wantBlank_27 : decode cX5_wantBlank 27 = .ok (.bipush 32, 2) := dk_16 32 (dk_at dksX5_wantBlank_1 4 rfl rfl)
theorem dX5_wantBlank_29 : decode cX5_wantBlank 29 = .ok (.if_icmp .le 12, 3) := dk_164 0 12 (dk_at dksX5_wantBlank_1 6 rfl rfl)
theorem dX5_wantBlank_32 : decode cX5_wantBlank 32 = .ok (.aload_n 0, 1) := dk_42 (dk_at dksX5_wantBlank_1 9 rfl rfl)
theorem dX5_wantBlank_33 : decode cX5_wantBlank 33 = .ok (.iconst 1, 1) := dk_4 (dk_at dksX5_wantBlank_1 10 rfl rfl)
theorem dX5_wantBlank_34 : decode cX5_wantBlank 34 = .ok (.aload_n 0, 1) := dk_42 (dk_at dksX5_wantBlank_1 11 rfl rfl)
theorem dX5_wantBlank_35 : decode cX5_wantBlank 35 = .ok (.getfield 147, 3) := dk_180 0 147 (dk_at dksX5_wantBlank_1 12 rfl rfl)
theorem dX5_wantBlank_38 : decode cX5_wantBlank 38 = .ok (.invokevirtual 157, 3) := dk_182 0 157 (dk_at dksX5_wantBlank_1 15 rfl rfl)
theorem dX5_wantBlank_41 : decode cX5_wantBlank 41 = .ok (.return_, 1) := dk_177 (dk_at dksX5_wantBlank_1 18 rfl rfl)
abbrev cX5_wantEnd : ByteArray := prog_12_method_45_code
def yX5_wantEnd : MethodName := ⟨RX5, "wantEnd", "()V"⟩
def dkwX5_wantEnd_1 : List UInt8 := [42, 180, 0, 147, 182, 0, 157, 177]
abbrev dktX5_wantEnd_1 : List UInt8 := dkwX5_wantEnd_1 ++ []
def dkwX5_wantEnd_0 : List UInt8 := [42, 182, 1, 25, 42, 180, 0, 123, 154, 0, 23, 42, 180, 0, 147, 42, 180, 0, 118, 162, 0, 12, 42, 4]
abbrev dktX5_wantEnd_0 : List UInt8 := dkwX5_wantEnd_0 ++ dktX5_wantEnd_1
theorem dksX5_wantEnd_0 : cX5_wantEnd.data.toList.drop 0 = dktX5_wantEnd_0 := by decide +kernel
theorem dksX5_wantEnd_1 : cX5_wantEnd.data.toList.drop 24 = dktX5_wantEnd_1 := dk_seg dksX5_wantEnd_0 24 rfl rfl
theorem dX5_wantEnd_0 : decode cX5_wantEnd 0 = .ok (.aload_n 0, 1) := dk_42 (dk_at dksX5_wantEnd_0 0 rfl rfl)
theorem dX5_wantEnd_1 : decode cX5_wantEnd 1 = .ok (.invokevirtual 281, 3) := dk_182 1 25 (dk_at dksX5_wantEnd_0 1 rfl rfl)
theorem dX5_wantEnd_4 : decode cX5_wantEnd 4 = .ok (.aload_n 0, 1) := dk_42 (dk_at dksX5_wantEnd_0 4 rfl rfl)
theorem dX5_wantEnd_5 : decode cX5_wantEnd 5 = .ok (.getfield 123, 3) := dk_180 0 123 (dk_at dksX5_wantEnd_0 5 rfl rfl)
theorem dX5_wantEnd_8 : decode cX5_wantEnd 8 = .ok (.ifCond .ne 23, 3) := dk_154 0 23 (dk_at dksX5_wantEnd_0 8 rfl rfl)
theorem dX5_wantEnd_11 : decode cX5_wantEnd 11 = .ok (.aload_n 0, 1) := dk_42 (dk_at dksX5_wantEnd_0 11 rfl rfl)
theorem dX5_wantEnd_12 : decode cX5_wantEnd 12 = .ok (.getfield 147, 3) := dk_180 0 147 (dk_at dksX5_wantEnd_0 12 rfl rfl)
theorem dX5_wantEnd_15 : decode cX5_wantEnd 15 = .ok (.aload_n 0, 1) := dk_42 (dk_at dksX5_wantEnd_0 15 rfl rfl)
theorem dX5_wantEnd_16 : decode cX5_wantEnd 16 = .ok (.getfield 118, 3) := dk_180 0 118 (dk_at dksX5_wantEnd_0 16 rfl rfl)
theorem dX5_wantEnd_19 : decode cX5_wantEnd 19 = .ok (.if_icmp .ge 12, 3) := dk_162 0 12 (dk_at dksX5_wantEnd_0 19 rfl rfl)
theorem dX5_wantEnd_22 : decode cX5_wantEnd 22 = .ok (.aload_n 0, 1) := dk_42 (dk_at dksX5_wantEnd_0 22 rfl rfl)
theorem dX5_wantEnd_23 : decode cX5_wantEnd 23 = .ok (.iconst 1, 1) := dk_4 (dk_at dksX5_wantEnd_0 23 rfl rfl)
theorem dX5_wantEnd_24 : decode cX5_wantEnd 24 = .ok (.aload_n 0, 1) := dk_42 (dk_at dksX5_wantEnd_1 0 rfl rfl)
theorem dX5_wantEnd_25 : decode cX5_wantEnd 25 = .ok (.getfield 147, 3) := dk_180 0 147 (dk_at dksX5_wantEnd_1 1 rfl rfl)
theorem dX5_wantEnd_28 : decode cX5_wantEnd 28 = .ok (.invokevirtual 157, 3) := dk_182 0 157 (dk_at dksX5_wantEnd_1 4 rfl rfl)
theorem dX5_wantEnd_31 : decode cX5_wantEnd 31 = .ok (.return_, 1) := dk_177 (dk_at dksX5_wantEnd_1 7 rfl rfl)
abbrev cX5_newJob : ByteArray := prog_12_method_49_code
def yX5_newJob : MethodName := ⟨RX5, "newJob", "(II)I"⟩
def dkwX5_newJob_4 : List UInt8 := [132, 3, 1, 167, 255, 235, 28, 172]
abbrev dktX5_newJob_4 : List UInt8 := dkwX5_newJob_4 ++ []
def dkwX5_newJob_3 : List UInt8 := [167, 255, 228, 3, 62, 29, 16, 48, 162, 0, 21, 42, 180, 0, 73, 16, 48, 28, 104, 29, 96, 3, 79]
abbrev dktX5_newJob_3 : List UInt8 := dkwX5_newJob_3 ++ dktX5_newJob_4
def dkwX5_newJob_2 : List UInt8 := [162, 0, 26, 42, 180, 0, 64, 16, 12, 28, 104, 29, 96, 42, 180, 0, 70, 29, 46, 79, 132, 3, 1]
abbrev dktX5_newJob_2 : List UInt8 := dkwX5_newJob_2 ++ dktX5_newJob_3
def dkwX5_newJob_1 : List UInt8 := [180, 0, 60, 28, 3, 84, 42, 180, 0, 67, 28, 42, 180, 1, 28, 79, 3, 62, 29, 42, 180, 1, 28]
abbrev dktX5_newJob_1 : List UInt8 := dkwX5_newJob_1 ++ dktX5_newJob_2
def dkwX5_newJob_0 : List UInt8 := [42, 180, 0, 48, 28, 27, 79, 42, 180, 0, 57, 28, 3, 79, 42, 180, 0, 54, 28, 3, 79, 42]
abbrev dktX5_newJob_0 : List UInt8 := dkwX5_newJob_0 ++ dktX5_newJob_1
theorem dksX5_newJob_0 : cX5_newJob.data.toList.drop 0 = dktX5_newJob_0 := by decide +kernel
theorem dksX5_newJob_1 : cX5_newJob.data.toList.drop 22 = dktX5_newJob_1 := dk_seg dksX5_newJob_0 22 rfl rfl
theorem dksX5_newJob_2 : cX5_newJob.data.toList.drop 45 = dktX5_newJob_2 := dk_seg dksX5_newJob_1 23 rfl rfl
theorem dksX5_newJob_3 : cX5_newJob.data.toList.drop 68 = dktX5_newJob_3 := dk_seg dksX5_newJob_2 23 rfl rfl
theorem dksX5_newJob_4 : cX5_newJob.data.toList.drop 91 = dktX5_newJob_4 := dk_seg dksX5_newJob_3 23 rfl rfl
theorem dX5_newJob_0 : decode cX5_newJob 0 = .ok (.aload_n 0, 1) := dk_42 (dk_at dksX5_newJob_0 0 rfl rfl)
theorem dX5_newJob_1 : decode cX5_newJob 1 = .ok (.getfield 48, 3) := dk_180 0 48 (dk_at dksX5_newJob_0 1 rfl rfl)
theorem dX5_newJob_4 : decode cX5_newJob 4 = .ok (.iload_n 2, 1) := dk_28 (dk_at dksX5_newJob_0 4 rfl rfl)
theorem dX5_newJob_5 : decode cX5_newJob 5 = .ok (.iload_n 1, 1) := dk_27 (dk_at dksX5_newJob_0 5 rfl rfl)
theorem dX5_newJob_6 : decode cX5_newJob 6 = .ok (.iastore, 1) := dk_79 (dk_at dksX5_newJob_0 6 rfl rfl)
theorem dX5_newJob_7 : decode cX5_newJob 7 = .ok (.aload_n 0, 1) := dk_42 (dk_at dksX5_newJob_0 7 rfl rfl)
theorem dX5_newJob_8 : decode cX5_newJob 8 = .ok (.getfield 57, 3) := dk_180 0 57 (dk_at dksX5_newJob_0 8 rfl rfl)
theorem dX5_newJob_11 : decode cX5_newJob 11 = .ok (.iload_n 2, 1) := dk_28 (dk_at dksX5_newJob_0 11 rfl rfl)
theorem dX5_newJob_12 : decode cX5_newJob 12 = .ok (.iconst 0, 1) := dk_3 (dk_at dksX5_newJob_0 12 rfl rfl)
theorem dX5_newJob_13 : decode cX5_newJob 13 = .ok (.iastore, 1) := dk_79 (dk_at dksX5_newJob_0 13 rfl rfl)
theorem dX5_newJob_14 : decode cX5_newJob 14 = .ok (.aload_n 0, 1) := dk_42 (dk_at dksX5_newJob_0 14 rfl rfl)
theorem dX5_newJob_15 : decode cX5_newJob 15 = .ok (.getfield 54, 3) := dk_180 0 54 (dk_at dksX5_newJob_0 15 rfl rfl)
theorem dX5_newJob_18 : decode cX5_newJob 18 = .ok (.iload_n 2, 1) := dk_28 (dk_at dksX5_newJob_0 18 rfl rfl)
theorem dX5_newJob_19 : decode cX5_newJob 19 = .ok (.iconst 0, 1) := dk_3 (dk_at dksX5_newJob_0 19 rfl rfl)
theorem dX5_newJob_20 : decode cX5_newJob 20 = .ok (.iastore, 1) := dk_79 (dk_at dksX5_newJob_0 20 rfl rfl)
theorem dX5_newJob_21 : decode cX5_newJob 21 = .ok (.aload_n 0, 1) := dk_42 (dk_at dksX5_newJob_0 21 rfl rfl)
theorem dX5_newJob_22 : decode cX5_newJob 22 = .ok (.getfield 60, 3) := dk_180 0 60 (dk_at dksX5_newJob_1 0 rfl rfl)
theorem dX5_newJob_25 : decode cX5_newJob 25 = .ok (.iload_n 2, 1) := dk_28 (dk_at dksX5_newJob_1 3 rfl rfl)
theorem dX5_newJob_26 : decode cX5_newJob 26 = .ok (.iconst 0, 1) := dk_3 (dk_at dksX5_newJob_1 4 rfl rfl)
theorem dX5_newJob_27 : decode cX5_newJob 27 = .ok (.bastore, 1) := dk_84 (dk_at dksX5_newJob_1 5 rfl rfl)
theorem dX5_newJob_28 : decode cX5_newJob 28 = .ok (.aload_n 0, 1) := dk_42 (dk_at dksX5_newJob_1 6 rfl rfl)
theorem dX5_newJob_29 : decode cX5_newJob 29 = .ok (.getfield 67, 3) := dk_180 0 67 (dk_at dksX5_newJob_1 7 rfl rfl)
theorem dX5_newJob_32 : decode cX5_newJob 32 = .ok (.iload_n 2, 1) := dk_28 (dk_at dksX5_newJob_1 10 rfl rfl)
theorem dX5_newJob_33 : decode cX5_newJob 33 = .ok (.aload_n 0, 1) := dk_42 (dk_at dksX5_newJob_1 11 rfl rfl)
theorem dX5_newJob_34 : decode cX5_newJob 34 = .ok (.getfield 284, 3) := dk_180 1 28 (dk_at dksX5_newJob_1 12 rfl rfl)
theorem dX5_newJob_37 : decode cX5_newJob 37 = .ok (.iastore, 1) := dk_79 (dk_at dksX5_newJob_1 15 rfl rfl)
theorem dX5_newJob_38 : decode cX5_newJob 38 = .ok (.iconst 0, 1) := dk_3 (dk_at dksX5_newJob_1 16 rfl rfl)
theorem dX5_newJob_39 : decode cX5_newJob 39 = .ok (.istore_n 3, 1) := dk_62 (dk_at dksX5_newJob_1 17 rfl rfl)
theorem dX5_newJob_40 : decode cX5_newJob 40 = .ok (.iload_n 3, 1) := dk_29 (dk_at dksX5_newJob_1 18 rfl rfl)
theorem dX5_newJob_41 : decode cX5_newJob 41 = .ok (.aload_n 0, 1) := dk_42 (dk_at dksX5_newJob_1 19 rfl rfl)
theorem dX5_newJob_42 : decode cX5_newJob 42 = .ok (.getfield 284, 3) := dk_180 1 28 (dk_at dksX5_newJob_1 20 rfl rfl)
theorem dX5_newJob_45 : decode cX5_newJob 45 = .ok (.if_icmp .ge 26, 3) := dk_162 0 26 (dk_at dksX5_newJob_2 0 rfl rfl)
theorem dX5_newJob_48 : decode cX5_newJob 48 = .ok (.aload_n 0, 1) := dk_42 (dk_at dksX5_newJob_2 3 rfl rfl)
theorem dX5_newJob_49 : decode cX5_newJob 49 = .ok (.getfield 64, 3) := dk_180 0 64 (dk_at dksX5_newJob_2 4 rfl rfl)
theorem dX5_newJob_52 : decode cX5_newJob 52 = .ok (.bipush 12, 2) := dk_16 12 (dk_at dksX5_newJob_2 7 rfl rfl)
theorem dX5_newJob_54 : decode cX5_newJob 54 = .ok (.iload_n 2, 1) := dk_28 (dk_at dksX5_newJob_2 9 rfl rfl)
theorem dX5_newJob_55 : decode cX5_newJob 55 = .ok (.imul, 1) := dk_104 (dk_at dksX5_newJob_2 10 rfl rfl)
theorem dX5_newJob_56 : decode cX5_newJob 56 = .ok (.iload_n 3, 1) := dk_29 (dk_at dksX5_newJob_2 11 rfl rfl)
theorem dX5_newJob_57 : decode cX5_newJob 57 = .ok (.iadd, 1) := dk_96 (dk_at dksX5_newJob_2 12 rfl rfl)
theorem dX5_newJob_58 : decode cX5_newJob 58 = .ok (.aload_n 0, 1) := dk_42 (dk_at dksX5_newJob_2 13 rfl rfl)
theorem dX5_newJob_59 : decode cX5_newJob 59 = .ok (.getfield 70, 3) := dk_180 0 70 (dk_at dksX5_newJob_2 14 rfl rfl)
theorem dX5_newJob_62 : decode cX5_newJob 62 = .ok (.iload_n 3, 1) := dk_29 (dk_at dksX5_newJob_2 17 rfl rfl)
theorem dX5_newJob_63 : decode cX5_newJob 63 = .ok (.iaload, 1) := dk_46 (dk_at dksX5_newJob_2 18 rfl rfl)
theorem dX5_newJob_64 : decode cX5_newJob 64 = .ok (.iastore, 1) := dk_79 (dk_at dksX5_newJob_2 19 rfl rfl)
theorem dX5_newJob_65 : decode cX5_newJob 65 = .ok (.iinc 3 1, 3) := dk_132 3 1 (dk_at dksX5_newJob_2 20 rfl rfl)
theorem dX5_newJob_68 : decode cX5_newJob 68 = .ok (.goto (-28), 3) := dk_167 255 228 (dk_at dksX5_newJob_3 0 rfl rfl)
theorem dX5_newJob_71 : decode cX5_newJob 71 = .ok (.iconst 0, 1) := dk_3 (dk_at dksX5_newJob_3 3 rfl rfl)
theorem dX5_newJob_72 : decode cX5_newJob 72 = .ok (.istore_n 3, 1) := dk_62 (dk_at dksX5_newJob_3 4 rfl rfl)
theorem dX5_newJob_73 : decode cX5_newJob 73 = .ok (.iload_n 3, 1) := dk_29 (dk_at dksX5_newJob_3 5 rfl rfl)
theorem dX5_newJob_74 : decode cX5_newJob 74 = .ok (.bipush 48, 2) := dk_16 48 (dk_at dksX5_newJob_3 6 rfl rfl)
theorem dX5_newJob_76 : decode cX5_newJob 76 = .ok (.if_icmp .ge 21, 3) := dk_162 0 21 (dk_at dksX5_newJob_3 8 rfl rfl)
theorem dX5_newJob_79 : decode cX5_newJob 79 = .ok (.aload_n 0, 1) := dk_42 (dk_at dksX5_newJob_3 11 rfl rfl)
theorem dX5_newJob_80 : decode cX5_newJob 80 = .ok (.getfield 73, 3) := dk_180 0 73 (dk_at dksX5_newJob_3 12 rfl rfl)
theorem dX5_newJob_83 : decode cX5_newJob 83 = .ok (.bipush 48, 2) := dk_16 48 (dk_at dksX5_newJob_3 15 rfl rfl)
theorem dX5_newJob_85 : decode cX5_newJob 85 = .ok (.iload_n 2, 1) := dk_28 (dk_at dksX5_newJob_3 17 rfl rfl)
theorem dX5_newJob_86 : decode cX5_newJob 86 = .ok (.imul, 1) := dk_104 (dk_at dksX5_newJob_3 18 rfl rfl)
theorem dX5_newJob_87 : decode cX5_newJob 87 = .ok (.iload_n 3, 1) := dk_29 (dk_at dksX5_newJob_3 19 rfl rfl)
theorem dX5_newJob_88 : decode cX5_newJob 88 = .ok (.iadd, 1) := dk_96 (dk_at dksX5_newJob_3 20 rfl rfl)
theorem dX5_newJob_89 : decode cX5_newJob 89 = .ok (.iconst 0, 1) := dk_3 (dk_at dksX5_newJob_3 21 rfl rfl)
theorem dX5_newJob_90 : decode cX5_newJob 90 = .ok (.iastore, 1) := dk_79 (dk_at dksX5_newJob_3 22 rfl rfl)
theorem dX5_newJob_91 : decode cX5_newJob 91 = .ok (.iinc 3 1, 3) := dk_132 3 1 (dk_at dksX5_newJob_4 0 rfl rfl)
theorem dX5_newJob_94 : decode cX5_newJob 94 = .ok (.goto (-21), 3) := dk_167 255 235 (dk_at dksX5_newJob_4 3 rfl rfl)
theorem dX5_newJob_97 : decode cX5_newJob 97 = .ok (.iload_n 2, 1) := dk_28 (dk_at dksX5_newJob_4 6 rfl rfl)
theorem dX5_newJob_98 : decode cX5_newJob 98 = .ok (.ireturn, 1) := dk_172 (dk_at dksX5_newJob_4 7 rfl rfl)
abbrev cX5_simple : ByteArray := prog_12_method_52_code
def yX5_simple : MethodName := ⟨RX5, "simple", "(I)I"⟩
def dkwX5_simple_2 : List UInt8 := [182, 1, 60, 172]
abbrev dktX5_simple_2 : List UInt8 := dkwX5_simple_2 ++ []
def dkwX5_simple_1 : List UInt8 := [42, 8, 42, 180, 0, 118, 182, 0, 157, 42, 180, 0, 123, 158, 0, 7, 2, 167, 0, 9, 42, 27, 28]
abbrev dktX5_simple_1 : List UInt8 := dkwX5_simple_1 ++ dktX5_simple_2
def dkwX5_simple_0 : List UInt8 := [42, 182, 1, 48, 42, 182, 1, 57, 42, 182, 1, 51, 61, 42, 180, 0, 123, 154, 0, 16, 28, 156, 0, 12]
abbrev dktX5_simple_0 : List UInt8 := dkwX5_simple_0 ++ dktX5_simple_1
theorem dksX5_simple_0 : cX5_simple.data.toList.drop 0 = dktX5_simple_0 := by decide +kernel
theorem dksX5_simple_1 : cX5_simple.data.toList.drop 24 = dktX5_simple_1 := dk_seg dksX5_simple_0 24 rfl rfl
theorem dksX5_simple_2 : cX5_simple.data.toList.drop 47 = dktX5_simple_2 := dk_seg dksX5_simple_1 23 rfl rfl
theorem dX5_simple_0 : decode cX5_simple 0 = .ok (.aload_n 0, 1) := dk_42 (dk_at dksX5_simple_0 0 rfl rfl)
theorem dX5_simple_1 : decode cX5_simple 1 = .ok (.invokevirtual 304, 3) := dk_182 1 48 (dk_at dksX5_simple_0 1 rfl rfl)
theorem dX5_simple_4 : decode cX5_simple 4 = .ok (.aload_n 0, 1) := dk_42 (dk_at dksX5_simple_0 4 rfl rfl)
theorem dX5_simple_5 : decode cX5_simple 5 = .ok (.invokevirtual 313, 3) := dk_182 1 57 (dk_at dksX5_simple_0 5 rfl rfl)
theorem dX5_simple_8 : decode cX5_simple 8 = .ok (.aload_n 0, 1) := dk_42 (dk_at dksX5_simple_0 8 rfl rfl)
theorem dX5_simple_9 : decode cX5_simple 9 = .ok (.invokevirtual 307, 3) := dk_182 1 51 (dk_at dksX5_simple_0 9 rfl rfl)
theorem dX5_simple_12 : decode cX5_simple 12 = .ok (.istore_n 2, 1) := dk_61 (dk_at dksX5_simple_0 12 rfl rfl)
theorem dX5_simple_13 : decode cX5_simple 13 = .ok (.aload_n 0, 1) := dk_42 (dk_at dksX5_simple_0 13 rfl rfl)
theorem dX5_simple_14 : decode cX5_simple 14 = .ok (.getfield 123, 3) := dk_180 0 123 (dk_at dksX5_simple_0 14 rfl rfl)
theorem dX5_simple_17 : decode cX5_simple 17 = .ok (.ifCond .ne 16, 3) := dk_154 0 16 (dk_at dksX5_simple_0 17 rfl rfl)
theorem dX5_simple_20 : decode cX5_simple 20 = .ok (.iload_n 2, 1) := dk_28 (dk_at dksX5_simple_0 20 rfl rfl)
theorem dX5_simple_21 : decode cX5_simple 21 = .ok (.ifCond .ge 12, 3) := dk_156 0 12 (dk_at dksX5_simple_0 21 rfl rfl)
theorem dX5_simple_24 : decode cX5_simple 24 = .ok (.aload_n 0, 1) := dk_42 (dk_at dksX5_simple_1 0 rfl rfl)
theorem dX5_simple_25 : decode cX5_simple 25 = .ok (.iconst 5, 1) := dk_8 (dk_at dksX5_simple_1 1 rfl rfl)
theorem dX5_simple_26 : decode cX5_simple 26 = .ok (.aload_n 0, 1) := dk_42 (dk_at dksX5_simple_1 2 rfl rfl)
theorem dX5_simple_27 : decode cX5_simple 27 = .ok (.getfield 118, 3) := dk_180 0 118 (dk_at dksX5_simple_1 3 rfl rfl)
theorem dX5_simple_30 : decode cX5_simple 30 = .ok (.invokevirtual 157, 3) := dk_182 0 157 (dk_at dksX5_simple_1 6 rfl rfl)
theorem dX5_simple_33 : decode cX5_simple 33 = .ok (.aload_n 0, 1) := dk_42 (dk_at dksX5_simple_1 9 rfl rfl)
theorem dX5_simple_34 : decode cX5_simple 34 = .ok (.getfield 123, 3) := dk_180 0 123 (dk_at dksX5_simple_1 10 rfl rfl)
theorem dX5_simple_37 : decode cX5_simple 37 = .ok (.ifCond .le 7, 3) := dk_158 0 7 (dk_at dksX5_simple_1 13 rfl rfl)
theorem dX5_simple_40 : decode cX5_simple 40 = .ok (.iconst (-1), 1) := dk_2 (dk_at dksX5_simple_1 16 rfl rfl)
theorem dX5_simple_41 : decode cX5_simple 41 = .ok (.goto 9, 3) := dk_167 0 9 (dk_at dksX5_simple_1 17 rfl rfl)
theorem dX5_simple_44 : decode cX5_simple 44 = .ok (.aload_n 0, 1) := dk_42 (dk_at dksX5_simple_1 20 rfl rfl)
theorem dX5_simple_45 : decode cX5_simple 45 = .ok (.iload_n 1, 1) := dk_27 (dk_at dksX5_simple_1 21 rfl rfl)
theorem dX5_simple_46 : decode cX5_simple 46 = .ok (.iload_n 2, 1) := dk_28 (dk_at dksX5_simple_1 22 rfl rfl)
theorem dX5_simple_47 : decode cX5_simple 47 = .ok (.invokevirtual 316, 3) := dk_182 1 60 (dk_at dksX5_simple_2 0 rfl rfl)
theorem dX5_simple_50 : decode cX5_simple 50 = .ok (.ireturn, 1) := dk_172 (dk_at dksX5_simple_2 3 rfl rfl)
abbrev cX5_kill : ByteArray := prog_12_method_53_code
def yX5_kill : MethodName := ⟨RX5, "kill", "()I"⟩
def dkwX5_kill_2 : List UInt8 := [2, 172, 42, 180, 0, 48, 27, 3, 79, 27, 172]
abbrev dktX5_kill_2 : List UInt8 := dkwX5_kill_2 ++ []
def dkwX5_kill_1 : List UInt8 := [180, 0, 48, 27, 46, 154, 0, 12, 42, 8, 42, 180, 0, 118, 182, 0, 157, 42, 180, 0, 123, 158, 0, 5]
abbrev dktX5_kill_1 : List UInt8 := dkwX5_kill_1 ++ dktX5_kill_2
def dkwX5_kill_0 : List UInt8 := [42, 3, 182, 1, 54, 60, 42, 182, 1, 57, 42, 180, 0, 123, 154, 0, 27, 27, 16, 8, 162, 0, 12, 42]
abbrev dktX5_kill_0 : List UInt8 := dkwX5_kill_0 ++ dktX5_kill_1
theorem dksX5_kill_0 : cX5_kill.data.toList.drop 0 = dktX5_kill_0 := by decide +kernel
theorem dksX5_kill_1 : cX5_kill.data.toList.drop 24 = dktX5_kill_1 := dk_seg dksX5_kill_0 24 rfl rfl
theorem dksX5_kill_2 : cX5_kill.data.toList.drop 48 = dktX5_kill_2 := dk_seg dksX5_kill_1 24 rfl rfl
theorem dX5_kill_0 : decode cX5_kill 0 = .ok (.aload_n 0, 1) := dk_42 (dk_at dksX5_kill_0 0 rfl rfl)
theorem dX5_kill_1 : decode cX5_kill 1 = .ok (.iconst 0, 1) := dk_3 (dk_at dksX5_kill_0 1 rfl rfl)
theorem dX5_kill_2 : decode cX5_kill 2 = .ok (.invokevirtual 310, 3) := dk_182 1 54 (dk_at dksX5_kill_0 2 rfl rfl)
theorem dX5_kill_5 : decode cX5_kill 5 = .ok (.istore_n 1, 1) := dk_60 (dk_at dksX5_kill_0 5 rfl rfl)
theorem dX5_kill_6 : decode cX5_kill 6 = .ok (.aload_n 0, 1) := dk_42 (dk_at dksX5_kill_0 6 rfl rfl)
theorem dX5_kill_7 : decode cX5_kill 7 = .ok (.invokevirtual 313, 3) := dk_182 1 57 (dk_at dksX5_kill_0 7 rfl rfl)
theorem dX5_kill_10 : decode cX5_kill 10 = .ok (.aload_n 0, 1) := dk_42 (dk_at dksX5_kill_0 10 rfl rfl)
theorem dX5_kill_11 : decode cX5_kill 11 = .ok (.getfield 123, 3) := dk_180 0 123 (dk_at dksX5_kill_0 11 rfl rfl)
theorem dX5_kill_14 : decode cX5_kill 14 = .ok (.ifCond .ne 27, 3) := dk_154 0 27 (dk_at dksX5_kill_0 14 rfl rfl)
theorem dX5_kill_17 : decode cX5_kill 17 = .ok (.iload_n 1, 1) := dk_27 (dk_at dksX5_kill_0 17 rfl rfl)
theorem dX5_kill_18 : decode cX5_kill 18 = .ok (.bipush 8, 2) := dk_16 8 (dk_at dksX5_kill_0 18 rfl rfl)
theorem dX5_kill_20 : decode cX5_kill 20 = .ok (.if_icmp .ge 12, 3) := dk_162 0 12 (dk_at dksX5_kill_0 20 rfl rfl)
theorem dX5_kill_23 : decode cX5_kill 23 = .ok (.aload_n 0, 1) := dk_42 (dk_at dksX5_kill_0 23 rfl rfl)
theorem dX5_kill_24 : decode cX5_kill 24 = .ok (.getfield 48, 3) := dk_180 0 48 (dk_at dksX5_kill_1 0 rfl rfl)
theorem dX5_kill_27 : decode cX5_kill 27 = .ok (.iload_n 1, 1) := dk_27 (dk_at dksX5_kill_1 3 rfl rfl)
theorem dX5_kill_28 : decode cX5_kill 28 = .ok (.iaload, 1) := dk_46 (dk_at dksX5_kill_1 4 rfl rfl)
theorem dX5_kill_29 : decode cX5_kill 29 = .ok (.ifCond .ne 12, 3) := dk_154 0 12 (dk_at dksX5_kill_1 5 rfl rfl)
theorem dX5_kill_32 : decode cX5_kill 32 = .ok (.aload_n 0, 1) := dk_42 (dk_at dksX5_kill_1 8 rfl rfl)
theorem dX5_kill_33 : decode cX5_kill 33 = .ok (.iconst 5, 1) := dk_8 (dk_at dksX5_kill_1 9 rfl rfl)
theorem dX5_kill_34 : decode cX5_kill 34 = .ok (.aload_n 0, 1) := dk_42 (dk_at dksX5_kill_1 10 rfl rfl)
theorem dX5_kill_35 : decode cX5_kill 35 = .ok (.getfield 118, 3) := dk_180 0 118 (dk_at dksX5_kill_1 11 rfl rfl)
theorem dX5_kill_38 : decode cX5_kill 38 = .ok (.invokevirtual 157, 3) := dk_182 0 157 (dk_at dksX5_kill_1 14 rfl rfl)
theorem dX5_kill_41 : decode cX5_kill 41 = .ok (.aload_n 0, 1) := dk_42 (dk_at dksX5_kill_1 17 rfl rfl)
theorem dX5_kill_42 : decode cX5_kill 42 = .ok (.getfield 123, 3) := dk_180 0 123 (dk_at dksX5_kill_1 18 rfl rfl)
theorem dX5_kill_45 : decode cX5_kill 45 = .ok (.ifCond .le 5, 3) := dk_158 0 5 (dk_at dksX5_kill_1 21 rfl rfl)
theorem dX5_kill_48 : decode cX5_kill 48 = .ok (.iconst (-1), 1) := dk_2 (dk_at dksX5_kill_2 0 rfl rfl)
theorem dX5_kill_49 : decode cX5_kill 49 = .ok (.ireturn, 1) := dk_172 (dk_at dksX5_kill_2 1 rfl rfl)
theorem dX5_kill_50 : decode cX5_kill 50 = .ok (.aload_n 0, 1) := dk_42 (dk_at dksX5_kill_2 2 rfl rfl)
theorem dX5_kill_51 : decode cX5_kill 51 = .ok (.getfield 48, 3) := dk_180 0 48 (dk_at dksX5_kill_2 3 rfl rfl)
theorem dX5_kill_54 : decode cX5_kill 54 = .ok (.iload_n 1, 1) := dk_27 (dk_at dksX5_kill_2 6 rfl rfl)
theorem dX5_kill_55 : decode cX5_kill 55 = .ok (.iconst 0, 1) := dk_3 (dk_at dksX5_kill_2 7 rfl rfl)
theorem dX5_kill_56 : decode cX5_kill 56 = .ok (.iastore, 1) := dk_79 (dk_at dksX5_kill_2 8 rfl rfl)
theorem dX5_kill_57 : decode cX5_kill 57 = .ok (.iload_n 1, 1) := dk_27 (dk_at dksX5_kill_2 9 rfl rfl)
theorem dX5_kill_58 : decode cX5_kill 58 = .ok (.ireturn, 1) := dk_172 (dk_at dksX5_kill_2 10 rfl rfl)
abbrev cX5_reset : ByteArray := prog_12_method_54_code
def yX5_reset : MethodName := ⟨RX5, "reset", "()I"⟩
def dkwX5_reset_2 : List UInt8 := [132, 2, 1, 167, 255, 223, 27, 172]
abbrev dktX5_reset_2 : List UInt8 := dkwX5_reset_2 ++ []
def dkwX5_reset_1 : List UInt8 := [180, 0, 48, 28, 46, 158, 0, 9, 27, 4, 96, 167, 0, 4, 27, 60, 42, 180, 0, 48, 28, 3, 79]
abbrev dktX5_reset_1 : List UInt8 := dkwX5_reset_1 ++ dktX5_reset_2
def dkwX5_reset_0 : List UInt8 := [42, 182, 1, 57, 42, 180, 0, 123, 158, 0, 5, 2, 172, 3, 60, 3, 61, 28, 16, 8, 162, 0, 33, 42]
abbrev dktX5_reset_0 : List UInt8 := dkwX5_reset_0 ++ dktX5_reset_1
theorem dksX5_reset_0 : cX5_reset.data.toList.drop 0 = dktX5_reset_0 := by decide +kernel
theorem dksX5_reset_1 : cX5_reset.data.toList.drop 24 = dktX5_reset_1 := dk_seg dksX5_reset_0 24 rfl rfl
theorem dksX5_reset_2 : cX5_reset.data.toList.drop 47 = dktX5_reset_2 := dk_seg dksX5_reset_1 23 rfl rfl
theorem dX5_reset_0 : decode cX5_reset 0 = .ok (.aload_n 0, 1) := dk_42 (dk_at dksX5_reset_0 0 rfl rfl)
theorem dX5_reset_1 : decode cX5_reset 1 = .ok (.invokevirtual 313, 3) := dk_182 1 57 (dk_at dksX5_reset_0 1 rfl rfl)
theorem dX5_reset_4 : decode cX5_reset 4 = .ok (.aload_n 0, 1) := dk_42 (dk_at dksX5_reset_0 4 rfl rfl)
theorem dX5_reset_5 : decode cX5_reset 5 = .ok (.getfield 123, 3) := dk_180 0 123 (dk_at dksX5_reset_0 5 rfl rfl)
theorem dX5_reset_8 : decode cX5_reset 8 = .ok (.ifCond .le 5, 3) := dk_158 0 5 (dk_at dksX5_reset_0 8 rfl rfl)
theorem dX5_reset_11 : decode cX5_reset 11 = .ok (.iconst (-1), 1) := dk_2 (dk_at dksX5_reset_0 11 rfl rfl)
theorem dX5_reset_12 : decode cX5_reset 12 = .ok (.ireturn, 1) := dk_172 (dk_at dksX5_reset_0 12 rfl rfl)
theorem dX5_reset_13 : decode cX5_reset 13 = .ok (.iconst 0, 1) := dk_3 (dk_at dksX5_reset_0 13 rfl rfl)
theorem dX5_reset_14 : decode cX5_reset 14 = .ok (.istore_n 1, 1) := dk_60 (dk_at dksX5_reset_0 14 rfl rfl)
theorem dX5_reset_15 : decode cX5_reset 15 = .ok (.iconst 0, 1) := dk_3 (dk_at dksX5_reset_0 15 rfl rfl)
theorem dX5_reset_16 : decode cX5_reset 16 = .ok (.istore_n 2, 1) := dk_61 (dk_at dksX5_reset_0 16 rfl rfl)
theorem dX5_reset_17 : decode cX5_reset 17 = .ok (.iload_n 2, 1) := dk_28 (dk_at dksX5_reset_0 17 rfl rfl)
theorem dX5_reset_18 : decode cX5_reset 18 = .ok (.bipush 8, 2) := dk_16 8 (dk_at dksX5_reset_0 18 rfl rfl)
theorem dX5_reset_20 : decode cX5_reset 20 = .ok (.if_icmp .ge 33, 3) := dk_162 0 33 (dk_at dksX5_reset_0 20 rfl rfl)
theorem dX5_reset_23 : decode cX5_reset 23 = .ok (.aload_n 0, 1) := dk_42 (dk_at dksX5_reset_0 23 rfl rfl)
theorem dX5_reset_24 : decode cX5_reset 24 = .ok (.getfield 48, 3) := dk_180 0 48 (dk_at dksX5_reset_1 0 rfl rfl)
theorem dX5_reset_27 : decode cX5_reset 27 = .ok (.iload_n 2, 1) := dk_28 (dk_at dksX5_reset_1 3 rfl rfl)
theorem dX5_reset_28 : decode cX5_reset 28 = .ok (.iaload, 1) := dk_46 (dk_at dksX5_reset_1 4 rfl rfl)
theorem dX5_reset_29 : decode cX5_reset 29 = .ok (.ifCond .le 9, 3) := dk_158 0 9 (dk_at dksX5_reset_1 5 rfl rfl)
theorem dX5_reset_32 : decode cX5_reset 32 = .ok (.iload_n 1, 1) := dk_27 (dk_at dksX5_reset_1 8 rfl rfl)
theorem dX5_reset_33 : decode cX5_reset 33 = .ok (.iconst 1, 1) := dk_4 (dk_at dksX5_reset_1 9 rfl rfl)
theorem dX5_reset_34 : decode cX5_reset 34 = .ok (.iadd, 1) := dk_96 (dk_at dksX5_reset_1 10 rfl rfl)
theorem dX5_reset_35 : decode cX5_reset 35 = .ok (.goto 4, 3) := dk_167 0 4 (dk_at dksX5_reset_1 11 rfl rfl)
theorem dX5_reset_38 : decode cX5_reset 38 = .ok (.iload_n 1, 1) := dk_27 (dk_at dksX5_reset_1 14 rfl rfl)
theorem dX5_reset_39 : decode cX5_reset 39 = .ok (.istore_n 1, 1) := dk_60 (dk_at dksX5_reset_1 15 rfl rfl)
theorem dX5_reset_40 : decode cX5_reset 40 = .ok (.aload_n 0, 1) := dk_42 (dk_at dksX5_reset_1 16 rfl rfl)
theorem dX5_reset_41 : decode cX5_reset 41 = .ok (.getfield 48, 3) := dk_180 0 48 (dk_at dksX5_reset_1 17 rfl rfl)
theorem dX5_reset_44 : decode cX5_reset 44 = .ok (.iload_n 2, 1) := dk_28 (dk_at dksX5_reset_1 20 rfl rfl)
theorem dX5_reset_45 : decode cX5_reset 45 = .ok (.iconst 0, 1) := dk_3 (dk_at dksX5_reset_1 21 rfl rfl)
theorem dX5_reset_46 : decode cX5_reset 46 = .ok (.iastore, 1) := dk_79 (dk_at dksX5_reset_1 22 rfl rfl)
theorem dX5_reset_47 : decode cX5_reset 47 = .ok (.iinc 2 1, 3) := dk_132 2 1 (dk_at dksX5_reset_2 0 rfl rfl)
theorem dX5_reset_50 : decode cX5_reset 50 = .ok (.goto (-33), 3) := dk_167 255 223 (dk_at dksX5_reset_2 3 rfl rfl)
theorem dX5_reset_53 : decode cX5_reset 53 = .ok (.iload_n 1, 1) := dk_27 (dk_at dksX5_reset_2 6 rfl rfl)
theorem dX5_reset_54 : decode cX5_reset 54 = .ok (.ireturn, 1) := dk_172 (dk_at dksX5_reset_2 7 rfl rfl)
abbrev cX5_fault : ByteArray := prog_12_method_56_code
def yX5_fault : MethodName := ⟨RX5, "fault", "()I"⟩
def dkwX5_fault_0 : List UInt8 := [42, 3, 181, 0, 115, 42, 180, 0, 123, 172]
abbrev dktX5_fault_0 : List UInt8 := dkwX5_fault_0 ++ []
theorem dksX5_fault_0 : cX5_fault.data.toList.drop 0 = dktX5_fault_0 := by decide +kernel
theorem dX5_fault_0 : decode cX5_fault 0 = .ok (.aload_n 0, 1) := dk_42 (dk_at dksX5_fault_0 0 rfl rfl)
theorem dX5_fault_1 : decode cX5_fault 1 = .ok (.iconst 0, 1) := dk_3 (dk_at dksX5_fault_0 1 rfl rfl)
theorem dX5_fault_2 : decode cX5_fault 2 = .ok (.putfield 115, 3) := dk_181 0 115 (dk_at dksX5_fault_0 2 rfl rfl)
theorem dX5_fault_5 : decode cX5_fault 5 = .ok (.aload_n 0, 1) := dk_42 (dk_at dksX5_fault_0 5 rfl rfl)
theorem dX5_fault_6 : decode cX5_fault 6 = .ok (.getfield 123, 3) := dk_180 0 123 (dk_at dksX5_fault_0 6 rfl rfl)
theorem dX5_fault_9 : decode cX5_fault 9 = .ok (.ireturn, 1) := dk_172 (dk_at dksX5_fault_0 9 rfl rfl)
abbrev cX5_place : ByteArray := prog_12_method_57_code
def yX5_place : MethodName := ⟨RX5, "place", "()I"⟩
def dkwX5_place_0 : List UInt8 := [42, 3, 181, 0, 115, 42, 180, 0, 13, 172]
abbrev dktX5_place_0 : List UInt8 := dkwX5_place_0 ++ []
theorem dksX5_place_0 : cX5_place.data.toList.drop 0 = dktX5_place_0 := by decide +kernel
theorem dX5_place_0 : decode cX5_place 0 = .ok (.aload_n 0, 1) := dk_42 (dk_at dksX5_place_0 0 rfl rfl)
theorem dX5_place_1 : decode cX5_place 1 = .ok (.iconst 0, 1) := dk_3 (dk_at dksX5_place_0 1 rfl rfl)
theorem dX5_place_2 : decode cX5_place 2 = .ok (.putfield 115, 3) := dk_181 0 115 (dk_at dksX5_place_0 2 rfl rfl)
theorem dX5_place_5 : decode cX5_place 5 = .ok (.aload_n 0, 1) := dk_42 (dk_at dksX5_place_0 5 rfl rfl)
theorem dX5_place_6 : decode cX5_place 6 = .ok (.getfield 13, 3) := dk_180 0 13 (dk_at dksX5_place_0 6 rfl rfl)
theorem dX5_place_9 : decode cX5_place 9 = .ok (.ireturn, 1) := dk_172 (dk_at dksX5_place_0 9 rfl rfl)
abbrev cX5_call : ByteArray := prog_12_method_77_code
def yX5_call : MethodName := ⟨RX5, "call", "(IIII)I"⟩
def dkwX5_call_1 : List UInt8 := [180, 0, 115, 158, 0, 7, 3, 167, 0, 13, 42, 27, 28, 29, 21, 4, 3, 182, 1, 173, 172]
abbrev dktX5_call_1 : List UInt8 := dkwX5_call_1 ++ []
def dkwX5_call_0 : List UInt8 := [42, 27, 155, 0, 11, 27, 42, 180, 1, 4, 161, 0, 7, 4, 167, 0, 4, 3, 181, 0, 115, 42]
abbrev dktX5_call_0 : List UInt8 := dkwX5_call_0 ++ dktX5_call_1
theorem dksX5_call_0 : cX5_call.data.toList.drop 0 = dktX5_call_0 := by decide +kernel
theorem dksX5_call_1 : cX5_call.data.toList.drop 22 = dktX5_call_1 := dk_seg dksX5_call_0 22 rfl rfl
theorem dX5_call_0 : decode cX5_call 0 = .ok (.aload_n 0, 1) := dk_42 (dk_at dksX5_call_0 0 rfl rfl)
theorem dX5_call_1 : decode cX5_call 1 = .ok (.iload_n 1, 1) := dk_27 (dk_at dksX5_call_0 1 rfl rfl)
theorem dX5_call_2 : decode cX5_call 2 = .ok (.ifCond .lt 11, 3) := dk_155 0 11 (dk_at dksX5_call_0 2 rfl rfl)
theorem dX5_call_5 : decode cX5_call 5 = .ok (.iload_n 1, 1) := dk_27 (dk_at dksX5_call_0 5 rfl rfl)
theorem dX5_call_6 : decode cX5_call 6 = .ok (.aload_n 0, 1) := dk_42 (dk_at dksX5_call_0 6 rfl rfl)
theorem dX5_call_7 : decode cX5_call 7 = .ok (.getfield 260, 3) := dk_180 1 4 (dk_at dksX5_call_0 7 rfl rfl)
theorem dX5_call_10 : decode cX5_call 10 = .ok (.if_icmp .lt 7, 3) := dk_161 0 7 (dk_at dksX5_call_0 10 rfl rfl)
theorem dX5_call_13 : decode cX5_call 13 = .ok (.iconst 1, 1) := dk_4 (dk_at dksX5_call_0 13 rfl rfl)
theorem dX5_call_14 : decode cX5_call 14 = .ok (.goto 4, 3) := dk_167 0 4 (dk_at dksX5_call_0 14 rfl rfl)
theorem dX5_call_17 : decode cX5_call 17 = .ok (.iconst 0, 1) := dk_3 (dk_at dksX5_call_0 17 rfl rfl)
theorem dX5_call_18 : decode cX5_call 18 = .ok (.putfield 115, 3) := dk_181 0 115 (dk_at dksX5_call_0 18 rfl rfl)
theorem dX5_call_21 : decode cX5_call 21 = .ok (.aload_n 0, 1) := dk_42 (dk_at dksX5_call_0 21 rfl rfl)
theorem dX5_call_22 : decode cX5_call 22 = .ok (.getfield 115, 3) := dk_180 0 115 (dk_at dksX5_call_1 0 rfl rfl)
theorem dX5_call_25 : decode cX5_call 25 = .ok (.ifCond .le 7, 3) := dk_158 0 7 (dk_at dksX5_call_1 3 rfl rfl)
theorem dX5_call_28 : decode cX5_call 28 = .ok (.iconst 0, 1) := dk_3 (dk_at dksX5_call_1 6 rfl rfl)
theorem dX5_call_29 : decode cX5_call 29 = .ok (.goto 13, 3) := dk_167 0 13 (dk_at dksX5_call_1 7 rfl rfl)
theorem dX5_call_32 : decode cX5_call 32 = .ok (.aload_n 0, 1) := dk_42 (dk_at dksX5_call_1 10 rfl rfl)
theorem dX5_call_33 : decode cX5_call 33 = .ok (.iload_n 1, 1) := dk_27 (dk_at dksX5_call_1 11 rfl rfl)
theorem dX5_call_34 : decode cX5_call 34 = .ok (.iload_n 2, 1) := dk_28 (dk_at dksX5_call_1 12 rfl rfl)
theorem dX5_call_35 : decode cX5_call 35 = .ok (.iload_n 3, 1) := dk_29 (dk_at dksX5_call_1 13 rfl rfl)
theorem dX5_call_36 : decode cX5_call 36 = .ok (.iload 4, 2) := dk_21 4 (dk_at dksX5_call_1 14 rfl rfl)
theorem dX5_call_38 : decode cX5_call 38 = .ok (.iconst 0, 1) := dk_3 (dk_at dksX5_call_1 16 rfl rfl)
theorem dX5_call_39 : decode cX5_call 39 = .ok (.invokevirtual 429, 3) := dk_182 1 173 (dk_at dksX5_call_1 17 rfl rfl)
theorem dX5_call_42 : decode cX5_call 42 = .ok (.ireturn, 1) := dk_172 (dk_at dksX5_call_1 20 rfl rfl)
abbrev cX5_play : ByteArray := prog_12_method_76_code
def yX5_play : MethodName := ⟨RX5, "play", "(IIIIZ)I"⟩
def dkwX5_play_3 : List UInt8 := [180, 1, 137, 181, 1, 170, 42, 180, 1, 134, 153, 0, 7, 4, 167, 0, 4, 3, 172]
abbrev dktX5_play_3 : List UInt8 := dkwX5_play_3 ++ []
def dkwX5_play_2 : List UInt8 := [79, 42, 27, 182, 1, 157, 42, 180, 1, 125, 158, 0, 10, 42, 182, 1, 167, 167, 255, 245, 42, 42]
abbrev dktX5_play_2 : List UInt8 := dkwX5_play_2 ++ dktX5_play_3
def dkwX5_play_1 : List UInt8 := [181, 1, 140, 42, 180, 0, 85, 6, 28, 79, 42, 180, 0, 85, 7, 29, 79, 42, 180, 0, 85, 8, 21, 4]
abbrev dktX5_play_1 : List UInt8 := dkwX5_play_1 ++ dktX5_play_2
def dkwX5_play_0 : List UInt8 := [42, 21, 5, 181, 1, 112, 42, 3, 181, 1, 125, 42, 3, 181, 1, 128, 42, 3, 181, 1, 143, 42, 3]
abbrev dktX5_play_0 : List UInt8 := dkwX5_play_0 ++ dktX5_play_1
theorem dksX5_play_0 : cX5_play.data.toList.drop 0 = dktX5_play_0 := by decide +kernel
theorem dksX5_play_1 : cX5_play.data.toList.drop 23 = dktX5_play_1 := dk_seg dksX5_play_0 23 rfl rfl
theorem dksX5_play_2 : cX5_play.data.toList.drop 47 = dktX5_play_2 := dk_seg dksX5_play_1 24 rfl rfl
theorem dksX5_play_3 : cX5_play.data.toList.drop 69 = dktX5_play_3 := dk_seg dksX5_play_2 22 rfl rfl
theorem dX5_play_0 : decode cX5_play 0 = .ok (.aload_n 0, 1) := dk_42 (dk_at dksX5_play_0 0 rfl rfl)
theorem dX5_play_1 : decode cX5_play 1 = .ok (.iload 5, 2) := dk_21 5 (dk_at dksX5_play_0 1 rfl rfl)
theorem dX5_play_3 : decode cX5_play 3 = .ok (.putfield 368, 3) := dk_181 1 112 (dk_at dksX5_play_0 3 rfl rfl)
theorem dX5_play_6 : decode cX5_play 6 = .ok (.aload_n 0, 1) := dk_42 (dk_at dksX5_play_0 6 rfl rfl)
theorem dX5_play_7 : decode cX5_play 7 = .ok (.iconst 0, 1) := dk_3 (dk_at dksX5_play_0 7 rfl rfl)
theorem dX5_play_8 : decode cX5_play 8 = .ok (.putfield 381, 3) := dk_181 1 125 (dk_at dksX5_play_0 8 rfl rfl)
theorem dX5_play_11 : decode cX5_play 11 = .ok (.aload_n 0, 1) := dk_42 (dk_at dksX5_play_0 11 rfl rfl)
theorem dX5_play_12 : decode cX5_play 12 = .ok (.iconst 0, 1) := dk_3 (dk_at dksX5_play_0 12 rfl rfl)
theorem dX5_play_13 : decode cX5_play 13 = .ok (.putfield 384, 3) := dk_181 1 128 (dk_at dksX5_play_0 13 rfl rfl)
theorem dX5_play_16 : decode cX5_play 16 = .ok (.aload_n 0, 1) := dk_42 (dk_at dksX5_play_0 16 rfl rfl)
theorem dX5_play_17 : decode cX5_play 17 = .ok (.iconst 0, 1) := dk_3 (dk_at dksX5_play_0 17 rfl rfl)
theorem dX5_play_18 : decode cX5_play 18 = .ok (.putfield 399, 3) := dk_181 1 143 (dk_at dksX5_play_0 18 rfl rfl)
theorem dX5_play_21 : decode cX5_play 21 = .ok (.aload_n 0, 1) := dk_42 (dk_at dksX5_play_0 21 rfl rfl)
theorem dX5_play_22 : decode cX5_play 22 = .ok (.iconst 0, 1) := dk_3 (dk_at dksX5_play_0 22 rfl rfl)
theorem dX5_play_23 : decode cX5_play 23 = .ok (.putfield 396, 3) := dk_181 1 140 (dk_at dksX5_play_1 0 rfl rfl)
theorem dX5_play_26 : decode cX5_play 26 = .ok (.aload_n 0, 1) := dk_42 (dk_at dksX5_play_1 3 rfl rfl)
theorem dX5_play_27 : decode cX5_play 27 = .ok (.getfield 85, 3) := dk_180 0 85 (dk_at dksX5_play_1 4 rfl rfl)
theorem dX5_play_30 : decode cX5_play 30 = .ok (.iconst 3, 1) := dk_6 (dk_at dksX5_play_1 7 rfl rfl)
theorem dX5_play_31 : decode cX5_play 31 = .ok (.iload_n 2, 1) := dk_28 (dk_at dksX5_play_1 8 rfl rfl)
theorem dX5_play_32 : decode cX5_play 32 = .ok (.iastore, 1) := dk_79 (dk_at dksX5_play_1 9 rfl rfl)
theorem dX5_play_33 : decode cX5_play 33 = .ok (.aload_n 0, 1) := dk_42 (dk_at dksX5_play_1 10 rfl rfl)
theorem dX5_play_34 : decode cX5_play 34 = .ok (.getfield 85, 3) := dk_180 0 85 (dk_at dksX5_play_1 11 rfl rfl)
theorem dX5_play_37 : decode cX5_play 37 = .ok (.iconst 4, 1) := dk_7 (dk_at dksX5_play_1 14 rfl rfl)
theorem dX5_play_38 : decode cX5_play 38 = .ok (.iload_n 3, 1) := dk_29 (dk_at dksX5_play_1 15 rfl rfl)
theorem dX5_play_39 : decode cX5_play 39 = .ok (.iastore, 1) := dk_79 (dk_at dksX5_play_1 16 rfl rfl)
theorem dX5_play_40 : decode cX5_play 40 = .ok (.aload_n 0, 1) := dk_42 (dk_at dksX5_play_1 17 rfl rfl)
theorem dX5_play_41 : decode cX5_play 41 = .ok (.getfield 85, 3) := dk_180 0 85 (dk_at dksX5_play_1 18 rfl rfl)
theorem dX5_play_44 : decode cX5_play 44 = .ok (.iconst 5, 1) := dk_8 (dk_at dksX5_play_1 21 rfl rfl)
theorem dX5_play_45 : decode cX5_play 45 = .ok (.iload 4, 2) := dk_21 4 (dk_at dksX5_play_1 22 rfl rfl)
theorem dX5_play_47 : decode cX5_play 47 = .ok (.iastore, 1) := dk_79 (dk_at dksX5_play_2 0 rfl rfl)
theorem dX5_play_48 : decode cX5_play 48 = .ok (.aload_n 0, 1) := dk_42 (dk_at dksX5_play_2 1 rfl rfl)
theorem dX5_play_49 : decode cX5_play 49 = .ok (.iload_n 1, 1) := dk_27 (dk_at dksX5_play_2 2 rfl rfl)
theorem dX5_play_50 : decode cX5_play 50 = .ok (.invokevirtual 413, 3) := dk_182 1 157 (dk_at dksX5_play_2 3 rfl rfl)
theorem dX5_play_53 : decode cX5_play 53 = .ok (.aload_n 0, 1) := dk_42 (dk_at dksX5_play_2 6 rfl rfl)
theorem dX5_play_54 : decode cX5_play 54 = .ok (.getfield 381, 3) := dk_180 1 125 (dk_at dksX5_play_2 7 rfl rfl)
theorem dX5_play_57 : decode cX5_play 57 = .ok (.ifCond .le 10, 3) := dk_158 0 10 (dk_at dksX5_play_2 10 rfl rfl)
theorem dX5_play_60 : decode cX5_play 60 = .ok (.aload_n 0, 1) := dk_42 (dk_at dksX5_play_2 13 rfl rfl)
theorem dX5_play_61 : decode cX5_play 61 = .ok (.invokevirtual 423, 3) := dk_182 1 167 (dk_at dksX5_play_2 14 rfl rfl)
theorem dX5_play_64 : decode cX5_play 64 = .ok (.goto (-11), 3) := dk_167 255 245 (dk_at dksX5_play_2 17 rfl rfl)
theorem dX5_play_67 : decode cX5_play 67 = .ok (.aload_n 0, 1) := dk_42 (dk_at dksX5_play_2 20 rfl rfl)
theorem dX5_play_68 : decode cX5_play 68 = .ok (.aload_n 0, 1) := dk_42 (dk_at dksX5_play_2 21 rfl rfl)
theorem dX5_play_69 : decode cX5_play 69 = .ok (.getfield 393, 3) := dk_180 1 137 (dk_at dksX5_play_3 0 rfl rfl)
theorem dX5_play_72 : decode cX5_play 72 = .ok (.putfield 426, 3) := dk_181 1 170 (dk_at dksX5_play_3 3 rfl rfl)
theorem dX5_play_75 : decode cX5_play 75 = .ok (.aload_n 0, 1) := dk_42 (dk_at dksX5_play_3 6 rfl rfl)
theorem dX5_play_76 : decode cX5_play 76 = .ok (.getfield 390, 3) := dk_180 1 134 (dk_at dksX5_play_3 7 rfl rfl)
theorem dX5_play_79 : decode cX5_play 79 = .ok (.ifCond .eq 7, 3) := dk_153 0 7 (dk_at dksX5_play_3 10 rfl rfl)
theorem dX5_play_82 : decode cX5_play 82 = .ok (.iconst 1, 1) := dk_4 (dk_at dksX5_play_3 13 rfl rfl)
theorem dX5_play_83 : decode cX5_play 83 = .ok (.goto 4, 3) := dk_167 0 4 (dk_at dksX5_play_3 14 rfl rfl)
theorem dX5_play_86 : decode cX5_play 86 = .ok (.iconst 0, 1) := dk_3 (dk_at dksX5_play_3 17 rfl rfl)
theorem dX5_play_87 : decode cX5_play 87 = .ok (.ireturn, 1) := dk_172 (dk_at dksX5_play_3 18 rfl rfl)
abbrev cX5_enter : ByteArray := prog_12_method_69_code
def yX5_enter : MethodName := ⟨RX5, "enter", "(I)V"⟩
def dkwX5_enter_3 : List UInt8 := [42, 42, 180, 1, 125, 3, 3, 182, 1, 131, 177]
abbrev dktX5_enter_3 : List UInt8 := dkwX5_enter_3 ++ []
def dkwX5_enter_2 : List UInt8 := [6, 162, 0, 23, 42, 180, 0, 85, 6, 42, 180, 1, 125, 104, 28, 96, 3, 79, 132, 2, 1, 167, 255, 234]
abbrev dktX5_enter_2 : List UInt8 := dkwX5_enter_2 ++ dktX5_enter_3
def dkwX5_enter_1 : List UInt8 := [42, 180, 1, 125, 27, 79, 42, 180, 0, 88, 42, 180, 1, 125, 3, 79, 42, 180, 0, 30, 27, 46, 61, 28]
abbrev dktX5_enter_1 : List UInt8 := dkwX5_enter_1 ++ dktX5_enter_2
def dkwX5_enter_0 : List UInt8 := [42, 89, 180, 1, 125, 4, 96, 181, 1, 125, 42, 89, 180, 1, 128, 4, 96, 181, 1, 128, 42, 180, 0, 82]
abbrev dktX5_enter_0 : List UInt8 := dkwX5_enter_0 ++ dktX5_enter_1
theorem dksX5_enter_0 : cX5_enter.data.toList.drop 0 = dktX5_enter_0 := by decide +kernel
theorem dksX5_enter_1 : cX5_enter.data.toList.drop 24 = dktX5_enter_1 := dk_seg dksX5_enter_0 24 rfl rfl
theorem dksX5_enter_2 : cX5_enter.data.toList.drop 48 = dktX5_enter_2 := dk_seg dksX5_enter_1 24 rfl rfl
theorem dksX5_enter_3 : cX5_enter.data.toList.drop 72 = dktX5_enter_3 := dk_seg dksX5_enter_2 24 rfl rfl
theorem dX5_enter_0 : decode cX5_enter 0 = .ok (.aload_n 0, 1) := dk_42 (dk_at dksX5_enter_0 0 rfl rfl)
theorem dX5_enter_1 : decode cX5_enter 1 = .ok (.dup, 1) := dk_89 (dk_at dksX5_enter_0 1 rfl rfl)
theorem dX5_enter_2 : decode cX5_enter 2 = .ok (.getfield 381, 3) := dk_180 1 125 (dk_at dksX5_enter_0 2 rfl rfl)
theorem dX5_enter_5 : decode cX5_enter 5 = .ok (.iconst 1, 1) := dk_4 (dk_at dksX5_enter_0 5 rfl rfl)
theorem dX5_enter_6 : decode cX5_enter 6 = .ok (.iadd, 1) := dk_96 (dk_at dksX5_enter_0 6 rfl rfl)
theorem dX5_enter_7 : decode cX5_enter 7 = .ok (.putfield 381, 3) := dk_181 1 125 (dk_at dksX5_enter_0 7 rfl rfl)
theorem dX5_enter_10 : decode cX5_enter 10 = .ok (.aload_n 0, 1) := dk_42 (dk_at dksX5_enter_0 10 rfl rfl)
theorem dX5_enter_11 : decode cX5_enter 11 = .ok (.dup, 1) := dk_89 (dk_at dksX5_enter_0 11 rfl rfl)
theorem dX5_enter_12 : decode cX5_enter 12 = .ok (.getfield 384, 3) := dk_180 1 128 (dk_at dksX5_enter_0 12 rfl rfl)
theorem dX5_enter_15 : decode cX5_enter 15 = .ok (.iconst 1, 1) := dk_4 (dk_at dksX5_enter_0 15 rfl rfl)
theorem dX5_enter_16 : decode cX5_enter 16 = .ok (.iadd, 1) := dk_96 (dk_at dksX5_enter_0 16 rfl rfl)
theorem dX5_enter_17 : decode cX5_enter 17 = .ok (.putfield 384, 3) := dk_181 1 128 (dk_at dksX5_enter_0 17 rfl rfl)
theorem dX5_enter_20 : decode cX5_enter 20 = .ok (.aload_n 0, 1) := dk_42 (dk_at dksX5_enter_0 20 rfl rfl)
theorem dX5_enter_21 : decode cX5_enter 21 = .ok (.getfield 82, 3) := dk_180 0 82 (dk_at dksX5_enter_0 21 rfl rfl)
theorem dX5_enter_24 : decode cX5_enter 24 = .ok (.aload_n 0, 1) := dk_42 (dk_at dksX5_enter_1 0 rfl rfl)
theorem dX5_enter_25 : decode cX5_enter 25 = .ok (.getfield 381, 3) := dk_180 1 125 (dk_at dksX5_enter_1 1 rfl rfl)
theorem dX5_enter_28 : decode cX5_enter 28 = .ok (.iload_n 1, 1) := dk_27 (dk_at dksX5_enter_1 4 rfl rfl)
theorem dX5_enter_29 : decode cX5_enter 29 = .ok (.iastore, 1) := dk_79 (dk_at dksX5_enter_1 5 rfl rfl)
theorem dX5_enter_30 : decode cX5_enter 30 = .ok (.aload_n 0, 1) := dk_42 (dk_at dksX5_enter_1 6 rfl rfl)
theorem dX5_enter_31 : decode cX5_enter 31 = .ok (.getfield 88, 3) := dk_180 0 88 (dk_at dksX5_enter_1 7 rfl rfl)
theorem dX5_enter_34 : decode cX5_enter 34 = .ok (.aload_n 0, 1) := dk_42 (dk_at dksX5_enter_1 10 rfl rfl)
theorem dX5_enter_35 : decode cX5_enter 35 = .ok (.getfield 381, 3) := dk_180 1 125 (dk_at dksX5_enter_1 11 rfl rfl)
theorem dX5_enter_38 : decode cX5_enter 38 = .ok (.iconst 0, 1) := dk_3 (dk_at dksX5_enter_1 14 rfl rfl)
theorem dX5_enter_39 : decode cX5_enter 39 = .ok (.iastore, 1) := dk_79 (dk_at dksX5_enter_1 15 rfl rfl)
theorem dX5_enter_40 : decode cX5_enter 40 = .ok (.aload_n 0, 1) := dk_42 (dk_at dksX5_enter_1 16 rfl rfl)
theorem dX5_enter_41 : decode cX5_enter 41 = .ok (.getfield 30, 3) := dk_180 0 30 (dk_at dksX5_enter_1 17 rfl rfl)
theorem dX5_enter_44 : decode cX5_enter 44 = .ok (.iload_n 1, 1) := dk_27 (dk_at dksX5_enter_1 20 rfl rfl)
theorem dX5_enter_45 : decode cX5_enter 45 = .ok (.iaload, 1) := dk_46 (dk_at dksX5_enter_1 21 rfl rfl)
theorem dX5_enter_46 : decode cX5_enter 46 = .ok (.istore_n 2, 1) := dk_61 (dk_at dksX5_enter_1 22 rfl rfl)
theorem dX5_enter_47 : decode cX5_enter 47 = .ok (.iload_n 2, 1) := dk_28 (dk_at dksX5_enter_1 23 rfl rfl)
theorem dX5_enter_48 : decode cX5_enter 48 = .ok (.iconst 3, 1) := dk_6 (dk_at dksX5_enter_2 0 rfl rfl)
theorem dX5_enter_49 : decode cX5_enter 49 = .ok (.if_icmp .ge 23, 3) := dk_162 0 23 (dk_at dksX5_enter_2 1 rfl rfl)
theorem dX5_enter_52 : decode cX5_enter 52 = .ok (.aload_n 0, 1) := dk_42 (dk_at dksX5_enter_2 4 rfl rfl)
theorem dX5_enter_53 : decode cX5_enter 53 = .ok (.getfield 85, 3) := dk_180 0 85 (dk_at dksX5_enter_2 5 rfl rfl)
theorem dX5_enter_56 : decode cX5_enter 56 = .ok (.iconst 3, 1) := dk_6 (dk_at dksX5_enter_2 8 rfl rfl)
theorem dX5_enter_57 : decode cX5_enter 57 = .ok (.aload_n 0, 1) := dk_42 (dk_at dksX5_enter_2 9 rfl rfl)
theorem dX5_enter_58 : decode cX5_enter 58 = .ok (.getfield 381, 3) := dk_180 1 125 (dk_at dksX5_enter_2 10 rfl rfl)
theorem dX5_enter_61 : decode cX5_enter 61 = .ok (.imul, 1) := dk_104 (dk_at dksX5_enter_2 13 rfl rfl)
theorem dX5_enter_62 : decode cX5_enter 62 = .ok (.iload_n 2, 1) := dk_28 (dk_at dksX5_enter_2 14 rfl rfl)
theorem dX5_enter_63 : decode cX5_enter 63 = .ok (.iadd, 1) := dk_96 (dk_at dksX5_enter_2 15 rfl rfl)
theorem dX5_enter_64 : decode cX5_enter 64 = .ok (.iconst 0, 1) := dk_3 (dk_at dksX5_enter_2 16 rfl rfl)
theorem dX5_enter_65 : decode cX5_enter 65 = .ok (.iastore, 1) := dk_79 (dk_at dksX5_enter_2 17 rfl rfl)
theorem dX5_enter_66 : decode cX5_enter 66 = .ok (.iinc 2 1, 3) := dk_132 2 1 (dk_at dksX5_enter_2 18 rfl rfl)
theorem dX5_enter_69 : decode cX5_enter 69 = .ok (.goto (-22), 3) := dk_167 255 234 (dk_at dksX5_enter_2 21 rfl rfl)
theorem dX5_enter_72 : decode cX5_enter 72 = .ok (.aload_n 0, 1) := dk_42 (dk_at dksX5_enter_3 0 rfl rfl)
theorem dX5_enter_73 : decode cX5_enter 73 = .ok (.aload_n 0, 1) := dk_42 (dk_at dksX5_enter_3 1 rfl rfl)
theorem dX5_enter_74 : decode cX5_enter 74 = .ok (.getfield 381, 3) := dk_180 1 125 (dk_at dksX5_enter_3 2 rfl rfl)
theorem dX5_enter_77 : decode cX5_enter 77 = .ok (.iconst 0, 1) := dk_3 (dk_at dksX5_enter_3 5 rfl rfl)
theorem dX5_enter_78 : decode cX5_enter 78 = .ok (.iconst 0, 1) := dk_3 (dk_at dksX5_enter_3 6 rfl rfl)
theorem dX5_enter_79 : decode cX5_enter 79 = .ok (.invokevirtual 387, 3) := dk_182 1 131 (dk_at dksX5_enter_3 7 rfl rfl)
theorem dX5_enter_82 : decode cX5_enter 82 = .ok (.return_, 1) := dk_177 (dk_at dksX5_enter_3 10 rfl rfl)
abbrev cX5_probe : ByteArray := prog_12_method_68_code
def yX5_probe : MethodName := ⟨RX5, "probe", "(III)V"⟩
def dkwX5_probe_9 : List UInt8 := [177]
abbrev dktX5_probe_9 : List UInt8 := dkwX5_probe_9 ++ []
def dkwX5_probe_8 : List UInt8 := [46, 6, 160, 0, 16, 28, 158, 0, 12, 42, 21, 4, 27, 28, 29, 182, 1, 121, 132, 4, 1, 167, 255, 47]
abbrev dktX5_probe_8 : List UInt8 := dkwX5_probe_8 ++ dktX5_probe_9
def dkwX5_probe_7 : List UInt8 := [42, 180, 0, 82, 27, 46, 104, 96, 28, 96, 92, 46, 4, 96, 79, 167, 0, 27, 42, 180, 0, 48, 21, 4]
abbrev dktX5_probe_7 : List UInt8 := dkwX5_probe_7 ++ dktX5_probe_8
def dkwX5_probe_6 : List UInt8 := [167, 0, 66, 42, 180, 0, 48, 21, 4, 46, 5, 160, 0, 31, 42, 180, 0, 73, 16, 48, 21, 4, 104, 6]
abbrev dktX5_probe_6 : List UInt8 := dkwX5_probe_6 ++ dktX5_probe_7
def dkwX5_probe_5 : List UInt8 := [46, 4, 160, 0, 24, 42, 180, 0, 51, 21, 4, 46, 28, 160, 0, 13, 42, 21, 4, 27, 182, 1, 118]
abbrev dktX5_probe_5 : List UInt8 := dkwX5_probe_5 ++ dktX5_probe_6
def dkwX5_probe_4 : List UInt8 := [28, 5, 160, 0, 7, 29, 167, 0, 4, 3, 79, 42, 180, 0, 103, 8, 27, 79, 42, 180, 0, 48, 21, 4]
abbrev dktX5_probe_4 : List UInt8 := dkwX5_probe_4 ++ dktX5_probe_5
def dkwX5_probe_3 : List UInt8 := [167, 255, 229, 42, 180, 0, 103, 6, 28, 4, 160, 0, 7, 29, 167, 0, 4, 3, 79, 42, 180, 0, 103, 7]
abbrev dktX5_probe_3 : List UInt8 := dkwX5_probe_3 ++ dktX5_probe_4
def dkwX5_probe_2 : List UInt8 := [162, 0, 27, 42, 180, 0, 103, 21, 5, 42, 180, 0, 85, 6, 27, 104, 21, 5, 96, 46, 79, 132, 5, 1]
abbrev dktX5_probe_2 : List UInt8 := dkwX5_probe_2 ++ dktX5_probe_3
def dkwX5_probe_1 : List UInt8 := [158, 0, 185, 42, 21, 4, 42, 180, 0, 82, 27, 46, 182, 1, 115, 153, 0, 170, 3, 54, 5, 21, 5, 6]
abbrev dktX5_probe_1 : List UInt8 := dkwX5_probe_1 ++ dktX5_probe_2
def dkwX5_probe_0 : List UInt8 := [3, 54, 4, 21, 4, 16, 8, 162, 0, 208, 42, 180, 1, 112, 154, 0, 201, 42, 180, 0, 48, 21, 4, 46]
abbrev dktX5_probe_0 : List UInt8 := dkwX5_probe_0 ++ dktX5_probe_1
theorem dksX5_probe_0 : cX5_probe.data.toList.drop 0 = dktX5_probe_0 := by decide +kernel
theorem dksX5_probe_1 : cX5_probe.data.toList.drop 24 = dktX5_probe_1 := dk_seg dksX5_probe_0 24 rfl rfl
theorem dksX5_probe_2 : cX5_probe.data.toList.drop 48 = dktX5_probe_2 := dk_seg dksX5_probe_1 24 rfl rfl
theorem dksX5_probe_3 : cX5_probe.data.toList.drop 72 = dktX5_probe_3 := dk_seg dksX5_probe_2 24 rfl rfl
theorem dksX5_probe_4 : cX5_probe.data.toList.drop 96 = dktX5_probe_4 := dk_seg dksX5_probe_3 24 rfl rfl
theorem dksX5_probe_5 : cX5_probe.data.toList.drop 120 = dktX5_probe_5 := dk_seg dksX5_probe_4 24 rfl rfl
theorem dksX5_probe_6 : cX5_probe.data.toList.drop 143 = dktX5_probe_6 := dk_seg dksX5_probe_5 23 rfl rfl
theorem dksX5_probe_7 : cX5_probe.data.toList.drop 167 = dktX5_probe_7 := dk_seg dksX5_probe_6 24 rfl rfl
theorem dksX5_probe_8 : cX5_probe.data.toList.drop 191 = dktX5_probe_8 := dk_seg dksX5_probe_7 24 rfl rfl
theorem dksX5_probe_9 : cX5_probe.data.toList.drop 215 = dktX5_probe_9 := dk_seg dksX5_probe_8 24 rfl rfl
theorem dX5_probe_0 : decode cX5_probe 0 = .ok (.iconst 0, 1) := dk_3 (dk_at dksX5_probe_0 0 rfl rfl)
theorem dX5_probe_1 : decode cX5_probe 1 = .ok (.istore 4, 2) := dk_54 4 (dk_at dksX5_probe_0 1 rfl rfl)
theorem dX5_probe_3 : decode cX5_probe 3 = .ok (.iload 4, 2) := dk_21 4 (dk_at dksX5_probe_0 3 rfl rfl)
theorem dX5_probe_5 : decode cX5_probe 5 = .ok (.bipush 8, 2) := dk_16 8 (dk_at dksX5_probe_0 5 rfl rfl)
theorem dX5_probe_7 : decode cX5_probe 7 = .ok (.if_icmp .ge 208, 3) := dk_162 0 208 (dk_at dksX5_probe_0 7 rfl rfl)
theorem dX5_probe_10 : decode cX5_probe 10 = .ok (.aload_n 0, 1) := dk_42 (dk_at dksX5_probe_0 10 rfl rfl)
theorem dX5_probe_11 : decode cX5_probe 11 = .ok (.getfield 368, 3) := dk_180 1 112 (dk_at dksX5_probe_0 11 rfl rfl)
theorem dX5_probe_14 : decode cX5_probe 14 = .ok (.ifCond .ne 201, 3) := dk_154 0 201 (dk_at dksX5_probe_0 14 rfl rfl)
theorem dX5_probe_17 : decode cX5_probe 17 = .ok (.aload_n 0, 1) := dk_42 (dk_at dksX5_probe_0 17 rfl rfl)
theorem dX5_probe_18 : decode cX5_probe 18 = .ok (.getfield 48, 3) := dk_180 0 48 (dk_at dksX5_probe_0 18 rfl rfl)
theorem dX5_probe_21 : decode cX5_probe 21 = .ok (.iload 4, 2) := dk_21 4 (dk_at dksX5_probe_0 21 rfl rfl)
theorem dX5_probe_23 : decode cX5_probe 23 = .ok (.iaload, 1) := dk_46 (dk_at dksX5_probe_0 23 rfl rfl)
theorem dX5_probe_24 : decode cX5_probe 24 = .ok (.ifCond .le 185, 3) := dk_158 0 185 (dk_at dksX5_probe_1 0 rfl rfl)
theorem dX5_probe_27 : decode cX5_probe 27 = .ok (.aload_n 0, 1) := dk_42 (dk_at dksX5_probe_1 3 rfl rfl)
theorem dX5_probe_28 : decode cX5_probe 28 = .ok (.iload 4, 2) := dk_21 4 (dk_at dksX5_probe_1 4 rfl rfl)
theorem dX5_probe_30 : decode cX5_probe 30 = .ok (.aload_n 0, 1) := dk_42 (dk_at dksX5_probe_1 6 rfl rfl)
theorem dX5_probe_31 : decode cX5_probe 31 = .ok (.getfield 82, 3) := dk_180 0 82 (dk_at dksX5_probe_1 7 rfl rfl)
theorem dX5_probe_34 : decode cX5_probe 34 = .ok (.iload_n 1, 1) := dk_27 (dk_at dksX5_probe_1 10 rfl rfl)
theorem dX5_probe_35 : decode cX5_probe 35 = .ok (.iaload, 1) := dk_46 (dk_at dksX5_probe_1 11 rfl rfl)
theorem dX5_probe_36 : decode cX5_probe 36 = .ok (.invokevirtual 371, 3) := dk_182 1 115 (dk_at dksX5_probe_1 12 rfl rfl)
theorem dX5_probe_39 : decode cX5_probe 39 = .ok (.ifCond .eq 170, 3) := dk_153 0 170 (dk_at dksX5_probe_1 15 rfl rfl)
theorem dX5_probe_42 : decode cX5_probe 42 = .ok (.iconst 0, 1) := dk_3 (dk_at dksX5_probe_1 18 rfl rfl)
theorem dX5_probe_43 : decode cX5_probe 43 = .ok (.istore 5, 2) := dk_54 5 (dk_at dksX5_probe_1 19 rfl rfl)
theorem dX5_probe_45 : decode cX5_probe 45 = .ok (.iload 5, 2) := dk_21 5 (dk_at dksX5_probe_1 21 rfl rfl)
theorem dX5_probe_47 : decode cX5_probe 47 = .ok (.iconst 3, 1) := dk_6 (dk_at dksX5_probe_1 23 rfl rfl)
theorem dX5_probe_48 : decode cX5_probe 48 = .ok (.if_icmp .ge 27, 3) := dk_162 0 27 (dk_at dksX5_probe_2 0 rfl rfl)
theorem dX5_probe_51 : decode cX5_probe 51 = .ok (.aload_n 0, 1) := dk_42 (dk_at dksX5_probe_2 3 rfl rfl)
theorem dX5_probe_52 : decode cX5_probe 52 = .ok (.getfield 103, 3) := dk_180 0 103 (dk_at dksX5_probe_2 4 rfl rfl)
theorem dX5_probe_55 : decode cX5_probe 55 = .ok (.iload 5, 2) := dk_21 5 (dk_at dksX5_probe_2 7 rfl rfl)
theorem dX5_probe_57 : decode cX5_probe 57 = .ok (.aload_n 0, 1) := dk_42 (dk_at dksX5_probe_2 9 rfl rfl)
theorem dX5_probe_58 : decode cX5_probe 58 = .ok (.getfield 85, 3) := dk_180 0 85 (dk_at dksX5_probe_2 10 rfl rfl)
theorem dX5_probe_61 : decode cX5_probe 61 = .ok (.iconst 3, 1) := dk_6 (dk_at dksX5_probe_2 13 rfl rfl)
theorem dX5_probe_62 : decode cX5_probe 62 = .ok (.iload_n 1, 1) := dk_27 (dk_at dksX5_probe_2 14 rfl rfl)
theorem dX5_probe_63 : decode cX5_probe 63 = .ok (.imul, 1) := dk_104 (dk_at dksX5_probe_2 15 rfl rfl)
theorem dX5_probe_64 : decode cX5_probe 64 = .ok (.iload 5, 2) := dk_21 5 (dk_at dksX5_probe_2 16 rfl rfl)
theorem dX5_probe_66 : decode cX5_probe 66 = .ok (.iadd, 1) := dk_96 (dk_at dksX5_probe_2 18 rfl rfl)
theorem dX5_probe_67 : decode cX5_probe 67 = .ok (.iaload, 1) := dk_46 (dk_at dksX5_probe_2 19 rfl rfl)
theorem dX5_probe_68 : decode cX5_probe 68 = .ok (.iastore, 1) := dk_79 (dk_at dksX5_probe_2 20 rfl rfl)
theorem dX5_probe_69 : decode cX5_probe 69 = .ok (.iinc 5 1, 3) := dk_132 5 1 (dk_at dksX5_probe_2 21 rfl rfl)
theorem dX5_probe_72 : decode cX5_probe 72 = .ok (.goto (-27), 3) := dk_167 255 229 (dk_at dksX5_probe_3 0 rfl rfl)
theorem dX5_probe_75 : decode cX5_probe 75 = .ok (.aload_n 0, 1) := dk_42 (dk_at dksX5_probe_3 3 rfl rfl)
theorem dX5_probe_76 : decode cX5_probe 76 = .ok (.getfield 103, 3) := dk_180 0 103 (dk_at dksX5_probe_3 4 rfl rfl)
theorem dX5_probe_79 : decode cX5_probe 79 = .ok (.iconst 3, 1) := dk_6 (dk_at dksX5_probe_3 7 rfl rfl)
theorem dX5_probe_80 : decode cX5_probe 80 = .ok (.iload_n 2, 1) := dk_28 (dk_at dksX5_probe_3 8 rfl rfl)
theorem dX5_probe_81 : decode cX5_probe 81 = .ok (.iconst 1, 1) := dk_4 (dk_at dksX5_probe_3 9 rfl rfl)
theorem dX5_probe_82 : decode cX5_probe 82 = .ok (.if_icmp .ne 7, 3) := dk_160 0 7 (dk_at dksX5_probe_3 10 rfl rfl)
theorem dX5_probe_85 : decode cX5_probe 85 = .ok (.iload_n 3, 1) := dk_29 (dk_at dksX5_probe_3 13 rfl rfl)
theorem dX5_probe_86 : decode cX5_probe 86 = .ok (.goto 4, 3) := dk_167 0 4 (dk_at dksX5_probe_3 14 rfl rfl)
theorem dX5_probe_89 : decode cX5_probe 89 = .ok (.iconst 0, 1) := dk_3 (dk_at dksX5_probe_3 17 rfl rfl)
theorem dX5_probe_90 : decode cX5_probe 90 = .ok (.iastore, 1) := dk_79 (dk_at dksX5_probe_3 18 rfl rfl)
theorem dX5_probe_91 : decode cX5_probe 91 = .ok (.aload_n 0, 1) := dk_42 (dk_at dksX5_probe_3 19 rfl rfl)
theorem dX5_probe_92 : decode cX5_probe 92 = .ok (.getfield 103, 3) := dk_180 0 103 (dk_at dksX5_probe_3 20 rfl rfl)
theorem dX5_probe_95 : decode cX5_probe 95 = .ok (.iconst 4, 1) := dk_7 (dk_at dksX5_probe_3 23 rfl rfl)
theorem dX5_probe_96 : decode cX5_probe 96 = .ok (.iload_n 2, 1) := dk_28 (dk_at dksX5_probe_4 0 rfl rfl)
theorem dX5_probe_97 : decode cX5_probe 97 = .ok (.iconst 2, 1) := dk_5 (dk_at dksX5_probe_4 1 rfl rfl)
theorem dX5_probe_98 : decode cX5_probe 98 = .ok (.if_icmp .ne 7, 3) := dk_160 0 7 (dk_at dksX5_probe_4 2 rfl rfl)
theorem dX5_probe_101 : decode cX5_probe 101 = .ok (.iload_n 3, 1) := dk_29 (dk_at dksX5_probe_4 5 rfl rfl)
theorem dX5_probe_102 : decode cX5_probe 102 = .ok (.goto 4, 3) := dk_167 0 4 (dk_at dksX5_probe_4 6 rfl rfl)
theorem dX5_probe_105 : decode cX5_probe 105 = .ok (.iconst 0, 1) := dk_3 (dk_at dksX5_probe_4 9 rfl rfl)
theorem dX5_probe_106 : decode cX5_probe 106 = .ok (.iastore, 1) := dk_79 (dk_at dksX5_probe_4 10 rfl rfl)
theorem dX5_probe_107 : decode cX5_probe 107 = .ok (.aload_n 0, 1) := dk_42 (dk_at dksX5_probe_4 11 rfl rfl)
theorem dX5_probe_108 : decode cX5_probe 108 = .ok (.getfield 103, 3) := dk_180 0 103 (dk_at dksX5_probe_4 12 rfl rfl)
theorem dX5_probe_111 : decode cX5_probe 111 = .ok (.iconst 5, 1) := dk_8 (dk_at dksX5_probe_4 15 rfl rfl)
theorem dX5_probe_112 : decode cX5_probe 112 = .ok (.iload_n 1, 1) := dk_27 (dk_at dksX5_probe_4 16 rfl rfl)
theorem dX5_probe_113 : decode cX5_probe 113 = .ok (.iastore, 1) := dk_79 (dk_at dksX5_probe_4 17 rfl rfl)
theorem dX5_probe_114 : decode cX5_probe 114 = .ok (.aload_n 0, 1) := dk_42 (dk_at dksX5_probe_4 18 rfl rfl)
theorem dX5_probe_115 : decode cX5_probe 115 = .ok (.getfield 48, 3) := dk_180 0 48 (dk_at dksX5_probe_4 19 rfl rfl)
theorem dX5_probe_118 : decode cX5_probe 118 = .ok (.iload 4, 2) := dk_21 4 (dk_at dksX5_probe_4 22 rfl rfl)
theorem dX5_probe_120 : decode cX5_probe 120 = .ok (.iaload, 1) := dk_46 (dk_at dksX5_probe_5 0 rfl rfl)
theorem dX5_probe_121 : decode cX5_probe 121 = .ok (.iconst 1, 1) := dk_4 (dk_at dksX5_probe_5 1 rfl rfl)
theorem dX5_probe_122 : decode cX5_probe 122 = .ok (.if_icmp .ne 24, 3) := dk_160 0 24 (dk_at dksX5_probe_5 2 rfl rfl)
theorem dX5_probe_125 : decode cX5_probe 125 = .ok (.aload_n 0, 1) := dk_42 (dk_at dksX5_probe_5 5 rfl rfl)
theorem dX5_probe_126 : decode cX5_probe 126 = .ok (.getfield 51, 3) := dk_180 0 51 (dk_at dksX5_probe_5 6 rfl rfl)
theorem dX5_probe_129 : decode cX5_probe 129 = .ok (.iload 4, 2) := dk_21 4 (dk_at dksX5_probe_5 9 rfl rfl)
theorem dX5_probe_131 : decode cX5_probe 131 = .ok (.iaload, 1) := dk_46 (dk_at dksX5_probe_5 11 rfl rfl)
theorem dX5_probe_132 : decode cX5_probe 132 = .ok (.iload_n 2, 1) := dk_28 (dk_at dksX5_probe_5 12 rfl rfl)
theorem dX5_probe_133 : decode cX5_probe 133 = .ok (.if_icmp .ne 13, 3) := dk_160 0 13 (dk_at dksX5_probe_5 13 rfl rfl)
theorem dX5_probe_136 : decode cX5_probe 136 = .ok (.aload_n 0, 1) := dk_42 (dk_at dksX5_probe_5 16 rfl rfl)
theorem dX5_probe_137 : decode cX5_probe 137 = .ok (.iload 4, 2) := dk_21 4 (dk_at dksX5_probe_5 17 rfl rfl)
theorem dX5_probe_139 : decode cX5_probe 139 = .ok (.iload_n 1, 1) := dk_27 (dk_at dksX5_probe_5 19 rfl rfl)
theorem dX5_probe_140 : decode cX5_probe 140 = .ok (.invokevirtual 374, 3) := dk_182 1 118 (dk_at dksX5_probe_5 20 rfl rfl)
theorem dX5_probe_143 : decode cX5_probe 143 = .ok (.goto 66, 3) := dk_167 0 66 (dk_at dksX5_probe_6 0 rfl rfl)
theorem dX5_probe_146 : decode cX5_probe 146 = .ok (.aload_n 0, 1) := dk_42 (dk_at dksX5_probe_6 3 rfl rfl)
theorem dX5_probe_147 : decode cX5_probe 147 = .ok (.getfield 48, 3) := dk_180 0 48 (dk_at dksX5_probe_6 4 rfl rfl)
theorem dX5_probe_150 : decode cX5_probe 150 = .ok (.iload 4, 2) := dk_21 4 (dk_at dksX5_probe_6 7 rfl rfl)
theorem dX5_probe_152 : decode cX5_probe 152 = .ok (.iaload, 1) := dk_46 (dk_at dksX5_probe_6 9 rfl rfl)
theorem dX5_probe_153 : decode cX5_probe 153 = .ok (.iconst 2, 1) := dk_5 (dk_at dksX5_probe_6 10 rfl rfl)
theorem dX5_probe_154 : decode cX5_probe 154 = .ok (.if_icmp .ne 31, 3) := dk_160 0 31 (dk_at dksX5_probe_6 11 rfl rfl)
theorem dX5_probe_157 : decode cX5_probe 157 = .ok (.aload_n 0, 1) := dk_42 (dk_at dksX5_probe_6 14 rfl rfl)
theorem dX5_probe_158 : decode cX5_probe 158 = .ok (.getfield 73, 3) := dk_180 0 73 (dk_at dksX5_probe_6 15 rfl rfl)
theorem dX5_probe_161 : decode cX5_probe 161 = .ok (.bipush 48, 2) := dk_16 48 (dk_at dksX5_probe_6 18 rfl rfl)
theorem dX5_probe_163 : decode cX5_probe 163 = .ok (.iload 4, 2) := dk_21 4 (dk_at dksX5_probe_6 20 rfl rfl)
theorem dX5_probe_165 : decode cX5_probe 165 = .ok (.imul, 1) := dk_104 (dk_at dksX5_probe_6 22 rfl rfl)
theorem dX5_probe_166 : decode cX5_probe 166 = .ok (.iconst 3, 1) := dk_6 (dk_at dksX5_probe_6 23 rfl rfl)
theorem dX5_probe_167 : decode cX5_probe 167 = .ok (.aload_n 0, 1) := dk_42 (dk_at dksX5_probe_7 0 rfl rfl)
theorem dX5_probe_168 : decode cX5_probe 168 = .ok (.getfield 82, 3) := dk_180 0 82 (dk_at dksX5_probe_7 1 rfl rfl)
theorem dX5_probe_171 : decode cX5_probe 171 = .ok (.iload_n 1, 1) := dk_27 (dk_at dksX5_probe_7 4 rfl rfl)
theorem dX5_probe_172 : decode cX5_probe 172 = .ok (.iaload, 1) := dk_46 (dk_at dksX5_probe_7 5 rfl rfl)
theorem dX5_probe_173 : decode cX5_probe 173 = .ok (.imul, 1) := dk_104 (dk_at dksX5_probe_7 6 rfl rfl)
theorem dX5_probe_174 : decode cX5_probe 174 = .ok (.iadd, 1) := dk_96 (dk_at dksX5_probe_7 7 rfl rfl)
theorem dX5_probe_175 : decode cX5_probe 175 = .ok (.iload_n 2, 1) := dk_28 (dk_at dksX5_probe_7 8 rfl rfl)
theorem dX5_probe_176 : decode cX5_probe 176 = .ok (.iadd, 1) := dk_96 (dk_at dksX5_probe_7 9 rfl rfl)
theorem dX5_probe_177 : decode cX5_probe 177 = .ok (.dup2, 1) := dk_92 (dk_at dksX5_probe_7 10 rfl rfl)
theorem dX5_probe_178 : decode cX5_probe 178 = .ok (.iaload, 1) := dk_46 (dk_at dksX5_probe_7 11 rfl rfl)
theorem dX5_probe_179 : decode cX5_probe 179 = .ok (.iconst 1, 1) := dk_4 (dk_at dksX5_probe_7 12 rfl rfl)
theorem dX5_probe_180 : decode cX5_probe 180 = .ok (.iadd, 1) := dk_96 (dk_at dksX5_probe_7 13 rfl rfl)
theorem dX5_probe_181 : decode cX5_probe 181 = .ok (.iastore, 1) := dk_79 (dk_at dksX5_probe_7 14 rfl rfl)
theorem dX5_probe_182 : decode cX5_probe 182 = .ok (.goto 27, 3) := dk_167 0 27 (dk_at dksX5_probe_7 15 rfl rfl)
theorem dX5_probe_185 : decode cX5_probe 185 = .ok (.aload_n 0, 1) := dk_42 (dk_at dksX5_probe_7 18 rfl rfl)
theorem dX5_probe_186 : decode cX5_probe 186 = .ok (.getfield 48, 3) := dk_180 0 48 (dk_at dksX5_probe_7 19 rfl rfl)
theorem dX5_probe_189 : decode cX5_probe 189 = .ok (.iload 4, 2) := dk_21 4 (dk_at dksX5_probe_7 22 rfl rfl)
theorem dX5_probe_191 : decode cX5_probe 191 = .ok (.iaload, 1) := dk_46 (dk_at dksX5_probe_8 0 rfl rfl)
theorem dX5_probe_192 : decode cX5_probe 192 = .ok (.iconst 3, 1) := dk_6 (dk_at dksX5_probe_8 1 rfl rfl)
theorem dX5_probe_193 : decode cX5_probe 193 = .ok (.if_icmp .ne 16, 3) := dk_160 0 16 (dk_at dksX5_probe_8 2 rfl rfl)
theorem dX5_probe_196 : decode cX5_probe 196 = .ok (.iload_n 2, 1) := dk_28 (dk_at dksX5_probe_8 5 rfl rfl)
theorem dX5_probe_197 : decode cX5_probe 197 = .ok (.ifCond .le 12, 3) := dk_158 0 12 (dk_at dksX5_probe_8 6 rfl rfl)
theorem dX5_probe_200 : decode cX5_probe 200 = .ok (.aload_n 0, 1) := dk_42 (dk_at dksX5_probe_8 9 rfl rfl)
theorem dX5_probe_201 : decode cX5_probe 201 = .ok (.iload 4, 2) := dk_21 4 (dk_at dksX5_probe_8 10 rfl rfl)
theorem dX5_probe_203 : decode cX5_probe 203 = .ok (.iload_n 1, 1) := dk_27 (dk_at dksX5_probe_8 12 rfl rfl)
theorem dX5_probe_204 : decode cX5_probe 204 = .ok (.iload_n 2, 1) := dk_28 (dk_at dksX5_probe_8 13 rfl rfl)
theorem dX5_probe_205 : decode cX5_probe 205 = .ok (.iload_n 3, 1) := dk_29 (dk_at dksX5_probe_8 14 rfl rfl)
theorem dX5_probe_206 : decode cX5_probe 206 = .ok (.invokevirtual 377, 3) := dk_182 1 121 (dk_at dksX5_probe_8 15 rfl rfl)
theorem dX5_probe_209 : decode cX5_probe 209 = .ok (.iinc 4 1, 3) := dk_132 4 1 (dk_at dksX5_probe_8 18 rfl rfl)
theorem dX5_probe_212 : decode cX5_probe 212 = .ok (.goto (-209), 3) := dk_167 255 47 (dk_at dksX5_probe_8 21 rfl rfl)
theorem dX5_probe_215 : decode cX5_probe 215 = .ok (.return_, 1) := dk_177 (dk_at dksX5_probe_9 0 rfl rfl)
abbrev cX5_fits : ByteArray := prog_12_method_60_code
def yX5_fits : MethodName := ⟨RX5, "fits", "(II)Z"⟩
def dkwX5_fits_6 : List UInt8 := [167, 255, 143, 21, 5, 21, 4, 122, 4, 126, 4, 160, 0, 7, 4, 167, 0, 4, 3, 172]
abbrev dktX5_fits_6 : List UInt8 := dkwX5_fits_6 ++ []
def dkwX5_fits_5 : List UInt8 := [21, 7, 54, 7, 132, 8, 1, 167, 255, 170, 42, 27, 21, 7, 182, 1, 81, 54, 5, 132, 6, 1]
abbrev dktX5_fits_5 : List UInt8 := dkwX5_fits_5 ++ dktX5_fits_6
def dkwX5_fits_4 : List UInt8 := [21, 9, 42, 28, 21, 6, 29, 182, 1, 84, 160, 0, 13, 21, 7, 5, 21, 8, 120, 128, 167, 0, 5]
abbrev dktX5_fits_4 : List UInt8 := dkwX5_fits_4 ++ dktX5_fits_5
def dkwX5_fits_3 : List UInt8 := [21, 9, 16, 42, 160, 0, 13, 21, 7, 4, 21, 8, 120, 128, 167, 0, 35, 21, 9, 16, 63, 159, 0, 16]
abbrev dktX5_fits_3 : List UInt8 := dkwX5_fits_3 ++ dktX5_fits_4
def dkwX5_fits_2 : List UInt8 := [21, 8, 122, 4, 126, 4, 160, 0, 68, 42, 180, 0, 64, 16, 12, 27, 104, 21, 8, 96, 46, 54, 9]
abbrev dktX5_fits_2 : List UInt8 := dkwX5_fits_2 ++ dktX5_fits_3
def dkwX5_fits_1 : List UInt8 := [54, 6, 21, 6, 29, 162, 0, 113, 3, 54, 7, 3, 54, 8, 21, 8, 21, 4, 162, 0, 85, 21, 5]
abbrev dktX5_fits_1 : List UInt8 := dkwX5_fits_1 ++ dktX5_fits_2
def dkwX5_fits_0 : List UInt8 := [42, 28, 182, 1, 78, 62, 42, 180, 0, 67, 27, 46, 54, 4, 42, 27, 4, 182, 1, 81, 54, 5, 3]
abbrev dktX5_fits_0 : List UInt8 := dkwX5_fits_0 ++ dktX5_fits_1
theorem dksX5_fits_0 : cX5_fits.data.toList.drop 0 = dktX5_fits_0 := by decide +kernel
theorem dksX5_fits_1 : cX5_fits.data.toList.drop 23 = dktX5_fits_1 := dk_seg dksX5_fits_0 23 rfl rfl
theorem dksX5_fits_2 : cX5_fits.data.toList.drop 46 = dktX5_fits_2 := dk_seg dksX5_fits_1 23 rfl rfl
theorem dksX5_fits_3 : cX5_fits.data.toList.drop 69 = dktX5_fits_3 := dk_seg dksX5_fits_2 23 rfl rfl
theorem dksX5_fits_4 : cX5_fits.data.toList.drop 93 = dktX5_fits_4 := dk_seg dksX5_fits_3 24 rfl rfl
theorem dksX5_fits_5 : cX5_fits.data.toList.drop 116 = dktX5_fits_5 := dk_seg dksX5_fits_4 23 rfl rfl
theorem dksX5_fits_6 : cX5_fits.data.toList.drop 138 = dktX5_fits_6 := dk_seg dksX5_fits_5 22 rfl rfl
theorem dX5_fits_0 : decode cX5_fits 0 = .ok (.aload_n 0, 1) := dk_42 (dk_at dksX5_fits_0 0 rfl rfl)
theorem dX5_fits_1 : decode cX5_fits 1 = .ok (.iload_n 2, 1) := dk_28 (dk_at dksX5_fits_0 1 rfl rfl)
theorem dX5_fits_2 : decode cX5_fits 2 = .ok (.invokevirtual 334, 3) := dk_182 1 78 (dk_at dksX5_fits_0 2 rfl rfl)
theorem dX5_fits_5 : decode cX5_fits 5 = .ok (.istore_n 3, 1) := dk_62 (dk_at dksX5_fits_0 5 rfl rfl)
theorem dX5_fits_6 : decode cX5_fits 6 = .ok (.aload_n 0, 1) := dk_42 (dk_at dksX5_fits_0 6 rfl rfl)
theorem dX5_fits_7 : decode cX5_fits 7 = .ok (.getfield 67, 3) := dk_180 0 67 (dk_at dksX5_fits_0 7 rfl rfl)
theorem dX5_fits_10 : decode cX5_fits 10 = .ok (.iload_n 1, 1) := dk_27 (dk_at dksX5_fits_0 10 rfl rfl)
theorem dX5_fits_11 : decode cX5_fits 11 = .ok (.iaload, 1) := dk_46 (dk_at dksX5_fits_0 11 rfl rfl)
theorem dX5_fits_12 : decode cX5_fits 12 = .ok (.istore 4, 2) := dk_54 4 (dk_at dksX5_fits_0 12 rfl rfl)
theorem dX5_fits_14 : decode cX5_fits 14 = .ok (.aload_n 0, 1) := dk_42 (dk_at dksX5_fits_0 14 rfl rfl)
theorem dX5_fits_15 : decode cX5_fits 15 = .ok (.iload_n 1, 1) := dk_27 (dk_at dksX5_fits_0 15 rfl rfl)
theorem dX5_fits_16 : decode cX5_fits 16 = .ok (.iconst 1, 1) := dk_4 (dk_at dksX5_fits_0 16 rfl rfl)
theorem dX5_fits_17 : decode cX5_fits 17 = .ok (.invokevirtual 337, 3) := dk_182 1 81 (dk_at dksX5_fits_0 17 rfl rfl)
theorem dX5_fits_20 : decode cX5_fits 20 = .ok (.istore 5, 2) := dk_54 5 (dk_at dksX5_fits_0 20 rfl rfl)
theorem dX5_fits_22 : decode cX5_fits 22 = .ok (.iconst 0, 1) := dk_3 (dk_at dksX5_fits_0 22 rfl rfl)
theorem dX5_fits_23 : decode cX5_fits 23 = .ok (.istore 6, 2) := dk_54 6 (dk_at dksX5_fits_1 0 rfl rfl)
theorem dX5_fits_25 : decode cX5_fits 25 = .ok (.iload 6, 2) := dk_21 6 (dk_at dksX5_fits_1 2 rfl rfl)
theorem dX5_fits_27 : decode cX5_fits 27 = .ok (.iload_n 3, 1) := dk_29 (dk_at dksX5_fits_1 4 rfl rfl)
theorem dX5_fits_28 : decode cX5_fits 28 = .ok (.if_icmp .ge 113, 3) := dk_162 0 113 (dk_at dksX5_fits_1 5 rfl rfl)
theorem dX5_fits_31 : decode cX5_fits 31 = .ok (.iconst 0, 1) := dk_3 (dk_at dksX5_fits_1 8 rfl rfl)
theorem dX5_fits_32 : decode cX5_fits 32 = .ok (.istore 7, 2) := dk_54 7 (dk_at dksX5_fits_1 9 rfl rfl)
theorem dX5_fits_34 : decode cX5_fits 34 = .ok (.iconst 0, 1) := dk_3 (dk_at dksX5_fits_1 11 rfl rfl)
theorem dX5_fits_35 : decode cX5_fits 35 = .ok (.istore 8, 2) := dk_54 8 (dk_at dksX5_fits_1 12 rfl rfl)
theorem dX5_fits_37 : decode cX5_fits 37 = .ok (.iload 8, 2) := dk_21 8 (dk_at dksX5_fits_1 14 rfl rfl)
theorem dX5_fits_39 : decode cX5_fits 39 = .ok (.iload 4, 2) := dk_21 4 (dk_at dksX5_fits_1 16 rfl rfl)
theorem dX5_fits_41 : decode cX5_fits 41 = .ok (.if_icmp .ge 85, 3) := dk_162 0 85 (dk_at dksX5_fits_1 18 rfl rfl)
theorem dX5_fits_44 : decode cX5_fits 44 = .ok (.iload 5, 2) := dk_21 5 (dk_at dksX5_fits_1 21 rfl rfl)
theorem dX5_fits_46 : decode cX5_fits 46 = .ok (.iload 8, 2) := dk_21 8 (dk_at dksX5_fits_2 0 rfl rfl)
theorem dX5_fits_48 : decode cX5_fits 48 = .ok (.ishr, 1) := dk_122 (dk_at dksX5_fits_2 2 rfl rfl)
theorem dX5_fits_49 : decode cX5_fits 49 = .ok (.iconst 1, 1) := dk_4 (dk_at dksX5_fits_2 3 rfl rfl)
theorem dX5_fits_50 : decode cX5_fits 50 = .ok (.iand, 1) := dk_126 (dk_at dksX5_fits_2 4 rfl rfl)
theorem dX5_fits_51 : decode cX5_fits 51 = .ok (.iconst 1, 1) := dk_4 (dk_at dksX5_fits_2 5 rfl rfl)
theorem dX5_fits_52 : decode cX5_fits 52 = .ok (.if_icmp .ne 68, 3) := dk_160 0 68 (dk_at dksX5_fits_2 6 rfl rfl)
theorem dX5_fits_55 : decode cX5_fits 55 = .ok (.aload_n 0, 1) := dk_42 (dk_at dksX5_fits_2 9 rfl rfl)
theorem dX5_fits_56 : decode cX5_fits 56 = .ok (.getfield 64, 3) := dk_180 0 64 (dk_at dksX5_fits_2 10 rfl rfl)
theorem dX5_fits_59 : decode cX5_fits 59 = .ok (.bipush 12, 2) := dk_16 12 (dk_at dksX5_fits_2 13 rfl rfl)
theorem dX5_fits_61 : decode cX5_fits 61 = .ok (.iload_n 1, 1) := dk_27 (dk_at dksX5_fits_2 15 rfl rfl)
theorem dX5_fits_62 : decode cX5_fits 62 = .ok (.imul, 1) := dk_104 (dk_at dksX5_fits_2 16 rfl rfl)
theorem dX5_fits_63 : decode cX5_fits 63 = .ok (.iload 8, 2) := dk_21 8 (dk_at dksX5_fits_2 17 rfl rfl)
theorem dX5_fits_65 : decode cX5_fits 65 = .ok (.iadd, 1) := dk_96 (dk_at dksX5_fits_2 19 rfl rfl)
theorem dX5_fits_66 : decode cX5_fits 66 = .ok (.iaload, 1) := dk_46 (dk_at dksX5_fits_2 20 rfl rfl)
theorem dX5_fits_67 : decode cX5_fits 67 = .ok (.istore 9, 2) := dk_54 9 (dk_at dksX5_fits_2 21 rfl rfl)
theorem dX5_fits_69 : decode cX5_fits 69 = .ok (.iload 9, 2) := dk_21 9 (dk_at dksX5_fits_3 0 rfl rfl)
theorem dX5_fits_71 : decode cX5_fits 71 = .ok (.bipush 42, 2) := dk_16 42 (dk_at dksX5_fits_3 2 rfl rfl)
theorem dX5_fits_73 : decode cX5_fits 73 = .ok (.if_icmp .ne 13, 3) := dk_160 0 13 (dk_at dksX5_fits_3 4 rfl rfl)
theorem dX5_fits_76 : decode cX5_fits 76 = .ok (.iload 7, 2) := dk_21 7 (dk_at dksX5_fits_3 7 rfl rfl)
theorem dX5_fits_78 : decode cX5_fits 78 = .ok (.iconst 1, 1) := dk_4 (dk_at dksX5_fits_3 9 rfl rfl)
theorem dX5_fits_79 : decode cX5_fits 79 = .ok (.iload 8, 2) := dk_21 8 (dk_at dksX5_fits_3 10 rfl rfl)
theorem dX5_fits_81 : decode cX5_fits 81 = .ok (.ishl, 1) := dk_120 (dk_at dksX5_fits_3 12 rfl rfl)
theorem dX5_fits_82 : decode cX5_fits 82 = .ok (.ior, 1) := dk_128 (dk_at dksX5_fits_3 13 rfl rfl)
theorem dX5_fits_83 : decode cX5_fits 83 = .ok (.goto 35, 3) := dk_167 0 35 (dk_at dksX5_fits_3 14 rfl rfl)
theorem dX5_fits_86 : decode cX5_fits 86 = .ok (.iload 9, 2) := dk_21 9 (dk_at dksX5_fits_3 17 rfl rfl)
theorem dX5_fits_88 : decode cX5_fits 88 = .ok (.bipush 63, 2) := dk_16 63 (dk_at dksX5_fits_3 19 rfl rfl)
theorem dX5_fits_90 : decode cX5_fits 90 = .ok (.if_icmp .eq 16, 3) := dk_159 0 16 (dk_at dksX5_fits_3 21 rfl rfl)
theorem dX5_fits_93 : decode cX5_fits 93 = .ok (.iload 9, 2) := dk_21 9 (dk_at dksX5_fits_4 0 rfl rfl)
theorem dX5_fits_95 : decode cX5_fits 95 = .ok (.aload_n 0, 1) := dk_42 (dk_at dksX5_fits_4 2 rfl rfl)
theorem dX5_fits_96 : decode cX5_fits 96 = .ok (.iload_n 2, 1) := dk_28 (dk_at dksX5_fits_4 3 rfl rfl)
theorem dX5_fits_97 : decode cX5_fits 97 = .ok (.iload 6, 2) := dk_21 6 (dk_at dksX5_fits_4 4 rfl rfl)
theorem dX5_fits_99 : decode cX5_fits 99 = .ok (.iload_n 3, 1) := dk_29 (dk_at dksX5_fits_4 6 rfl rfl)
theorem dX5_fits_100 : decode cX5_fits 100 = .ok (.invokevirtual 340, 3) := dk_182 1 84 (dk_at dksX5_fits_4 7 rfl rfl)
theorem dX5_fits_103 : decode cX5_fits 103 = .ok (.if_icmp .ne 13, 3) := dk_160 0 13 (dk_at dksX5_fits_4 10 rfl rfl)
theorem dX5_fits_106 : decode cX5_fits 106 = .ok (.iload 7, 2) := dk_21 7 (dk_at dksX5_fits_4 13 rfl rfl)
theorem dX5_fits_108 : decode cX5_fits 108 = .ok (.iconst 2, 1) := dk_5 (dk_at dksX5_fits_4 15 rfl rfl)
theorem dX5_fits_109 : decode cX5_fits 109 = .ok (.iload 8, 2) := dk_21 8 (dk_at dksX5_fits_4 16 rfl rfl)
theorem dX5_fits_111 : decode cX5_fits 111 = .ok (.ishl, 1) := dk_120 (dk_at dksX5_fits_4 18 rfl rfl)
theorem dX5_fits_112 : decode cX5_fits 112 = .ok (.ior, 1) := dk_128 (dk_at dksX5_fits_4 19 rfl rfl)
theorem dX5_fits_113 : decode cX5_fits 113 = .ok (.goto 5, 3) := dk_167 0 5 (dk_at dksX5_fits_4 20 rfl rfl)
theorem dX5_fits_116 : decode cX5_fits 116 = .ok (.iload 7, 2) := dk_21 7 (dk_at dksX5_fits_5 0 rfl rfl)
theorem dX5_fits_118 : decode cX5_fits 118 = .ok (.istore 7, 2) := dk_54 7 (dk_at dksX5_fits_5 2 rfl rfl)
theorem dX5_fits_120 : decode cX5_fits 120 = .ok (.iinc 8 1, 3) := dk_132 8 1 (dk_at dksX5_fits_5 4 rfl rfl)
theorem dX5_fits_123 : decode cX5_fits 123 = .ok (.goto (-86), 3) := dk_167 255 170 (dk_at dksX5_fits_5 7 rfl rfl)
theorem dX5_fits_126 : decode cX5_fits 126 = .ok (.aload_n 0, 1) := dk_42 (dk_at dksX5_fits_5 10 rfl rfl)
theorem dX5_fits_127 : decode cX5_fits 127 = .ok (.iload_n 1, 1) := dk_27 (dk_at dksX5_fits_5 11 rfl rfl)
theorem dX5_fits_128 : decode cX5_fits 128 = .ok (.iload 7, 2) := dk_21 7 (dk_at dksX5_fits_5 12 rfl rfl)
theorem dX5_fits_130 : decode cX5_fits 130 = .ok (.invokevirtual 337, 3) := dk_182 1 81 (dk_at dksX5_fits_5 14 rfl rfl)
theorem dX5_fits_133 : decode cX5_fits 133 = .ok (.istore 5, 2) := dk_54 5 (dk_at dksX5_fits_5 17 rfl rfl)
theorem dX5_fits_135 : decode cX5_fits 135 = .ok (.iinc 6 1, 3) := dk_132 6 1 (dk_at dksX5_fits_5 19 rfl rfl)
theorem dX5_fits_138 : decode cX5_fits 138 = .ok (.goto (-113), 3) := dk_167 255 143 (dk_at dksX5_fits_6 0 rfl rfl)
theorem dX5_fits_141 : decode cX5_fits 141 = .ok (.iload 5, 2) := dk_21 5 (dk_at dksX5_fits_6 3 rfl rfl)
theorem dX5_fits_143 : decode cX5_fits 143 = .ok (.iload 4, 2) := dk_21 4 (dk_at dksX5_fits_6 5 rfl rfl)
theorem dX5_fits_145 : decode cX5_fits 145 = .ok (.ishr, 1) := dk_122 (dk_at dksX5_fits_6 7 rfl rfl)
theorem dX5_fits_146 : decode cX5_fits 146 = .ok (.iconst 1, 1) := dk_4 (dk_at dksX5_fits_6 8 rfl rfl)
theorem dX5_fits_147 : decode cX5_fits 147 = .ok (.iand, 1) := dk_126 (dk_at dksX5_fits_6 9 rfl rfl)
theorem dX5_fits_148 : decode cX5_fits 148 = .ok (.iconst 1, 1) := dk_4 (dk_at dksX5_fits_6 10 rfl rfl)
theorem dX5_fits_149 : decode cX5_fits 149 = .ok (.if_icmp .ne 7, 3) := dk_160 0 7 (dk_at dksX5_fits_6 11 rfl rfl)
theorem dX5_fits_152 : decode cX5_fits 152 = .ok (.iconst 1, 1) := dk_4 (dk_at dksX5_fits_6 14 rfl rfl)
theorem dX5_fits_153 : decode cX5_fits 153 = .ok (.goto 4, 3) := dk_167 0 4 (dk_at dksX5_fits_6 15 rfl rfl)
theorem dX5_fits_156 : decode cX5_fits 156 = .ok (.iconst 0, 1) := dk_3 (dk_at dksX5_fits_6 18 rfl rfl)
theorem dX5_fits_157 : decode cX5_fits 157 = .ok (.ireturn, 1) := dk_172 (dk_at dksX5_fits_6 19 rfl rfl)
abbrev cX5_nameSize : ByteArray := prog_12_method_59_code
def yX5_nameSize : MethodName := ⟨RX5, "nameSize", "(I)I"⟩
def dkwX5_nameSize_1 : List UInt8 := [132, 2, 1, 167, 255, 232, 28, 172]
abbrev dktX5_nameSize_1 : List UInt8 := dkwX5_nameSize_1 ++ []
def dkwX5_nameSize_0 : List UInt8 := [3, 61, 28, 16, 12, 162, 0, 24, 42, 180, 0, 27, 27, 47, 8, 28, 104, 123, 9, 148, 153, 0, 9]
abbrev dktX5_nameSize_0 : List UInt8 := dkwX5_nameSize_0 ++ dktX5_nameSize_1
theorem dksX5_nameSize_0 : cX5_nameSize.data.toList.drop 0 = dktX5_nameSize_0 := by decide +kernel
theorem dksX5_nameSize_1 : cX5_nameSize.data.toList.drop 23 = dktX5_nameSize_1 := dk_seg dksX5_nameSize_0 23 rfl rfl
theorem dX5_nameSize_0 : decode cX5_nameSize 0 = .ok (.iconst 0, 1) := dk_3 (dk_at dksX5_nameSize_0 0 rfl rfl)
theorem dX5_nameSize_1 : decode cX5_nameSize 1 = .ok (.istore_n 2, 1) := dk_61 (dk_at dksX5_nameSize_0 1 rfl rfl)
theorem dX5_nameSize_2 : decode cX5_nameSize 2 = .ok (.iload_n 2, 1) := dk_28 (dk_at dksX5_nameSize_0 2 rfl rfl)
theorem dX5_nameSize_3 : decode cX5_nameSize 3 = .ok (.bipush 12, 2) := dk_16 12 (dk_at dksX5_nameSize_0 3 rfl rfl)
theorem dX5_nameSize_5 : decode cX5_nameSize 5 = .ok (.if_icmp .ge 24, 3) := dk_162 0 24 (dk_at dksX5_nameSize_0 5 rfl rfl)
theorem dX5_nameSize_8 : decode cX5_nameSize 8 = .ok (.aload_n 0, 1) := dk_42 (dk_at dksX5_nameSize_0 8 rfl rfl)
theorem dX5_nameSize_9 : decode cX5_nameSize 9 = .ok (.getfield 27, 3) := dk_180 0 27 (dk_at dksX5_nameSize_0 9 rfl rfl)
theorem dX5_nameSize_12 : decode cX5_nameSize 12 = .ok (.iload_n 1, 1) := dk_27 (dk_at dksX5_nameSize_0 12 rfl rfl)
theorem dX5_nameSize_13 : decode cX5_nameSize 13 = .ok (.laload, 1) := dk_47 (dk_at dksX5_nameSize_0 13 rfl rfl)
theorem dX5_nameSize_14 : decode cX5_nameSize 14 = .ok (.iconst 5, 1) := dk_8 (dk_at dksX5_nameSize_0 14 rfl rfl)
theorem dX5_nameSize_15 : decode cX5_nameSize 15 = .ok (.iload_n 2, 1) := dk_28 (dk_at dksX5_nameSize_0 15 rfl rfl)
theorem dX5_nameSize_16 : decode cX5_nameSize 16 = .ok (.imul, 1) := dk_104 (dk_at dksX5_nameSize_0 16 rfl rfl)
theorem dX5_nameSize_17 : decode cX5_nameSize 17 = .ok (.lshr, 1) := dk_123 (dk_at dksX5_nameSize_0 17 rfl rfl)
theorem dX5_nameSize_18 : decode cX5_nameSize 18 = .ok (.lconst 0, 1) := dk_9 (dk_at dksX5_nameSize_0 18 rfl rfl)
theorem dX5_nameSize_19 : decode cX5_nameSize 19 = .ok (.lcmp, 1) := dk_148 (dk_at dksX5_nameSize_0 19 rfl rfl)
theorem dX5_nameSize_20 : decode cX5_nameSize 20 = .ok (.ifCond .eq 9, 3) := dk_153 0 9 (dk_at dksX5_nameSize_0 20 rfl rfl)
theorem dX5_nameSize_23 : decode cX5_nameSize 23 = .ok (.iinc 2 1, 3) := dk_132 2 1 (dk_at dksX5_nameSize_1 0 rfl rfl)
theorem dX5_nameSize_26 : decode cX5_nameSize 26 = .ok (.goto (-24), 3) := dk_167 255 232 (dk_at dksX5_nameSize_1 3 rfl rfl)
theorem dX5_nameSize_29 : decode cX5_nameSize 29 = .ok (.iload_n 2, 1) := dk_28 (dk_at dksX5_nameSize_1 6 rfl rfl)
theorem dX5_nameSize_30 : decode cX5_nameSize 30 = .ok (.ireturn, 1) := dk_172 (dk_at dksX5_nameSize_1 7 rfl rfl)
abbrev cX5_starred : ByteArray := prog_12_method_61_code
def yX5_starred : MethodName := ⟨RX5, "starred", "(II)I"⟩
def dkwX5_starred_2 : List UInt8 := [120, 128, 167, 0, 4, 29, 62, 132, 4, 1, 167, 255, 204, 29, 172]
abbrev dktX5_starred_2 : List UInt8 := dkwX5_starred_2 ++ []
def dkwX5_starred_1 : List UInt8 := [160, 0, 29, 42, 180, 0, 64, 16, 12, 27, 104, 21, 4, 96, 46, 16, 42, 160, 0, 12, 29, 5, 21, 4]
abbrev dktX5_starred_1 : List UInt8 := dkwX5_starred_1 ++ dktX5_starred_2
def dkwX5_starred_0 : List UInt8 := [28, 62, 3, 54, 4, 21, 4, 42, 180, 0, 67, 27, 46, 162, 0, 47, 29, 21, 4, 122, 4, 126, 4]
abbrev dktX5_starred_0 : List UInt8 := dkwX5_starred_0 ++ dktX5_starred_1
theorem dksX5_starred_0 : cX5_starred.data.toList.drop 0 = dktX5_starred_0 := by decide +kernel
theorem dksX5_starred_1 : cX5_starred.data.toList.drop 23 = dktX5_starred_1 := dk_seg dksX5_starred_0 23 rfl rfl
theorem dksX5_starred_2 : cX5_starred.data.toList.drop 47 = dktX5_starred_2 := dk_seg dksX5_starred_1 24 rfl rfl
theorem dX5_starred_0 : decode cX5_starred 0 = .ok (.iload_n 2, 1) := dk_28 (dk_at dksX5_starred_0 0 rfl rfl)
theorem dX5_starred_1 : decode cX5_starred 1 = .ok (.istore_n 3, 1) := dk_62 (dk_at dksX5_starred_0 1 rfl rfl)
theorem dX5_starred_2 : decode cX5_starred 2 = .ok (.iconst 0, 1) := dk_3 (dk_at dksX5_starred_0 2 rfl rfl)
theorem dX5_starred_3 : decode cX5_starred 3 = .ok (.istore 4, 2) := dk_54 4 (dk_at dksX5_starred_0 3 rfl rfl)
theorem dX5_starred_5 : decode cX5_starred 5 = .ok (.iload 4, 2) := dk_21 4 (dk_at dksX5_starred_0 5 rfl rfl)
theorem dX5_starred_7 : decode cX5_starred 7 = .ok (.aload_n 0, 1) := dk_42 (dk_at dksX5_starred_0 7 rfl rfl)
theorem dX5_starred_8 : decode cX5_starred 8 = .ok (.getfield 67, 3) := dk_180 0 67 (dk_at dksX5_starred_0 8 rfl rfl)
theorem dX5_starred_11 : decode cX5_starred 11 = .ok (.iload_n 1, 1) := dk_27 (dk_at dksX5_starred_0 11 rfl rfl)
theorem dX5_starred_12 : decode cX5_starred 12 = .ok (.iaload, 1) := dk_46 (dk_at dksX5_starred_0 12 rfl rfl)
theorem dX5_starred_13 : decode cX5_starred 13 = .ok (.if_icmp .ge 47, 3) := dk_162 0 47 (dk_at dksX5_starred_0 13 rfl rfl)
theorem dX5_starred_16 : decode cX5_starred 16 = .ok (.iload_n 3, 1) := dk_29 (dk_at dksX5_starred_0 16 rfl rfl)
theorem dX5_starred_17 : decode cX5_starred 17 = .ok (.iload 4, 2) := dk_21 4 (dk_at dksX5_starred_0 17 rfl rfl)
theorem dX5_starred_19 : decode cX5_starred 19 = .ok (.ishr, 1) := dk_122 (dk_at dksX5_starred_0 19 rfl rfl)
theorem dX5_starred_20 : decode cX5_starred 20 = .ok (.iconst 1, 1) := dk_4 (dk_at dksX5_starred_0 20 rfl rfl)
theorem dX5_starred_21 : decode cX5_starred 21 = .ok (.iand, 1) := dk_126 (dk_at dksX5_starred_0 21 rfl rfl)
theorem dX5_starred_22 : decode cX5_starred 22 = .ok (.iconst 1, 1) := dk_4 (dk_at dksX5_starred_0 22 rfl rfl)
theorem dX5_starred_23 : decode cX5_starred 23 = .ok (.if_icmp .ne 29, 3) := dk_160 0 29 (dk_at dksX5_starred_1 0 rfl rfl)
theorem dX5_starred_26 : decode cX5_starred 26 = .ok (.aload_n 0, 1) := dk_42 (dk_at dksX5_starred_1 3 rfl rfl)
theorem dX5_starred_27 : decode cX5_starred 27 = .ok (.getfield 64, 3) := dk_180 0 64 (dk_at dksX5_starred_1 4 rfl rfl)
theorem dX5_starred_30 : decode cX5_starred 30 = .ok (.bipush 12, 2) := dk_16 12 (dk_at dksX5_starred_1 7 rfl rfl)
theorem dX5_starred_32 : decode cX5_starred 32 = .ok (.iload_n 1, 1) := dk_27 (dk_at dksX5_starred_1 9 rfl rfl)
theorem dX5_starred_33 : decode cX5_starred 33 = .ok (.imul, 1) := dk_104 (dk_at dksX5_starred_1 10 rfl rfl)
theorem dX5_starred_34 : decode cX5_starred 34 = .ok (.iload 4, 2) := dk_21 4 (dk_at dksX5_starred_1 11 rfl rfl)
theorem dX5_starred_36 : decode cX5_starred 36 = .ok (.iadd, 1) := dk_96 (dk_at dksX5_starred_1 13 rfl rfl)
theorem dX5_starred_37 : decode cX5_starred 37 = .ok (.iaload, 1) := dk_46 (dk_at dksX5_starred_1 14 rfl rfl)
theorem dX5_starred_38 : decode cX5_starred 38 = .ok (.bipush 42, 2) := dk_16 42 (dk_at dksX5_starred_1 15 rfl rfl)
theorem dX5_starred_40 : decode cX5_starred 40 = .ok (.if_icmp .ne 12, 3) := dk_160 0 12 (dk_at dksX5_starred_1 17 rfl rfl)
theorem dX5_starred_43 : decode cX5_starred 43 = .ok (.iload_n 3, 1) := dk_29 (dk_at dksX5_starred_1 20 rfl rfl)
theorem dX5_starred_44 : decode cX5_starred 44 = .ok (.iconst 2, 1) := dk_5 (dk_at dksX5_starred_1 21 rfl rfl)
theorem dX5_starred_45 : decode cX5_starred 45 = .ok (.iload 4, 2) := dk_21 4 (dk_at dksX5_starred_1 22 rfl rfl)
theorem dX5_starred_47 : decode cX5_starred 47 = .ok (.ishl, 1) := dk_120 (dk_at dksX5_starred_2 0 rfl rfl)
theorem dX5_starred_48 : decode cX5_starred 48 = .ok (.ior, 1) := dk_128 (dk_at dksX5_starred_2 1 rfl rfl)
theorem dX5_starred_49 : decode cX5_starred 49 = .ok (.goto 4, 3) := dk_167 0 4 (dk_at dksX5_starred_2 2 rfl rfl)
theorem dX5_starred_52 : decode cX5_starred 52 = .ok (.iload_n 3, 1) := dk_29 (dk_at dksX5_starred_2 5 rfl rfl)
theorem dX5_starred_53 : decode cX5_starred 53 = .ok (.istore_n 3, 1) := dk_62 (dk_at dksX5_starred_2 6 rfl rfl)
theorem dX5_starred_54 : decode cX5_starred 54 = .ok (.iinc 4 1, 3) := dk_132 4 1 (dk_at dksX5_starred_2 7 rfl rfl)
theorem dX5_starred_57 : decode cX5_starred 57 = .ok (.goto (-52), 3) := dk_167 255 204 (dk_at dksX5_starred_2 10 rfl rfl)
theorem dX5_starred_60 : decode cX5_starred 60 = .ok (.iload_n 3, 1) := dk_29 (dk_at dksX5_starred_2 13 rfl rfl)
theorem dX5_starred_61 : decode cX5_starred 61 = .ok (.ireturn, 1) := dk_172 (dk_at dksX5_starred_2 14 rfl rfl)
abbrev cX5_nameByte : ByteArray := prog_12_method_58_code
def yX5_nameByte : MethodName := ⟨RX5, "nameByte", "(III)I"⟩
def dkwX5_nameByte_1 : List UInt8 := [16, 27, 160, 0, 8, 16, 46, 167, 0, 8, 16, 96, 21, 4, 96, 172]
abbrev dktX5_nameByte_1 : List UInt8 := dkwX5_nameByte_1 ++ []
def dkwX5_nameByte_0 : List UInt8 := [42, 180, 0, 27, 27, 47, 8, 29, 4, 100, 28, 100, 104, 123, 20, 1, 76, 127, 136, 54, 4, 21, 4]
abbrev dktX5_nameByte_0 : List UInt8 := dkwX5_nameByte_0 ++ dktX5_nameByte_1
theorem dksX5_nameByte_0 : cX5_nameByte.data.toList.drop 0 = dktX5_nameByte_0 := by decide +kernel
theorem dksX5_nameByte_1 : cX5_nameByte.data.toList.drop 23 = dktX5_nameByte_1 := dk_seg dksX5_nameByte_0 23 rfl rfl
theorem dX5_nameByte_0 : decode cX5_nameByte 0 = .ok (.aload_n 0, 1) := dk_42 (dk_at dksX5_nameByte_0 0 rfl rfl)
theorem dX5_nameByte_1 : decode cX5_nameByte 1 = .ok (.getfield 27, 3) := dk_180 0 27 (dk_at dksX5_nameByte_0 1 rfl rfl)
theorem dX5_nameByte_4 : decode cX5_nameByte 4 = .ok (.iload_n 1, 1) := dk_27 (dk_at dksX5_nameByte_0 4 rfl rfl)
theorem dX5_nameByte_5 : decode cX5_nameByte 5 = .ok (.laload, 1) := dk_47 (dk_at dksX5_nameByte_0 5 rfl rfl)
theorem dX5_nameByte_6 : decode cX5_nameByte 6 = .ok (.iconst 5, 1) := dk_8 (dk_at dksX5_nameByte_0 6 rfl rfl)
theorem dX5_nameByte_7 : decode cX5_nameByte 7 = .ok (.iload_n 3, 1) := dk_29 (dk_at dksX5_nameByte_0 7 rfl rfl)
theorem dX5_nameByte_8 : decode cX5_nameByte 8 = .ok (.iconst 1, 1) := dk_4 (dk_at dksX5_nameByte_0 8 rfl rfl)
theorem dX5_nameByte_9 : decode cX5_nameByte 9 = .ok (.isub, 1) := dk_100 (dk_at dksX5_nameByte_0 9 rfl rfl)
theorem dX5_nameByte_10 : decode cX5_nameByte 10 = .ok (.iload_n 2, 1) := dk_28 (dk_at dksX5_nameByte_0 10 rfl rfl)
theorem dX5_nameByte_11 : decode cX5_nameByte 11 = .ok (.isub, 1) := dk_100 (dk_at dksX5_nameByte_0 11 rfl rfl)
theorem dX5_nameByte_12 : decode cX5_nameByte 12 = .ok (.imul, 1) := dk_104 (dk_at dksX5_nameByte_0 12 rfl rfl)
theorem dX5_nameByte_13 : decode cX5_nameByte 13 = .ok (.lshr, 1) := dk_123 (dk_at dksX5_nameByte_0 13 rfl rfl)
theorem dX5_nameByte_14 : decode cX5_nameByte 14 = .ok (.ldc2_w 332, 3) := dk_20 1 76 (dk_at dksX5_nameByte_0 14 rfl rfl)
theorem dX5_nameByte_17 : decode cX5_nameByte 17 = .ok (.land, 1) := dk_127 (dk_at dksX5_nameByte_0 17 rfl rfl)
theorem dX5_nameByte_18 : decode cX5_nameByte 18 = .ok (.l2i, 1) := dk_136 (dk_at dksX5_nameByte_0 18 rfl rfl)
theorem dX5_nameByte_19 : decode cX5_nameByte 19 = .ok (.istore 4, 2) := dk_54 4 (dk_at dksX5_nameByte_0 19 rfl rfl)
theorem dX5_nameByte_21 : decode cX5_nameByte 21 = .ok (.iload 4, 2) := dk_21 4 (dk_at dksX5_nameByte_0 21 rfl rfl)
theorem dX5_nameByte_23 : decode cX5_nameByte 23 = .ok (.bipush 27, 2) := dk_16 27 (dk_at dksX5_nameByte_1 0 rfl rfl)
theorem dX5_nameByte_25 : decode cX5_nameByte 25 = .ok (.if_icmp .ne 8, 3) := dk_160 0 8 (dk_at dksX5_nameByte_1 2 rfl rfl)
theorem dX5_nameByte_28 : decode cX5_nameByte 28 = .ok (.bipush 46, 2) := dk_16 46 (dk_at dksX5_nameByte_1 5 rfl rfl)
theorem dX5_nameByte_30 : decode cX5_nameByte 30 = .ok (.goto 8, 3) := dk_167 0 8 (dk_at dksX5_nameByte_1 7 rfl rfl)
theorem dX5_nameByte_33 : decode cX5_nameByte 33 = .ok (.bipush 96, 2) := dk_16 96 (dk_at dksX5_nameByte_1 10 rfl rfl)
theorem dX5_nameByte_35 : decode cX5_nameByte 35 = .ok (.iload 4, 2) := dk_21 4 (dk_at dksX5_nameByte_1 12 rfl rfl)
theorem dX5_nameByte_37 : decode cX5_nameByte 37 = .ok (.iadd, 1) := dk_96 (dk_at dksX5_nameByte_1 14 rfl rfl)
theorem dX5_nameByte_38 : decode cX5_nameByte 38 = .ok (.ireturn, 1) := dk_172 (dk_at dksX5_nameByte_1 15 rfl rfl)
abbrev cX5_watchOne : ByteArray := prog_12_method_66_code
def yX5_watchOne : MethodName := ⟨RX5, "watchOne", "(II)V"⟩
def dkwX5_watchOne_3 : List UInt8 := [27, 42, 180, 0, 82, 28, 46, 28, 182, 1, 106, 177]
abbrev dktX5_watchOne_3 : List UInt8 := dkwX5_watchOne_3 ++ []
def dkwX5_watchOne_2 : List UInt8 := [28, 182, 1, 106, 177, 42, 180, 1, 91, 154, 0, 4, 177, 42, 16, 16, 5, 27, 104, 96, 182, 1, 103, 42]
abbrev dktX5_watchOne_2 : List UInt8 := dkwX5_watchOne_2 ++ dktX5_watchOne_3
def dkwX5_watchOne_1 : List UInt8 := [16, 17, 5, 27, 104, 96, 182, 1, 103, 42, 180, 1, 88, 153, 0, 16, 42, 27, 42, 180, 0, 82, 28, 46]
abbrev dktX5_watchOne_1 : List UInt8 := dkwX5_watchOne_1 ++ dktX5_watchOne_2
def dkwX5_watchOne_0 : List UInt8 := [42, 180, 0, 103, 16, 6, 42, 180, 0, 57, 27, 46, 79, 42, 180, 0, 60, 27, 51, 153, 0, 41, 42]
abbrev dktX5_watchOne_0 : List UInt8 := dkwX5_watchOne_0 ++ dktX5_watchOne_1
theorem dksX5_watchOne_0 : cX5_watchOne.data.toList.drop 0 = dktX5_watchOne_0 := by decide +kernel
theorem dksX5_watchOne_1 : cX5_watchOne.data.toList.drop 23 = dktX5_watchOne_1 := dk_seg dksX5_watchOne_0 23 rfl rfl
theorem dksX5_watchOne_2 : cX5_watchOne.data.toList.drop 47 = dktX5_watchOne_2 := dk_seg dksX5_watchOne_1 24 rfl rfl
theorem dksX5_watchOne_3 : cX5_watchOne.data.toList.drop 71 = dktX5_watchOne_3 := dk_seg dksX5_watchOne_2 24 rfl rfl
theorem dX5_watchOne_0 : decode cX5_watchOne 0 = .ok (.aload_n 0, 1) := dk_42 (dk_at dksX5_watchOne_0 0 rfl rfl)
theorem dX5_watchOne_1 : decode cX5_watchOne 1 = .ok (.getfield 103, 3) := dk_180 0 103 (dk_at dksX5_watchOne_0 1 rfl rfl)
theorem dX5_watchOne_4 : decode cX5_watchOne 4 = .ok (.bipush 6, 2) := dk_16 6 (dk_at dksX5_watchOne_0 4 rfl rfl)
theorem dX5_watchOne_6 : decode cX5_watchOne 6 = .ok (.aload_n 0, 1) := dk_42 (dk_at dksX5_watchOne_0 6 rfl rfl)
theorem dX5_watchOne_7 : decode cX5_watchOne 7 = .ok (.getfield 57, 3) := dk_180 0 57 (dk_at dksX5_watchOne_0 7 rfl rfl)
theorem dX5_watchOne_10 : decode cX5_watchOne 10 = .ok (.iload_n 1, 1) := dk_27 (dk_at dksX5_watchOne_0 10 rfl rfl)
theorem dX5_watchOne_11 : decode cX5_watchOne 11 = .ok (.iaload, 1) := dk_46 (dk_at dksX5_watchOne_0 11 rfl rfl)
theorem dX5_watchOne_12 : decode cX5_watchOne 12 = .ok (.iastore, 1) := dk_79 (dk_at dksX5_watchOne_0 12 rfl rfl)
theorem dX5_watchOne_13 : decode cX5_watchOne 13 = .ok (.aload_n 0, 1) := dk_42 (dk_at dksX5_watchOne_0 13 rfl rfl)
theorem dX5_watchOne_14 : decode cX5_watchOne 14 = .ok (.getfield 60, 3) := dk_180 0 60 (dk_at dksX5_watchOne_0 14 rfl rfl)
theorem dX5_watchOne_17 : decode cX5_watchOne 17 = .ok (.iload_n 1, 1) := dk_27 (dk_at dksX5_watchOne_0 17 rfl rfl)
theorem dX5_watchOne_18 : decode cX5_watchOne 18 = .ok (.baload, 1) := dk_51 (dk_at dksX5_watchOne_0 18 rfl rfl)
theorem dX5_watchOne_19 : decode cX5_watchOne 19 = .ok (.ifCond .eq 41, 3) := dk_153 0 41 (dk_at dksX5_watchOne_0 19 rfl rfl)
theorem dX5_watchOne_22 : decode cX5_watchOne 22 = .ok (.aload_n 0, 1) := dk_42 (dk_at dksX5_watchOne_0 22 rfl rfl)
theorem dX5_watchOne_23 : decode cX5_watchOne 23 = .ok (.bipush 17, 2) := dk_16 17 (dk_at dksX5_watchOne_1 0 rfl rfl)
theorem dX5_watchOne_25 : decode cX5_watchOne 25 = .ok (.iconst 2, 1) := dk_5 (dk_at dksX5_watchOne_1 2 rfl rfl)
theorem dX5_watchOne_26 : decode cX5_watchOne 26 = .ok (.iload_n 1, 1) := dk_27 (dk_at dksX5_watchOne_1 3 rfl rfl)
theorem dX5_watchOne_27 : decode cX5_watchOne 27 = .ok (.imul, 1) := dk_104 (dk_at dksX5_watchOne_1 4 rfl rfl)
theorem dX5_watchOne_28 : decode cX5_watchOne 28 = .ok (.iadd, 1) := dk_96 (dk_at dksX5_watchOne_1 5 rfl rfl)
theorem dX5_watchOne_29 : decode cX5_watchOne 29 = .ok (.invokevirtual 359, 3) := dk_182 1 103 (dk_at dksX5_watchOne_1 6 rfl rfl)
theorem dX5_watchOne_32 : decode cX5_watchOne 32 = .ok (.aload_n 0, 1) := dk_42 (dk_at dksX5_watchOne_1 9 rfl rfl)
theorem dX5_watchOne_33 : decode cX5_watchOne 33 = .ok (.getfield 344, 3) := dk_180 1 88 (dk_at dksX5_watchOne_1 10 rfl rfl)
theorem dX5_watchOne_36 : decode cX5_watchOne 36 = .ok (.ifCond .eq 16, 3) := dk_153 0 16 (dk_at dksX5_watchOne_1 13 rfl rfl)
theorem dX5_watchOne_39 : decode cX5_watchOne 39 = .ok (.aload_n 0, 1) := dk_42 (dk_at dksX5_watchOne_1 16 rfl rfl)
theorem dX5_watchOne_40 : decode cX5_watchOne 40 = .ok (.iload_n 1, 1) := dk_27 (dk_at dksX5_watchOne_1 17 rfl rfl)
theorem dX5_watchOne_41 : decode cX5_watchOne 41 = .ok (.aload_n 0, 1) := dk_42 (dk_at dksX5_watchOne_1 18 rfl rfl)
theorem dX5_watchOne_42 : decode cX5_watchOne 42 = .ok (.getfield 82, 3) := dk_180 0 82 (dk_at dksX5_watchOne_1 19 rfl rfl)
theorem dX5_watchOne_45 : decode cX5_watchOne 45 = .ok (.iload_n 2, 1) := dk_28 (dk_at dksX5_watchOne_1 22 rfl rfl)
theorem dX5_watchOne_46 : decode cX5_watchOne 46 = .ok (.iaload, 1) := dk_46 (dk_at dksX5_watchOne_1 23 rfl rfl)
theorem dX5_watchOne_47 : decode cX5_watchOne 47 = .ok (.iload_n 2, 1) := dk_28 (dk_at dksX5_watchOne_2 0 rfl rfl)
theorem dX5_watchOne_48 : decode cX5_watchOne 48 = .ok (.invokevirtual 362, 3) := dk_182 1 106 (dk_at dksX5_watchOne_2 1 rfl rfl)
theorem dX5_watchOne_51 : decode cX5_watchOne 51 = .ok (.return_, 1) := dk_177 (dk_at dksX5_watchOne_2 4 rfl rfl)
theorem dX5_watchOne_52 : decode cX5_watchOne 52 = .ok (.aload_n 0, 1) := dk_42 (dk_at dksX5_watchOne_2 5 rfl rfl)
theorem dX5_watchOne_53 : decode cX5_watchOne 53 = .ok (.getfield 347, 3) := dk_180 1 91 (dk_at dksX5_watchOne_2 6 rfl rfl)
theorem dX5_watchOne_56 : decode cX5_watchOne 56 = .ok (.ifCond .ne 4, 3) := dk_154 0 4 (dk_at dksX5_watchOne_2 9 rfl rfl)
theorem dX5_watchOne_59 : decode cX5_watchOne 59 = .ok (.return_, 1) := dk_177 (dk_at dksX5_watchOne_2 12 rfl rfl)
theorem dX5_watchOne_60 : decode cX5_watchOne 60 = .ok (.aload_n 0, 1) := dk_42 (dk_at dksX5_watchOne_2 13 rfl rfl)
theorem dX5_watchOne_61 : decode cX5_watchOne 61 = .ok (.bipush 16, 2) := dk_16 16 (dk_at dksX5_watchOne_2 14 rfl rfl)
theorem dX5_watchOne_63 : decode cX5_watchOne 63 = .ok (.iconst 2, 1) := dk_5 (dk_at dksX5_watchOne_2 16 rfl rfl)
theorem dX5_watchOne_64 : decode cX5_watchOne 64 = .ok (.iload_n 1, 1) := dk_27 (dk_at dksX5_watchOne_2 17 rfl rfl)
theorem dX5_watchOne_65 : decode cX5_watchOne 65 = .ok (.imul, 1) := dk_104 (dk_at dksX5_watchOne_2 18 rfl rfl)
theorem dX5_watchOne_66 : decode cX5_watchOne 66 = .ok (.iadd, 1) := dk_96 (dk_at dksX5_watchOne_2 19 rfl rfl)
theorem dX5_watchOne_67 : decode cX5_watchOne 67 = .ok (.invokevirtual 359, 3) := dk_182 1 103 (dk_at dksX5_watchOne_2 20 rfl rfl)
theorem dX5_watchOne_70 : decode cX5_watchOne 70 = .ok (.aload_n 0, 1) := dk_42 (dk_at dksX5_watchOne_2 23 rfl rfl)
theorem dX5_watchOne_71 : decode cX5_watchOne 71 = .ok (.iload_n 1, 1) := dk_27 (dk_at dksX5_watchOne_3 0 rfl rfl)
theorem dX5_watchOne_72 : decode cX5_watchOne 72 = .ok (.aload_n 0, 1) := dk_42 (dk_at dksX5_watchOne_3 1 rfl rfl)
theorem dX5_watchOne_73 : decode cX5_watchOne 73 = .ok (.getfield 82, 3) := dk_180 0 82 (dk_at dksX5_watchOne_3 2 rfl rfl)
theorem dX5_watchOne_76 : decode cX5_watchOne 76 = .ok (.iload_n 2, 1) := dk_28 (dk_at dksX5_watchOne_3 5 rfl rfl)
theorem dX5_watchOne_77 : decode cX5_watchOne 77 = .ok (.iaload, 1) := dk_46 (dk_at dksX5_watchOne_3 6 rfl rfl)
theorem dX5_watchOne_78 : decode cX5_watchOne 78 = .ok (.iload_n 2, 1) := dk_28 (dk_at dksX5_watchOne_3 7 rfl rfl)
theorem dX5_watchOne_79 : decode cX5_watchOne 79 = .ok (.invokevirtual 362, 3) := dk_182 1 106 (dk_at dksX5_watchOne_3 8 rfl rfl)
theorem dX5_watchOne_82 : decode cX5_watchOne 82 = .ok (.return_, 1) := dk_177 (dk_at dksX5_watchOne_3 11 rfl rfl)
abbrev cX5_probeExpression : ByteArray := prog_12_method_64_code
def yX5_probeExpression : MethodName := ⟨RX5, "probeExpression", "(I)V"⟩
def dkwX5_probeExpression_15 : List UInt8 := [3, 46, 181, 1, 91, 177]
abbrev dktX5_probeExpression_15 : List UInt8 := dkwX5_probeExpression_15 ++ []
def dkwX5_probeExpression_14 : List UInt8 := [180, 0, 112, 21, 4, 46, 62, 42, 180, 0, 109, 21, 4, 46, 54, 5, 167, 254, 182, 42, 42, 180, 0, 106]
abbrev dktX5_probeExpression_14 : List UInt8 := dkwX5_probeExpression_14 ++ dktX5_probeExpression_15
def dkwX5_probeExpression_13 : List UInt8 := [184, 1, 97, 79, 21, 8, 153, 0, 34, 21, 4, 154, 0, 9, 42, 4, 181, 1, 88, 177, 132, 4, 255, 42]
abbrev dktX5_probeExpression_13 : List UInt8 := dkwX5_probeExpression_13 ++ dktX5_probeExpression_14
def dkwX5_probeExpression_12 : List UInt8 := [42, 180, 0, 106, 29, 4, 100, 21, 7, 42, 180, 0, 106, 29, 4, 100, 46, 42, 180, 0, 106, 29, 46]
abbrev dktX5_probeExpression_12 : List UInt8 := dkwX5_probeExpression_12 ++ dktX5_probeExpression_13
def dkwX5_probeExpression_11 : List UInt8 := [29, 4, 100, 46, 184, 1, 94, 153, 0, 14, 4, 54, 8, 42, 2, 181, 1, 91, 167, 0, 33, 132, 3, 255]
abbrev dktX5_probeExpression_11 : List UInt8 := dkwX5_probeExpression_11 ++ dktX5_probeExpression_12
def dkwX5_probeExpression_10 : List UInt8 := [16, 8, 160, 0, 16, 132, 4, 255, 21, 5, 21, 7, 96, 54, 5, 167, 0, 60, 21, 7, 42, 180, 0, 106]
abbrev dktX5_probeExpression_10 : List UInt8 := dkwX5_probeExpression_10 ++ dktX5_probeExpression_11
def dkwX5_probeExpression_9 : List UInt8 := [21, 4, 21, 5, 21, 7, 96, 79, 42, 180, 0, 112, 21, 4, 29, 79, 132, 4, 1, 167, 0, 80, 21, 6]
abbrev dktX5_probeExpression_9 : List UInt8 := dkwX5_probeExpression_9 ++ dktX5_probeExpression_10
def dkwX5_probeExpression_8 : List UInt8 := [160, 0, 13, 21, 5, 21, 7, 96, 54, 5, 167, 0, 113, 21, 6, 16, 7, 160, 0, 29, 42, 180, 0, 109]
abbrev dktX5_probeExpression_8 : List UInt8 := dkwX5_probeExpression_8 ++ dktX5_probeExpression_9
def dkwX5_probeExpression_7 : List UInt8 := [154, 0, 11, 21, 5, 21, 7, 96, 167, 0, 5, 21, 5, 54, 5, 167, 0, 130, 21, 6, 16, 6]
abbrev dktX5_probeExpression_7 : List UInt8 := dkwX5_probeExpression_7 ++ dktX5_probeExpression_8
def dkwX5_probeExpression_6 : List UInt8 := [4, 100, 46, 181, 1, 91, 167, 0, 163, 21, 6, 8, 160, 0, 30, 132, 3, 255, 42, 180, 0, 106, 29, 46]
abbrev dktX5_probeExpression_6 : List UInt8 := dkwX5_probeExpression_6 ++ dktX5_probeExpression_7
def dkwX5_probeExpression_5 : List UInt8 := [29, 4, 100, 46, 116, 79, 167, 0, 187, 21, 6, 7, 160, 0, 21, 4, 54, 8, 42, 42, 180, 0, 106, 29]
abbrev dktX5_probeExpression_5 : List UInt8 := dkwX5_probeExpression_5 ++ dktX5_probeExpression_6
def dkwX5_probeExpression_4 : List UInt8 := [79, 132, 3, 1, 167, 0, 213, 21, 6, 6, 160, 0, 23, 42, 180, 0, 106, 29, 4, 100, 42, 180, 0, 106]
abbrev dktX5_probeExpression_4 : List UInt8 := dkwX5_probeExpression_4 ++ dktX5_probeExpression_5
def dkwX5_probeExpression_3 : List UInt8 := [132, 3, 1, 167, 0, 238, 21, 6, 4, 160, 0, 22, 42, 180, 0, 106, 29, 42, 180, 0, 103, 21, 7, 46]
abbrev dktX5_probeExpression_3 : List UInt8 := dkwX5_probeExpression_3 ++ dktX5_probeExpression_4
def dkwX5_probeExpression_2 : List UInt8 := [47, 136, 54, 7, 132, 5, 1, 3, 54, 8, 21, 6, 154, 0, 17, 42, 180, 0, 106, 29, 21, 7, 79]
abbrev dktX5_probeExpression_2 : List UInt8 := dkwX5_probeExpression_2 ++ dktX5_probeExpression_3
def dkwX5_probeExpression_1 : List UInt8 := [27, 46, 162, 1, 69, 42, 180, 0, 17, 28, 21, 5, 96, 46, 54, 6, 42, 180, 0, 20, 28, 21, 5, 96]
abbrev dktX5_probeExpression_1 : List UInt8 := dkwX5_probeExpression_1 ++ dktX5_probeExpression_2
def dkwX5_probeExpression_0 : List UInt8 := [27, 184, 0, 141, 61, 3, 62, 3, 54, 4, 3, 54, 5, 42, 3, 181, 1, 88, 21, 5, 42, 180, 0, 24]
abbrev dktX5_probeExpression_0 : List UInt8 := dkwX5_probeExpression_0 ++ dktX5_probeExpression_1
theorem dksX5_probeExpression_0 : cX5_probeExpression.data.toList.drop 0 = dktX5_probeExpression_0 := by decide +kernel
theorem dksX5_probeExpression_1 : cX5_probeExpression.data.toList.drop 24 = dktX5_probeExpression_1 := dk_seg dksX5_probeExpression_0 24 rfl rfl
theorem dksX5_probeExpression_2 : cX5_probeExpression.data.toList.drop 48 = dktX5_probeExpression_2 := dk_seg dksX5_probeExpression_1 24 rfl rfl
theorem dksX5_probeExpression_3 : cX5_probeExpression.data.toList.drop 71 = dktX5_probeExpression_3 := dk_seg dksX5_probeExpression_2 23 rfl rfl
theorem dksX5_probeExpression_4 : cX5_probeExpression.data.toList.drop 95 = dktX5_probeExpression_4 := dk_seg dksX5_probeExpression_3 24 rfl rfl
theorem dksX5_probeExpression_5 : cX5_probeExpression.data.toList.drop 119 = dktX5_probeExpression_5 := dk_seg dksX5_probeExpression_4 24 rfl rfl
theorem dksX5_probeExpression_6 : cX5_probeExpression.data.toList.drop 143 = dktX5_probeExpression_6 := dk_seg dksX5_probeExpression_5 24 rfl rfl
theorem dksX5_probeExpression_7 : cX5_probeExpression.data.toList.drop 167 = dktX5_probeExpression_7 := dk_seg dksX5_probeExpression_6 24 rfl rfl
theorem dksX5_probeExpression_8 : cX5_probeExpression.data.toList.drop 189 = dktX5_probeExpression_8 := dk_seg dksX5_probeExpression_7 22 rfl rfl
theorem dksX5_probeExpression_9 : cX5_probeExpression.data.toList.drop 213 = dktX5_probeExpression_9 := dk_seg dksX5_probeExpression_8 24 rfl rfl
theorem dksX5_probeExpression_10 : cX5_probeExpression.data.toList.drop 237 = dktX5_probeExpression_10 := dk_seg dksX5_probeExpression_9 24 rfl rfl
theorem dksX5_probeExpression_11 : cX5_probeExpression.data.toList.drop 261 = dktX5_probeExpression_11 := dk_seg dksX5_probeExpression_10 24 rfl rfl
theorem dksX5_probeExpression_12 : cX5_probeExpression.data.toList.drop 285 = dktX5_probeExpression_12 := dk_seg dksX5_probeExpression_11 24 rfl rfl
theorem dksX5_probeExpression_13 : cX5_probeExpression.data.toList.drop 308 = dktX5_probeExpression_13 := dk_seg dksX5_probeExpression_12 23 rfl rfl
theorem dksX5_probeExpression_14 : cX5_probeExpression.data.toList.drop 332 = dktX5_probeExpression_14 := dk_seg dksX5_probeExpression_13 24 rfl rfl
theorem dksX5_probeExpression_15 : cX5_probeExpression.data.toList.drop 356 = dktX5_probeExpression_15 := dk_seg dksX5_probeExpression_14 24 rfl rfl
theorem dX5_probeExpression_0 : decode cX5_probeExpression 0 = .ok (.iload_n 1, 1) := dk_27 (dk_at dksX5_probeExpression_0 0 rfl rfl)
theorem dX5_probeExpression_1 : decode cX5_probeExpression 1 = .ok (.invokestatic 141, 3) := dk_184 0 141 (dk_at dksX5_probeExpression_0 1 rfl rfl)
theorem dX5_probeExpression_4 : decode cX5_probeExpression 4 = .ok (.istore_n 2, 1) := dk_61 (dk_at dksX5_probeExpression_0 4 rfl rfl)
theorem dX5_probeExpression_5 : decode cX5_probeExpression 5 = .ok (.iconst 0, 1) := dk_3 (dk_at dksX5_probeExpression_0 5 rfl rfl)
theorem dX5_probeExpression_6 : decode cX5_probeExpression 6 = .ok (.istore_n 3, 1) := dk_62 (dk_at dksX5_probeExpression_0 6 rfl rfl)
theorem dX5_probeExpression_7 : decode cX5_probeExpression 7 = .ok (.iconst 0, 1) := dk_3 (dk_at dksX5_probeExpression_0 7 rfl rfl)
theorem dX5_probeExpression_8 : decode cX5_probeExpression 8 = .ok (.istore 4, 2) := dk_54 4 (dk_at dksX5_probeExpression_0 8 rfl rfl)
theorem dX5_probeExpression_10 : decode cX5_probeExpression 10 = .ok (.iconst 0, 1) := dk_3 (dk_at dksX5_probeExpression_0 10 rfl rfl)
theorem dX5_probeExpression_11 : decode cX5_probeExpression 11 = .ok (.istore 5, 2) := dk_54 5 (dk_at dksX5_probeExpression_0 11 rfl rfl)
theorem dX5_probeExpression_13 : decode cX5_probeExpression 13 = .ok (.aload_n 0, 1) := dk_42 (dk_at dksX5_probeExpression_0 13 rfl rfl)
theorem dX5_probeExpression_14 : decode cX5_probeExpression 14 = .ok (.iconst 0, 1) := dk_3 (dk_at dksX5_probeExpression_0 14 rfl rfl)
theorem dX5_probeExpression_15 : decode cX5_probeExpression 15 = .ok (.putfield 344, 3) := dk_181 1 88 (dk_at dksX5_probeExpression_0 15 rfl rfl)
theorem dX5_probeExpression_18 : decode cX5_probeExpression 18 = .ok (.iload 5, 2) := dk_21 5 (dk_at dksX5_probeExpression_0 18 rfl rfl)
theorem dX5_probeExpression_20 : decode cX5_probeExpression 20 = .ok (.aload_n 0, 1) := dk_42 (dk_at dksX5_probeExpression_0 20 rfl rfl)
theorem dX5_probeExpression_21 : decode cX5_probeExpression 21 = .ok (.getfield 24, 3) := dk_180 0 24 (dk_at dksX5_probeExpression_0 21 rfl rfl)
theorem dX5_probeExpression_24 : decode cX5_probeExpression 24 = .ok (.iload_n 1, 1) := dk_27 (dk_at dksX5_probeExpression_1 0 rfl rfl)
theorem dX5_probeExpression_25 : decode cX5_probeExpression 25 = .ok (.iaload, 1) := dk_46 (dk_at dksX5_probeExpression_1 1 rfl rfl)
theorem dX5_probeExpression_26 : decode cX5_probeExpression 26 = .ok (.if_icmp .ge 325, 3) := dk_162 1 69 (dk_at dksX5_probeExpression_1 2 rfl rfl)
theorem dX5_probeExpression_29 : decode cX5_probeExpression 29 = .ok (.aload_n 0, 1) := dk_42 (dk_at dksX5_probeExpression_1 5 rfl rfl)
theorem dX5_probeExpression_30 : decode cX5_probeExpression 30 = .ok (.getfield 17, 3) := dk_180 0 17 (dk_at dksX5_probeExpression_1 6 rfl rfl)
theorem dX5_probeExpression_33 : decode cX5_probeExpression 33 = .ok (.iload_n 2, 1) := dk_28 (dk_at dksX5_probeExpression_1 9 rfl rfl)
theorem dX5_probeExpression_34 : decode cX5_probeExpression 34 = .ok (.iload 5, 2) := dk_21 5 (dk_at dksX5_probeExpression_1 10 rfl rfl)
theorem dX5_probeExpression_36 : decode cX5_probeExpression 36 = .ok (.iadd, 1) := dk_96 (dk_at dksX5_probeExpression_1 12 rfl rfl)
theorem dX5_probeExpression_37 : decode cX5_probeExpression 37 = .ok (.iaload, 1) := dk_46 (dk_at dksX5_probeExpression_1 13 rfl rfl)
theorem dX5_probeExpression_38 : decode cX5_probeExpression 38 = .ok (.istore 6, 2) := dk_54 6 (dk_at dksX5_probeExpression_1 14 rfl rfl)
theorem dX5_probeExpression_40 : decode cX5_probeExpression 40 = .ok (.aload_n 0, 1) := dk_42 (dk_at dksX5_probeExpression_1 16 rfl rfl)
theorem dX5_probeExpression_41 : decode cX5_probeExpression 41 = .ok (.getfield 20, 3) := dk_180 0 20 (dk_at dksX5_probeExpression_1 17 rfl rfl)
theorem dX5_probeExpression_44 : decode cX5_probeExpression 44 = .ok (.iload_n 2, 1) := dk_28 (dk_at dksX5_probeExpression_1 20 rfl rfl)
theorem dX5_probeExpression_45 : decode cX5_probeExpression 45 = .ok (.iload 5, 2) := dk_21 5 (dk_at dksX5_probeExpression_1 21 rfl rfl)
theorem dX5_probeExpression_47 : decode cX5_probeExpression 47 = .ok (.iadd, 1) := dk_96 (dk_at dksX5_probeExpression_1 23 rfl rfl)
theorem dX5_probeExpression_48 : decode cX5_probeExpression 48 = .ok (.laload, 1) := dk_47 (dk_at dksX5_probeExpression_2 0 rfl rfl)
theorem dX5_probeExpression_49 : decode cX5_probeExpression 49 = .ok (.l2i, 1) := dk_136 (dk_at dksX5_probeExpression_2 1 rfl rfl)
theorem dX5_probeExpression_50 : decode cX5_probeExpression 50 = .ok (.istore 7, 2) := dk_54 7 (dk_at dksX5_probeExpression_2 2 rfl rfl)
theorem dX5_probeExpression_52 : decode cX5_probeExpression 52 = .ok (.iinc 5 1, 3) := dk_132 5 1 (dk_at dksX5_probeExpression_2 4 rfl rfl)
theorem dX5_probeExpression_55 : decode cX5_probeExpression 55 = .ok (.iconst 0, 1) := dk_3 (dk_at dksX5_probeExpression_2 7 rfl rfl)
theorem dX5_probeExpression_56 : decode cX5_probeExpression 56 = .ok (.istore 8, 2) := dk_54 8 (dk_at dksX5_probeExpression_2 8 rfl rfl)
theorem dX5_probeExpression_58 : decode cX5_probeExpression 58 = .ok (.iload 6, 2) := dk_21 6 (dk_at dksX5_probeExpression_2 10 rfl rfl)
theorem dX5_probeExpression_60 : decode cX5_probeExpression 60 = .ok (.ifCond .ne 17, 3) := dk_154 0 17 (dk_at dksX5_probeExpression_2 12 rfl rfl)
theorem dX5_probeExpression_63 : decode cX5_probeExpression 63 = .ok (.aload_n 0, 1) := dk_42 (dk_at dksX5_probeExpression_2 15 rfl rfl)
theorem dX5_probeExpression_64 : decode cX5_probeExpression 64 = .ok (.getfield 106, 3) := dk_180 0 106 (dk_at dksX5_probeExpression_2 16 rfl rfl)
theorem dX5_probeExpression_67 : decode cX5_probeExpression 67 = .ok (.iload_n 3, 1) := dk_29 (dk_at dksX5_probeExpression_2 19 rfl rfl)
theorem dX5_probeExpression_68 : decode cX5_probeExpression 68 = .ok (.iload 7, 2) := dk_21 7 (dk_at dksX5_probeExpression_2 20 rfl rfl)
theorem dX5_probeExpression_70 : decode cX5_probeExpression 70 = .ok (.iastore, 1) := dk_79 (dk_at dksX5_probeExpression_2 22 rfl rfl)
theorem dX5_probeExpression_71 : decode cX5_probeExpression 71 = .ok (.iinc 3 1, 3) := dk_132 3 1 (dk_at dksX5_probeExpression_3 0 rfl rfl)
theorem dX5_probeExpression_74 : decode cX5_probeExpression 74 = .ok (.goto 238, 3) := dk_167 0 238 (dk_at dksX5_probeExpression_3 3 rfl rfl)
theorem dX5_probeExpression_77 : decode cX5_probeExpression 77 = .ok (.iload 6, 2) := dk_21 6 (dk_at dksX5_probeExpression_3 6 rfl rfl)
theorem dX5_probeExpression_79 : decode cX5_probeExpression 79 = .ok (.iconst 1, 1) := dk_4 (dk_at dksX5_probeExpression_3 8 rfl rfl)
theorem dX5_probeExpression_80 : decode cX5_probeExpression 80 = .ok (.if_icmp .ne 22, 3) := dk_160 0 22 (dk_at dksX5_probeExpression_3 9 rfl rfl)
theorem dX5_probeExpression_83 : decode cX5_probeExpression 83 = .ok (.aload_n 0, 1) := dk_42 (dk_at dksX5_probeExpression_3 12 rfl rfl)
theorem dX5_probeExpression_84 : decode cX5_probeExpression 84 = .ok (.getfield 106, 3) := dk_180 0 106 (dk_at dksX5_probeExpression_3 13 rfl rfl)
theorem dX5_probeExpression_87 : decode cX5_probeExpression 87 = .ok (.iload_n 3, 1) := dk_29 (dk_at dksX5_probeExpression_3 16 rfl rfl)
theorem dX5_probeExpression_88 : decode cX5_probeExpression 88 = .ok (.aload_n 0, 1) := dk_42 (dk_at dksX5_probeExpression_3 17 rfl rfl)
theorem dX5_probeExpression_89 : decode cX5_probeExpression 89 = .ok (.getfield 103, 3) := dk_180 0 103 (dk_at dksX5_probeExpression_3 18 rfl rfl)
theorem dX5_probeExpression_92 : decode cX5_probeExpression 92 = .ok (.iload 7, 2) := dk_21 7 (dk_at dksX5_probeExpression_3 21 rfl rfl)
theorem dX5_probeExpression_94 : decode cX5_probeExpression 94 = .ok (.iaload, 1) := dk_46 (dk_at dksX5_probeExpression_3 23 rfl rfl)
theorem dX5_probeExpression_95 : decode cX5_probeExpression 95 = .ok (.iastore, 1) := dk_79 (dk_at dksX5_probeExpression_4 0 rfl rfl)
theorem dX5_probeExpression_96 : decode cX5_probeExpression 96 = .ok (.iinc 3 1, 3) := dk_132 3 1 (dk_at dksX5_probeExpression_4 1 rfl rfl)
theorem dX5_probeExpression_99 : decode cX5_probeExpression 99 = .ok (.goto 213, 3) := dk_167 0 213 (dk_at dksX5_probeExpression_4 4 rfl rfl)
theorem dX5_probeExpression_102 : decode cX5_probeExpression 102 = .ok (.iload 6, 2) := dk_21 6 (dk_at dksX5_probeExpression_4 7 rfl rfl)
theorem dX5_probeExpression_104 : decode cX5_probeExpression 104 = .ok (.iconst 3, 1) := dk_6 (dk_at dksX5_probeExpression_4 9 rfl rfl)
theorem dX5_probeExpression_105 : decode cX5_probeExpression 105 = .ok (.if_icmp .ne 23, 3) := dk_160 0 23 (dk_at dksX5_probeExpression_4 10 rfl rfl)
theorem dX5_probeExpression_108 : decode cX5_probeExpression 108 = .ok (.aload_n 0, 1) := dk_42 (dk_at dksX5_probeExpression_4 13 rfl rfl)
theorem dX5_probeExpression_109 : decode cX5_probeExpression 109 = .ok (.getfield 106, 3) := dk_180 0 106 (dk_at dksX5_probeExpression_4 14 rfl rfl)
theorem dX5_probeExpression_112 : decode cX5_probeExpression 112 = .ok (.iload_n 3, 1) := dk_29 (dk_at dksX5_probeExpression_4 17 rfl rfl)
theorem dX5_probeExpression_113 : decode cX5_probeExpression 113 = .ok (.iconst 1, 1) := dk_4 (dk_at dksX5_probeExpression_4 18 rfl rfl)
theorem dX5_probeExpression_114 : decode cX5_probeExpression 114 = .ok (.isub, 1) := dk_100 (dk_at dksX5_probeExpression_4 19 rfl rfl)
theorem dX5_probeExpression_115 : decode cX5_probeExpression 115 = .ok (.aload_n 0, 1) := dk_42 (dk_at dksX5_probeExpression_4 20 rfl rfl)
theorem dX5_probeExpression_116 : decode cX5_probeExpression 116 = .ok (.getfield 106, 3) := dk_180 0 106 (dk_at dksX5_probeExpression_4 21 rfl rfl)
theorem dX5_probeExpression_119 : decode cX5_probeExpression 119 = .ok (.iload_n 3, 1) := dk_29 (dk_at dksX5_probeExpression_5 0 rfl rfl)
theorem dX5_probeExpression_120 : decode cX5_probeExpression 120 = .ok (.iconst 1, 1) := dk_4 (dk_at dksX5_probeExpression_5 1 rfl rfl)
theorem dX5_probeExpression_121 : decode cX5_probeExpression 121 = .ok (.isub, 1) := dk_100 (dk_at dksX5_probeExpression_5 2 rfl rfl)
theorem dX5_probeExpression_122 : decode cX5_probeExpression 122 = .ok (.iaload, 1) := dk_46 (dk_at dksX5_probeExpression_5 3 rfl rfl)
theorem dX5_probeExpression_123 : decode cX5_probeExpression 123 = .ok (.ineg, 1) := dk_116 (dk_at dksX5_probeExpression_5 4 rfl rfl)
theorem dX5_probeExpression_124 : decode cX5_probeExpression 124 = .ok (.iastore, 1) := dk_79 (dk_at dksX5_probeExpression_5 5 rfl rfl)
theorem dX5_probeExpression_125 : decode cX5_probeExpression 125 = .ok (.goto 187, 3) := dk_167 0 187 (dk_at dksX5_probeExpression_5 6 rfl rfl)
theorem dX5_probeExpression_128 : decode cX5_probeExpression 128 = .ok (.iload 6, 2) := dk_21 6 (dk_at dksX5_probeExpression_5 9 rfl rfl)
theorem dX5_probeExpression_130 : decode cX5_probeExpression 130 = .ok (.iconst 4, 1) := dk_7 (dk_at dksX5_probeExpression_5 11 rfl rfl)
theorem dX5_probeExpression_131 : decode cX5_probeExpression 131 = .ok (.if_icmp .ne 21, 3) := dk_160 0 21 (dk_at dksX5_probeExpression_5 12 rfl rfl)
theorem dX5_probeExpression_134 : decode cX5_probeExpression 134 = .ok (.iconst 1, 1) := dk_4 (dk_at dksX5_probeExpression_5 15 rfl rfl)
theorem dX5_probeExpression_135 : decode cX5_probeExpression 135 = .ok (.istore 8, 2) := dk_54 8 (dk_at dksX5_probeExpression_5 16 rfl rfl)
theorem dX5_probeExpression_137 : decode cX5_probeExpression 137 = .ok (.aload_n 0, 1) := dk_42 (dk_at dksX5_probeExpression_5 18 rfl rfl)
theorem dX5_probeExpression_138 : decode cX5_probeExpression 138 = .ok (.aload_n 0, 1) := dk_42 (dk_at dksX5_probeExpression_5 19 rfl rfl)
theorem dX5_probeExpression_139 : decode cX5_probeExpression 139 = .ok (.getfield 106, 3) := dk_180 0 106 (dk_at dksX5_probeExpression_5 20 rfl rfl)
theorem dX5_probeExpression_142 : decode cX5_probeExpression 142 = .ok (.iload_n 3, 1) := dk_29 (dk_at dksX5_probeExpression_5 23 rfl rfl)
theorem dX5_probeExpression_143 : decode cX5_probeExpression 143 = .ok (.iconst 1, 1) := dk_4 (dk_at dksX5_probeExpression_6 0 rfl rfl)
theorem dX5_probeExpression_144 : decode cX5_probeExpression 144 = .ok (.isub, 1) := dk_100 (dk_at dksX5_probeExpression_6 1 rfl rfl)
theorem dX5_probeExpression_145 : decode cX5_probeExpression 145 = .ok (.iaload, 1) := dk_46 (dk_at dksX5_probeExpression_6 2 rfl rfl)
theorem dX5_probeExpression_146 : decode cX5_probeExpression 146 = .ok (.putfield 347, 3) := dk_181 1 91 (dk_at dksX5_probeExpression_6 3 rfl rfl)
theorem dX5_probeExpression_149 : decode cX5_probeExpression 149 = .ok (.goto 163, 3) := dk_167 0 163 (dk_at dksX5_probeExpression_6 6 rfl rfl)
theorem dX5_probeExpression_152 : decode cX5_probeExpression 152 = .ok (.iload 6, 2) := dk_21 6 (dk_at dksX5_probeExpression_6 9 rfl rfl)
theorem dX5_probeExpression_154 : decode cX5_probeExpression 154 = .ok (.iconst 5, 1) := dk_8 (dk_at dksX5_probeExpression_6 11 rfl rfl)
theorem dX5_probeExpression_155 : decode cX5_probeExpression 155 = .ok (.if_icmp .ne 30, 3) := dk_160 0 30 (dk_at dksX5_probeExpression_6 12 rfl rfl)
theorem dX5_probeExpression_158 : decode cX5_probeExpression 158 = .ok (.iinc 3 (-1), 3) := dk_132 3 255 (dk_at dksX5_probeExpression_6 15 rfl rfl)
theorem dX5_probeExpression_161 : decode cX5_probeExpression 161 = .ok (.aload_n 0, 1) := dk_42 (dk_at dksX5_probeExpression_6 18 rfl rfl)
theorem dX5_probeExpression_162 : decode cX5_probeExpression 162 = .ok (.getfield 106, 3) := dk_180 0 106 (dk_at dksX5_probeExpression_6 19 rfl rfl)
theorem dX5_probeExpression_165 : decode cX5_probeExpression 165 = .ok (.iload_n 3, 1) := dk_29 (dk_at dksX5_probeExpression_6 22 rfl rfl)
theorem dX5_probeExpression_166 : decode cX5_probeExpression 166 = .ok (.iaload, 1) := dk_46 (dk_at dksX5_probeExpression_6 23 rfl rfl)
theorem dX5_probeExpression_167 : decode cX5_probeExpression 167 = .ok (.ifCond .ne 11, 3) := dk_154 0 11 (dk_at dksX5_probeExpression_7 0 rfl rfl)
theorem dX5_probeExpression_170 : decode cX5_probeExpression 170 = .ok (.iload 5, 2) := dk_21 5 (dk_at dksX5_probeExpression_7 3 rfl rfl)
theorem dX5_probeExpression_172 : decode cX5_probeExpression 172 = .ok (.iload 7, 2) := dk_21 7 (dk_at dksX5_probeExpression_7 5 rfl rfl)
theorem dX5_probeExpression_174 : decode cX5_probeExpression 174 = .ok (.iadd, 1) := dk_96 (dk_at dksX5_probeExpression_7 7 rfl rfl)
theorem dX5_probeExpression_175 : decode cX5_probeExpression 175 = .ok (.goto 5, 3) := dk_167 0 5 (dk_at dksX5_probeExpression_7 8 rfl rfl)
theorem dX5_probeExpression_178 : decode cX5_probeExpression 178 = .ok (.iload 5, 2) := dk_21 5 (dk_at dksX5_probeExpression_7 11 rfl rfl)
theorem dX5_probeExpression_180 : decode cX5_probeExpression 180 = .ok (.istore 5, 2) := dk_54 5 (dk_at dksX5_probeExpression_7 13 rfl rfl)
theorem dX5_probeExpression_182 : decode cX5_probeExpression 182 = .ok (.goto 130, 3) := dk_167 0 130 (dk_at dksX5_probeExpression_7 15 rfl rfl)
theorem dX5_probeExpression_185 : decode cX5_probeExpression 185 = .ok (.iload 6, 2) := dk_21 6 (dk_at dksX5_probeExpression_7 18 rfl rfl)
theorem dX5_probeExpression_187 : decode cX5_probeExpression 187 = .ok (.bipush 6, 2) := dk_16 6 (dk_at dksX5_probeExpression_7 20 rfl rfl)
theorem dX5_probeExpression_189 : decode cX5_probeExpression 189 = .ok (.if_icmp .ne 13, 3) := dk_160 0 13 (dk_at dksX5_probeExpression_8 0 rfl rfl)
theorem dX5_probeExpression_192 : decode cX5_probeExpression 192 = .ok (.iload 5, 2) := dk_21 5 (dk_at dksX5_probeExpression_8 3 rfl rfl)
theorem dX5_probeExpression_194 : decode cX5_probeExpression 194 = .ok (.iload 7, 2) := dk_21 7 (dk_at dksX5_probeExpression_8 5 rfl rfl)
theorem dX5_probeExpression_196 : decode cX5_probeExpression 196 = .ok (.iadd, 1) := dk_96 (dk_at dksX5_probeExpression_8 7 rfl rfl)
theorem dX5_probeExpression_197 : decode cX5_probeExpression 197 = .ok (.istore 5, 2) := dk_54 5 (dk_at dksX5_probeExpression_8 8 rfl rfl)
theorem dX5_probeExpression_199 : decode cX5_probeExpression 199 = .ok (.goto 113, 3) := dk_167 0 113 (dk_at dksX5_probeExpression_8 10 rfl rfl)
theorem dX5_probeExpression_202 : decode cX5_probeExpression 202 = .ok (.iload 6, 2) := dk_21 6 (dk_at dksX5_probeExpression_8 13 rfl rfl)
theorem dX5_probeExpression_204 : decode cX5_probeExpression 204 = .ok (.bipush 7, 2) := dk_16 7 (dk_at dksX5_probeExpression_8 15 rfl rfl)
theorem dX5_probeExpression_206 : decode cX5_probeExpression 206 = .ok (.if_icmp .ne 29, 3) := dk_160 0 29 (dk_at dksX5_probeExpression_8 17 rfl rfl)
theorem dX5_probeExpression_209 : decode cX5_probeExpression 209 = .ok (.aload_n 0, 1) := dk_42 (dk_at dksX5_probeExpression_8 20 rfl rfl)
theorem dX5_probeExpression_210 : decode cX5_probeExpression 210 = .ok (.getfield 109, 3) := dk_180 0 109 (dk_at dksX5_probeExpression_8 21 rfl rfl)
theorem dX5_probeExpression_213 : decode cX5_probeExpression 213 = .ok (.iload 4, 2) := dk_21 4 (dk_at dksX5_probeExpression_9 0 rfl rfl)
theorem dX5_probeExpression_215 : decode cX5_probeExpression 215 = .ok (.iload 5, 2) := dk_21 5 (dk_at dksX5_probeExpression_9 2 rfl rfl)
theorem dX5_probeExpression_217 : decode cX5_probeExpression 217 = .ok (.iload 7, 2) := dk_21 7 (dk_at dksX5_probeExpression_9 4 rfl rfl)
theorem dX5_probeExpression_219 : decode cX5_probeExpression 219 = .ok (.iadd, 1) := dk_96 (dk_at dksX5_probeExpression_9 6 rfl rfl)
theorem dX5_probeExpression_220 : decode cX5_probeExpression 220 = .ok (.iastore, 1) := dk_79 (dk_at dksX5_probeExpression_9 7 rfl rfl)
theorem dX5_probeExpression_221 : decode cX5_probeExpression 221 = .ok (.aload_n 0, 1) := dk_42 (dk_at dksX5_probeExpression_9 8 rfl rfl)
theorem dX5_probeExpression_222 : decode cX5_probeExpression 222 = .ok (.getfield 112, 3) := dk_180 0 112 (dk_at dksX5_probeExpression_9 9 rfl rfl)
theorem dX5_probeExpression_225 : decode cX5_probeExpression 225 = .ok (.iload 4, 2) := dk_21 4 (dk_at dksX5_probeExpression_9 12 rfl rfl)
theorem dX5_probeExpression_227 : decode cX5_probeExpression 227 = .ok (.iload_n 3, 1) := dk_29 (dk_at dksX5_probeExpression_9 14 rfl rfl)
theorem dX5_probeExpression_228 : decode cX5_probeExpression 228 = .ok (.iastore, 1) := dk_79 (dk_at dksX5_probeExpression_9 15 rfl rfl)
theorem dX5_probeExpression_229 : decode cX5_probeExpression 229 = .ok (.iinc 4 1, 3) := dk_132 4 1 (dk_at dksX5_probeExpression_9 16 rfl rfl)
theorem dX5_probeExpression_232 : decode cX5_probeExpression 232 = .ok (.goto 80, 3) := dk_167 0 80 (dk_at dksX5_probeExpression_9 19 rfl rfl)
theorem dX5_probeExpression_235 : decode cX5_probeExpression 235 = .ok (.iload 6, 2) := dk_21 6 (dk_at dksX5_probeExpression_9 22 rfl rfl)
theorem dX5_probeExpression_237 : decode cX5_probeExpression 237 = .ok (.bipush 8, 2) := dk_16 8 (dk_at dksX5_probeExpression_10 0 rfl rfl)
theorem dX5_probeExpression_239 : decode cX5_probeExpression 239 = .ok (.if_icmp .ne 16, 3) := dk_160 0 16 (dk_at dksX5_probeExpression_10 2 rfl rfl)
theorem dX5_probeExpression_242 : decode cX5_probeExpression 242 = .ok (.iinc 4 (-1), 3) := dk_132 4 255 (dk_at dksX5_probeExpression_10 5 rfl rfl)
theorem dX5_probeExpression_245 : decode cX5_probeExpression 245 = .ok (.iload 5, 2) := dk_21 5 (dk_at dksX5_probeExpression_10 8 rfl rfl)
theorem dX5_probeExpression_247 : decode cX5_probeExpression 247 = .ok (.iload 7, 2) := dk_21 7 (dk_at dksX5_probeExpression_10 10 rfl rfl)
theorem dX5_probeExpression_249 : decode cX5_probeExpression 249 = .ok (.iadd, 1) := dk_96 (dk_at dksX5_probeExpression_10 12 rfl rfl)
theorem dX5_probeExpression_250 : decode cX5_probeExpression 250 = .ok (.istore 5, 2) := dk_54 5 (dk_at dksX5_probeExpression_10 13 rfl rfl)
theorem dX5_probeExpression_252 : decode cX5_probeExpression 252 = .ok (.goto 60, 3) := dk_167 0 60 (dk_at dksX5_probeExpression_10 15 rfl rfl)
theorem dX5_probeExpression_255 : decode cX5_probeExpression 255 = .ok (.iload 7, 2) := dk_21 7 (dk_at dksX5_probeExpression_10 18 rfl rfl)
theorem dX5_probeExpression_257 : decode cX5_probeExpression 257 = .ok (.aload_n 0, 1) := dk_42 (dk_at dksX5_probeExpression_10 20 rfl rfl)
theorem dX5_probeExpression_258 : decode cX5_probeExpression 258 = .ok (.getfield 106, 3) := dk_180 0 106 (dk_at dksX5_probeExpression_10 21 rfl rfl)
theorem dX5_probeExpression_261 : decode cX5_probeExpression 261 = .ok (.iload_n 3, 1) := dk_29 (dk_at dksX5_probeExpression_11 0 rfl rfl)
theorem dX5_probeExpression_262 : decode cX5_probeExpression 262 = .ok (.iconst 1, 1) := dk_4 (dk_at dksX5_probeExpression_11 1 rfl rfl)
theorem dX5_probeExpression_263 : decode cX5_probeExpression 263 = .ok (.isub, 1) := dk_100 (dk_at dksX5_probeExpression_11 2 rfl rfl)
theorem dX5_probeExpression_264 : decode cX5_probeExpression 264 = .ok (.iaload, 1) := dk_46 (dk_at dksX5_probeExpression_11 3 rfl rfl)
theorem dX5_probeExpression_265 : decode cX5_probeExpression 265 = .ok (.invokestatic 350, 3) := dk_184 1 94 (dk_at dksX5_probeExpression_11 4 rfl rfl)
theorem dX5_probeExpression_268 : decode cX5_probeExpression 268 = .ok (.ifCond .eq 14, 3) := dk_153 0 14 (dk_at dksX5_probeExpression_11 7 rfl rfl)
theorem dX5_probeExpression_271 : decode cX5_probeExpression 271 = .ok (.iconst 1, 1) := dk_4 (dk_at dksX5_probeExpression_11 10 rfl rfl)
theorem dX5_probeExpression_272 : decode cX5_probeExpression 272 = .ok (.istore 8, 2) := dk_54 8 (dk_at dksX5_probeExpression_11 11 rfl rfl)
theorem dX5_probeExpression_274 : decode cX5_probeExpression 274 = .ok (.aload_n 0, 1) := dk_42 (dk_at dksX5_probeExpression_11 13 rfl rfl)
theorem dX5_probeExpression_275 : decode cX5_probeExpression 275 = .ok (.iconst (-1), 1) := dk_2 (dk_at dksX5_probeExpression_11 14 rfl rfl)
theorem dX5_probeExpression_276 : decode cX5_probeExpression 276 = .ok (.putfield 347, 3) := dk_181 1 91 (dk_at dksX5_probeExpression_11 15 rfl rfl)
theorem dX5_probeExpression_279 : decode cX5_probeExpression 279 = .ok (.goto 33, 3) := dk_167 0 33 (dk_at dksX5_probeExpression_11 18 rfl rfl)
theorem dX5_probeExpression_282 : decode cX5_probeExpression 282 = .ok (.iinc 3 (-1), 3) := dk_132 3 255 (dk_at dksX5_probeExpression_11 21 rfl rfl)
theorem dX5_probeExpression_285 : decode cX5_probeExpression 285 = .ok (.aload_n 0, 1) := dk_42 (dk_at dksX5_probeExpression_12 0 rfl rfl)
theorem dX5_probeExpression_286 : decode cX5_probeExpression 286 = .ok (.getfield 106, 3) := dk_180 0 106 (dk_at dksX5_probeExpression_12 1 rfl rfl)
theorem dX5_probeExpression_289 : decode cX5_probeExpression 289 = .ok (.iload_n 3, 1) := dk_29 (dk_at dksX5_probeExpression_12 4 rfl rfl)
theorem dX5_probeExpression_290 : decode cX5_probeExpression 290 = .ok (.iconst 1, 1) := dk_4 (dk_at dksX5_probeExpression_12 5 rfl rfl)
theorem dX5_probeExpression_291 : decode cX5_probeExpression 291 = .ok (.isub, 1) := dk_100 (dk_at dksX5_probeExpression_12 6 rfl rfl)
theorem dX5_probeExpression_292 : decode cX5_probeExpression 292 = .ok (.iload 7, 2) := dk_21 7 (dk_at dksX5_probeExpression_12 7 rfl rfl)
theorem dX5_probeExpression_294 : decode cX5_probeExpression 294 = .ok (.aload_n 0, 1) := dk_42 (dk_at dksX5_probeExpression_12 9 rfl rfl)
theorem dX5_probeExpression_295 : decode cX5_probeExpression 295 = .ok (.getfield 106, 3) := dk_180 0 106 (dk_at dksX5_probeExpression_12 10 rfl rfl)
theorem dX5_probeExpression_298 : decode cX5_probeExpression 298 = .ok (.iload_n 3, 1) := dk_29 (dk_at dksX5_probeExpression_12 13 rfl rfl)
theorem dX5_probeExpression_299 : decode cX5_probeExpression 299 = .ok (.iconst 1, 1) := dk_4 (dk_at dksX5_probeExpression_12 14 rfl rfl)
theorem dX5_probeExpression_300 : decode cX5_probeExpression 300 = .ok (.isub, 1) := dk_100 (dk_at dksX5_probeExpression_12 15 rfl rfl)
theorem dX5_probeExpression_301 : decode cX5_probeExpression 301 = .ok (.iaload, 1) := dk_46 (dk_at dksX5_probeExpression_12 16 rfl rfl)
theorem dX5_probeExpression_302 : decode cX5_probeExpression 302 = .ok (.aload_n 0, 1) := dk_42 (dk_at dksX5_probeExpression_12 17 rfl rfl)
theorem dX5_probeExpression_303 : decode cX5_probeExpression 303 = .ok (.getfield 106, 3) := dk_180 0 106 (dk_at dksX5_probeExpression_12 18 rfl rfl)
theorem dX5_probeExpression_306 : decode cX5_probeExpression 306 = .ok (.iload_n 3, 1) := dk_29 (dk_at dksX5_probeExpression_12 21 rfl rfl)
theorem dX5_probeExpression_307 : decode cX5_probeExpression 307 = .ok (.iaload, 1) := dk_46 (dk_at dksX5_probeExpression_12 22 rfl rfl)
theorem dX5_probeExpression_308 : decode cX5_probeExpression 308 = .ok (.invokestatic 353, 3) := dk_184 1 97 (dk_at dksX5_probeExpression_13 0 rfl rfl)
theorem dX5_probeExpression_311 : decode cX5_probeExpression 311 = .ok (.iastore, 1) := dk_79 (dk_at dksX5_probeExpression_13 3 rfl rfl)
theorem dX5_probeExpression_312 : decode cX5_probeExpression 312 = .ok (.iload 8, 2) := dk_21 8 (dk_at dksX5_probeExpression_13 4 rfl rfl)
theorem dX5_probeExpression_314 : decode cX5_probeExpression 314 = .ok (.ifCond .eq 34, 3) := dk_153 0 34 (dk_at dksX5_probeExpression_13 6 rfl rfl)
theorem dX5_probeExpression_317 : decode cX5_probeExpression 317 = .ok (.iload 4, 2) := dk_21 4 (dk_at dksX5_probeExpression_13 9 rfl rfl)
theorem dX5_probeExpression_319 : decode cX5_probeExpression 319 = .ok (.ifCond .ne 9, 3) := dk_154 0 9 (dk_at dksX5_probeExpression_13 11 rfl rfl)
theorem dX5_probeExpression_322 : decode cX5_probeExpression 322 = .ok (.aload_n 0, 1) := dk_42 (dk_at dksX5_probeExpression_13 14 rfl rfl)
theorem dX5_probeExpression_323 : decode cX5_probeExpression 323 = .ok (.iconst 1, 1) := dk_4 (dk_at dksX5_probeExpression_13 15 rfl rfl)
theorem dX5_probeExpression_324 : decode cX5_probeExpression 324 = .ok (.putfield 344, 3) := dk_181 1 88 (dk_at dksX5_probeExpression_13 16 rfl rfl)
theorem dX5_probeExpression_327 : decode cX5_probeExpression 327 = .ok (.return_, 1) := dk_177 (dk_at dksX5_probeExpression_13 19 rfl rfl)
theorem dX5_probeExpression_328 : decode cX5_probeExpression 328 = .ok (.iinc 4 (-1), 3) := dk_132 4 255 (dk_at dksX5_probeExpression_13 20 rfl rfl)
theorem dX5_probeExpression_331 : decode cX5_probeExpression 331 = .ok (.aload_n 0, 1) := dk_42 (dk_at dksX5_probeExpression_13 23 rfl rfl)
theorem dX5_probeExpression_332 : decode cX5_probeExpression 332 = .ok (.getfield 112, 3) := dk_180 0 112 (dk_at dksX5_probeExpression_14 0 rfl rfl)
theorem dX5_probeExpression_335 : decode cX5_probeExpression 335 = .ok (.iload 4, 2) := dk_21 4 (dk_at dksX5_probeExpression_14 3 rfl rfl)
theorem dX5_probeExpression_337 : decode cX5_probeExpression 337 = .ok (.iaload, 1) := dk_46 (dk_at dksX5_probeExpression_14 5 rfl rfl)
theorem dX5_probeExpression_338 : decode cX5_probeExpression 338 = .ok (.istore_n 3, 1) := dk_62 (dk_at dksX5_probeExpression_14 6 rfl rfl)
theorem dX5_probeExpression_339 : decode cX5_probeExpression 339 = .ok (.aload_n 0, 1) := dk_42 (dk_at dksX5_probeExpression_14 7 rfl rfl)
theorem dX5_probeExpression_340 : decode cX5_probeExpression 340 = .ok (.getfield 109, 3) := dk_180 0 109 (dk_at dksX5_probeExpression_14 8 rfl rfl)
theorem dX5_probeExpression_343 : decode cX5_probeExpression 343 = .ok (.iload 4, 2) := dk_21 4 (dk_at dksX5_probeExpression_14 11 rfl rfl)
theorem dX5_probeExpression_345 : decode cX5_probeExpression 345 = .ok (.iaload, 1) := dk_46 (dk_at dksX5_probeExpression_14 13 rfl rfl)
theorem dX5_probeExpression_346 : decode cX5_probeExpression 346 = .ok (.istore 5, 2) := dk_54 5 (dk_at dksX5_probeExpression_14 14 rfl rfl)
theorem dX5_probeExpression_348 : decode cX5_probeExpression 348 = .ok (.goto (-330), 3) := dk_167 254 182 (dk_at dksX5_probeExpression_14 16 rfl rfl)
theorem dX5_probeExpression_351 : decode cX5_probeExpression 351 = .ok (.aload_n 0, 1) := dk_42 (dk_at dksX5_probeExpression_14 19 rfl rfl)
theorem dX5_probeExpression_352 : decode cX5_probeExpression 352 = .ok (.aload_n 0, 1) := dk_42 (dk_at dksX5_probeExpression_14 20 rfl rfl)
theorem dX5_probeExpression_353 : decode cX5_probeExpression 353 = .ok (.getfield 106, 3) := dk_180 0 106 (dk_at dksX5_probeExpression_14 21 rfl rfl)
theorem dX5_probeExpression_356 : decode cX5_probeExpression 356 = .ok (.iconst 0, 1) := dk_3 (dk_at dksX5_probeExpression_15 0 rfl rfl)
theorem dX5_probeExpression_357 : decode cX5_probeExpression 357 = .ok (.iaload, 1) := dk_46 (dk_at dksX5_probeExpression_15 1 rfl rfl)
theorem dX5_probeExpression_358 : decode cX5_probeExpression 358 = .ok (.putfield 347, 3) := dk_181 1 91 (dk_at dksX5_probeExpression_15 2 rfl rfl)
theorem dX5_probeExpression_361 : decode cX5_probeExpression 361 = .ok (.return_, 1) := dk_177 (dk_at dksX5_probeExpression_15 5 rfl rfl)
abbrev cX5_isOver : ByteArray := prog_12_method_62_code
def yX5_isOver : MethodName := ⟨RX5, "isOver", "(II)Z"⟩
def dkwX5_isOver_0 : List UInt8 := [26, 16, 47, 159, 0, 9, 26, 16, 37, 160, 0, 11, 27, 154, 0, 7, 4, 167, 0, 4, 3, 172]
abbrev dktX5_isOver_0 : List UInt8 := dkwX5_isOver_0 ++ []
theorem dksX5_isOver_0 : cX5_isOver.data.toList.drop 0 = dktX5_isOver_0 := by decide +kernel
theorem dX5_isOver_0 : decode cX5_isOver 0 = .ok (.iload_n 0, 1) := dk_26 (dk_at dksX5_isOver_0 0 rfl rfl)
theorem dX5_isOver_1 : decode cX5_isOver 1 = .ok (.bipush 47, 2) := dk_16 47 (dk_at dksX5_isOver_0 1 rfl rfl)
theorem dX5_isOver_3 : decode cX5_isOver 3 = .ok (.if_icmp .eq 9, 3) := dk_159 0 9 (dk_at dksX5_isOver_0 3 rfl rfl)
theorem dX5_isOver_6 : decode cX5_isOver 6 = .ok (.iload_n 0, 1) := dk_26 (dk_at dksX5_isOver_0 6 rfl rfl)
theorem dX5_isOver_7 : decode cX5_isOver 7 = .ok (.bipush 37, 2) := dk_16 37 (dk_at dksX5_isOver_0 7 rfl rfl)
theorem dX5_isOver_9 : decode cX5_isOver 9 = .ok (.if_icmp .ne 11, 3) := dk_160 0 11 (dk_at dksX5_isOver_0 9 rfl rfl)
theorem dX5_isOver_12 : decode cX5_isOver 12 = .ok (.iload_n 1, 1) := dk_27 (dk_at dksX5_isOver_0 12 rfl rfl)
theorem dX5_isOver_13 : decode cX5_isOver 13 = .ok (.ifCond .ne 7, 3) := dk_154 0 7 (dk_at dksX5_isOver_0 13 rfl rfl)
theorem dX5_isOver_16 : decode cX5_isOver 16 = .ok (.iconst 1, 1) := dk_4 (dk_at dksX5_isOver_0 16 rfl rfl)
theorem dX5_isOver_17 : decode cX5_isOver 17 = .ok (.goto 4, 3) := dk_167 0 4 (dk_at dksX5_isOver_0 17 rfl rfl)
theorem dX5_isOver_20 : decode cX5_isOver 20 = .ok (.iconst 0, 1) := dk_3 (dk_at dksX5_isOver_0 20 rfl rfl)
theorem dX5_isOver_21 : decode cX5_isOver 21 = .ok (.ireturn, 1) := dk_172 (dk_at dksX5_isOver_0 21 rfl rfl)
abbrev cX5_result : ByteArray := prog_12_method_63_code
def yX5_result : MethodName := ⟨RX5, "result", "(III)I"⟩
def dkwX5_result_4 : List UInt8 := [160, 0, 7, 4, 167, 0, 4, 3, 172]
abbrev dktX5_result_4 : List UInt8 := dkwX5_result_4 ++ []
def dkwX5_result_3 : List UInt8 := [162, 0, 7, 4, 167, 0, 4, 3, 172, 27, 28, 164, 0, 7, 4, 167, 0, 4, 3, 172, 27, 28]
abbrev dktX5_result_3 : List UInt8 := dkwX5_result_3 ++ dktX5_result_4
def dkwX5_result_2 : List UInt8 := [27, 28, 96, 172, 27, 28, 100, 172, 27, 28, 104, 172, 27, 28, 108, 172, 27, 28, 112, 172, 27, 28]
abbrev dktX5_result_2 : List UInt8 := dkwX5_result_2 ++ dktX5_result_3
def dkwX5_result_1 : List UInt8 := [171, 0, 0, 0, 0, 0, 109, 0, 0, 0, 7, 0, 0, 0, 37, 0, 0, 0, 83, 0, 0, 0, 42, 0, 0, 0, 75, 0, 0, 0, 43, 0, 0, 0, 67, 0, 0, 0, 45, 0, 0, 0, 71, 0, 0, 0, 47, 0, 0, 0, 79, 0, 0, 0, 60, 0, 0, 0, 87, 0, 0, 0, 62, 0, 0, 0, 98]
abbrev dktX5_result_1 : List UInt8 := dkwX5_result_1 ++ dktX5_result_2
def dkwX5_result_0 : List UInt8 := [26]
abbrev dktX5_result_0 : List UInt8 := dkwX5_result_0 ++ dktX5_result_1
theorem dksX5_result_0 : cX5_result.data.toList.drop 0 = dktX5_result_0 := by decide +kernel
theorem dksX5_result_1 : cX5_result.data.toList.drop 1 = dktX5_result_1 := dk_seg dksX5_result_0 1 rfl rfl
theorem dksX5_result_2 : cX5_result.data.toList.drop 68 = dktX5_result_2 := dk_seg dksX5_result_1 67 rfl rfl
theorem dksX5_result_3 : cX5_result.data.toList.drop 90 = dktX5_result_3 := dk_seg dksX5_result_2 22 rfl rfl
theorem dksX5_result_4 : cX5_result.data.toList.drop 112 = dktX5_result_4 := dk_seg dksX5_result_3 22 rfl rfl
theorem dX5_result_0 : decode cX5_result 0 = .ok (.iload_n 0, 1) := dk_26 (dk_at dksX5_result_0 0 rfl rfl)
theorem dX5_result_1 : decode cX5_result 1 = .ok (.lookupswitch 109 #[(37, 83), (42, 75), (43, 67), (45, 71), (47, 79), (60, 87), (62, 98)], 67) := by decide +kernel
theorem dX5_result_68 : decode cX5_result 68 = .ok (.iload_n 1, 1) := dk_27 (dk_at dksX5_result_2 0 rfl rfl)
theorem dX5_result_69 : decode cX5_result 69 = .ok (.iload_n 2, 1) := dk_28 (dk_at dksX5_result_2 1 rfl rfl)
theorem dX5_result_70 : decode cX5_result 70 = .ok (.iadd, 1) := dk_96 (dk_at dksX5_result_2 2 rfl rfl)
theorem dX5_result_71 : decode cX5_result 71 = .ok (.ireturn, 1) := dk_172 (dk_at dksX5_result_2 3 rfl rfl)
theorem dX5_result_72 : decode cX5_result 72 = .ok (.iload_n 1, 1) := dk_27 (dk_at dksX5_result_2 4 rfl rfl)
theorem dX5_result_73 : decode cX5_result 73 = .ok (.iload_n 2, 1) := dk_28 (dk_at dksX5_result_2 5 rfl rfl)
theorem dX5_result_74 : decode cX5_result 74 = .ok (.isub, 1) := dk_100 (dk_at dksX5_result_2 6 rfl rfl)
theorem dX5_result_75 : decode cX5_result 75 = .ok (.ireturn, 1) := dk_172 (dk_at dksX5_result_2 7 rfl rfl)
theorem dX5_result_76 : decode cX5_result 76 = .ok (.iload_n 1, 1) := dk_27 (dk_at dksX5_result_2 8 rfl rfl)
theorem dX5_result_77 : decode cX5_result 77 = .ok (.iload_n 2, 1) := dk_28 (dk_at dksX5_result_2 9 rfl rfl)
theorem dX5_result_78 : decode cX5_result 78 = .ok (.imul, 1) := dk_104 (dk_at dksX5_result_2 10 rfl rfl)
theorem dX5_result_79 : decode cX5_result 79 = .ok (.ireturn, 1) := dk_172 (dk_at dksX5_result_2 11 rfl rfl)
theorem dX5_result_80 : decode cX5_result 80 = .ok (.iload_n 1, 1) := dk_27 (dk_at dksX5_result_2 12 rfl rfl)
theorem dX5_result_81 : decode cX5_result 81 = .ok (.iload_n 2, 1) := dk_28 (dk_at dksX5_result_2 13 rfl rfl)
theorem dX5_result_82 : decode cX5_result 82 = .ok (.idiv, 1) := dk_108 (dk_at dksX5_result_2 14 rfl rfl)
theorem dX5_result_83 : decode cX5_result 83 = .ok (.ireturn, 1) := dk_172 (dk_at dksX5_result_2 15 rfl rfl)
theorem dX5_result_84 : decode cX5_result 84 = .ok (.iload_n 1, 1) := dk_27 (dk_at dksX5_result_2 16 rfl rfl)
theorem dX5_result_85 : decode cX5_result 85 = .ok (.iload_n 2, 1) := dk_28 (dk_at dksX5_result_2 17 rfl rfl)
theorem dX5_result_86 : decode cX5_result 86 = .ok (.irem, 1) := dk_112 (dk_at dksX5_result_2 18 rfl rfl)
theorem dX5_result_87 : decode cX5_result 87 = .ok (.ireturn, 1) := dk_172 (dk_at dksX5_result_2 19 rfl rfl)
theorem dX5_result_88 : decode cX5_result 88 = .ok (.iload_n 1, 1) := dk_27 (dk_at dksX5_result_2 20 rfl rfl)
theorem dX5_result_89 : decode cX5_result 89 = .ok (.iload_n 2, 1) := dk_28 (dk_at dksX5_result_2 21 rfl rfl)
theorem dX5_result_90 : decode cX5_result 90 = .ok (.if_icmp .ge 7, 3) := dk_162 0 7 (dk_at dksX5_result_3 0 rfl rfl)
theorem dX5_result_93 : decode cX5_result 93 = .ok (.iconst 1, 1) := dk_4 (dk_at dksX5_result_3 3 rfl rfl)
theorem dX5_result_94 : decode cX5_result 94 = .ok (.goto 4, 3) := dk_167 0 4 (dk_at dksX5_result_3 4 rfl rfl)
theorem dX5_result_97 : decode cX5_result 97 = .ok (.iconst 0, 1) := dk_3 (dk_at dksX5_result_3 7 rfl rfl)
theorem dX5_result_98 : decode cX5_result 98 = .ok (.ireturn, 1) := dk_172 (dk_at dksX5_result_3 8 rfl rfl)
theorem dX5_result_99 : decode cX5_result 99 = .ok (.iload_n 1, 1) := dk_27 (dk_at dksX5_result_3 9 rfl rfl)
theorem dX5_result_100 : decode cX5_result 100 = .ok (.iload_n 2, 1) := dk_28 (dk_at dksX5_result_3 10 rfl rfl)
theorem dX5_result_101 : decode cX5_result 101 = .ok (.if_icmp .le 7, 3) := dk_164 0 7 (dk_at dksX5_result_3 11 rfl rfl)
theorem dX5_result_104 : decode cX5_result 104 = .ok (.iconst 1, 1) := dk_4 (dk_at dksX5_result_3 14 rfl rfl)
theorem dX5_result_105 : decode cX5_result 105 = .ok (.goto 4, 3) := dk_167 0 4 (dk_at dksX5_result_3 15 rfl rfl)
theorem dX5_result_108 : decode cX5_result 108 = .ok (.iconst 0, 1) := dk_3 (dk_at dksX5_result_3 18 rfl rfl)
theorem dX5_result_109 : decode cX5_result 109 = .ok (.ireturn, 1) := dk_172 (dk_at dksX5_result_3 19 rfl rfl)
theorem dX5_result_110 : decode cX5_result 110 = .ok (.iload_n 1, 1) := dk_27 (dk_at dksX5_result_3 20 rfl rfl)
theorem dX5_result_111 : decode cX5_result 111 = .ok (.iload_n 2, 1) := dk_28 (dk_at dksX5_result_3 21 rfl rfl)
theorem dX5_result_112 : decode cX5_result 112 = .ok (.if_icmp .ne 7, 3) := dk_160 0 7 (dk_at dksX5_result_4 0 rfl rfl)
theorem dX5_result_115 : decode cX5_result 115 = .ok (.iconst 1, 1) := dk_4 (dk_at dksX5_result_4 3 rfl rfl)
theorem dX5_result_116 : decode cX5_result 116 = .ok (.goto 4, 3) := dk_167 0 4 (dk_at dksX5_result_4 4 rfl rfl)
theorem dX5_result_119 : decode cX5_result 119 = .ok (.iconst 0, 1) := dk_3 (dk_at dksX5_result_4 7 rfl rfl)
theorem dX5_result_120 : decode cX5_result 120 = .ok (.ireturn, 1) := dk_172 (dk_at dksX5_result_4 8 rfl rfl)
abbrev cX5_record : ByteArray := prog_12_method_65_code
def yX5_record : MethodName := ⟨RX5, "record", "(III)V"⟩
def dkwX5_record_5 : List UInt8 := [27, 3, 79, 177]
abbrev dktX5_record_5 : List UInt8 := dkwX5_record_5 ++ []
def dkwX5_record_4 : List UInt8 := [92, 46, 4, 96, 79, 42, 180, 0, 57, 27, 46, 42, 180, 0, 54, 27, 46, 160, 0, 10, 42, 180, 0, 48]
abbrev dktX5_record_4 : List UInt8 := dkwX5_record_4 ++ dktX5_record_5
def dkwX5_record_3 : List UInt8 := [180, 0, 76, 21, 4, 7, 96, 29, 79, 42, 89, 180, 1, 100, 4, 96, 181, 1, 100, 42, 180, 0, 57, 27]
abbrev dktX5_record_3 : List UInt8 := dkwX5_record_3 ++ dktX5_record_4
def dkwX5_record_2 : List UInt8 := [79, 42, 180, 0, 76, 21, 4, 6, 96, 42, 180, 1, 88, 153, 0, 7, 4, 167, 0, 4, 3, 79, 42]
abbrev dktX5_record_2 : List UInt8 := dkwX5_record_2 ++ dktX5_record_3
def dkwX5_record_1 : List UInt8 := [27, 79, 42, 180, 0, 76, 21, 4, 4, 96, 28, 79, 42, 180, 0, 76, 21, 4, 5, 96, 42, 180, 1, 91]
abbrev dktX5_record_1 : List UInt8 := dkwX5_record_1 ++ dktX5_record_2
def dkwX5_record_0 : List UInt8 := [42, 180, 1, 100, 17, 1, 44, 162, 0, 83, 8, 42, 180, 1, 100, 104, 54, 4, 42, 180, 0, 76, 21, 4]
abbrev dktX5_record_0 : List UInt8 := dkwX5_record_0 ++ dktX5_record_1
theorem dksX5_record_0 : cX5_record.data.toList.drop 0 = dktX5_record_0 := by decide +kernel
theorem dksX5_record_1 : cX5_record.data.toList.drop 24 = dktX5_record_1 := dk_seg dksX5_record_0 24 rfl rfl
theorem dksX5_record_2 : cX5_record.data.toList.drop 48 = dktX5_record_2 := dk_seg dksX5_record_1 24 rfl rfl
theorem dksX5_record_3 : cX5_record.data.toList.drop 71 = dktX5_record_3 := dk_seg dksX5_record_2 23 rfl rfl
theorem dksX5_record_4 : cX5_record.data.toList.drop 95 = dktX5_record_4 := dk_seg dksX5_record_3 24 rfl rfl
theorem dksX5_record_5 : cX5_record.data.toList.drop 119 = dktX5_record_5 := dk_seg dksX5_record_4 24 rfl rfl
theorem dX5_record_0 : decode cX5_record 0 = .ok (.aload_n 0, 1) := dk_42 (dk_at dksX5_record_0 0 rfl rfl)
theorem dX5_record_1 : decode cX5_record 1 = .ok (.getfield 356, 3) := dk_180 1 100 (dk_at dksX5_record_0 1 rfl rfl)
theorem dX5_record_4 : decode cX5_record 4 = .ok (.sipush 300, 3) := dk_17 1 44 (dk_at dksX5_record_0 4 rfl rfl)
theorem dX5_record_7 : decode cX5_record 7 = .ok (.if_icmp .ge 83, 3) := dk_162 0 83 (dk_at dksX5_record_0 7 rfl rfl)
theorem dX5_record_10 : decode cX5_record 10 = .ok (.iconst 5, 1) := dk_8 (dk_at dksX5_record_0 10 rfl rfl)
theorem dX5_record_11 : decode cX5_record 11 = .ok (.aload_n 0, 1) := dk_42 (dk_at dksX5_record_0 11 rfl rfl)
theorem dX5_record_12 : decode cX5_record 12 = .ok (.getfield 356, 3) := dk_180 1 100 (dk_at dksX5_record_0 12 rfl rfl)
theorem dX5_record_15 : decode cX5_record 15 = .ok (.imul, 1) := dk_104 (dk_at dksX5_record_0 15 rfl rfl)
theorem dX5_record_16 : decode cX5_record 16 = .ok (.istore 4, 2) := dk_54 4 (dk_at dksX5_record_0 16 rfl rfl)
theorem dX5_record_18 : decode cX5_record 18 = .ok (.aload_n 0, 1) := dk_42 (dk_at dksX5_record_0 18 rfl rfl)
theorem dX5_record_19 : decode cX5_record 19 = .ok (.getfield 76, 3) := dk_180 0 76 (dk_at dksX5_record_0 19 rfl rfl)
theorem dX5_record_22 : decode cX5_record 22 = .ok (.iload 4, 2) := dk_21 4 (dk_at dksX5_record_0 22 rfl rfl)
theorem dX5_record_24 : decode cX5_record 24 = .ok (.iload_n 1, 1) := dk_27 (dk_at dksX5_record_1 0 rfl rfl)
theorem dX5_record_25 : decode cX5_record 25 = .ok (.iastore, 1) := dk_79 (dk_at dksX5_record_1 1 rfl rfl)
theorem dX5_record_26 : decode cX5_record 26 = .ok (.aload_n 0, 1) := dk_42 (dk_at dksX5_record_1 2 rfl rfl)
theorem dX5_record_27 : decode cX5_record 27 = .ok (.getfield 76, 3) := dk_180 0 76 (dk_at dksX5_record_1 3 rfl rfl)
theorem dX5_record_30 : decode cX5_record 30 = .ok (.iload 4, 2) := dk_21 4 (dk_at dksX5_record_1 6 rfl rfl)
theorem dX5_record_32 : decode cX5_record 32 = .ok (.iconst 1, 1) := dk_4 (dk_at dksX5_record_1 8 rfl rfl)
theorem dX5_record_33 : decode cX5_record 33 = .ok (.iadd, 1) := dk_96 (dk_at dksX5_record_1 9 rfl rfl)
theorem dX5_record_34 : decode cX5_record 34 = .ok (.iload_n 2, 1) := dk_28 (dk_at dksX5_record_1 10 rfl rfl)
theorem dX5_record_35 : decode cX5_record 35 = .ok (.iastore, 1) := dk_79 (dk_at dksX5_record_1 11 rfl rfl)
theorem dX5_record_36 : decode cX5_record 36 = .ok (.aload_n 0, 1) := dk_42 (dk_at dksX5_record_1 12 rfl rfl)
theorem dX5_record_37 : decode cX5_record 37 = .ok (.getfield 76, 3) := dk_180 0 76 (dk_at dksX5_record_1 13 rfl rfl)
theorem dX5_record_40 : decode cX5_record 40 = .ok (.iload 4, 2) := dk_21 4 (dk_at dksX5_record_1 16 rfl rfl)
theorem dX5_record_42 : decode cX5_record 42 = .ok (.iconst 2, 1) := dk_5 (dk_at dksX5_record_1 18 rfl rfl)
theorem dX5_record_43 : decode cX5_record 43 = .ok (.iadd, 1) := dk_96 (dk_at dksX5_record_1 19 rfl rfl)
theorem dX5_record_44 : decode cX5_record 44 = .ok (.aload_n 0, 1) := dk_42 (dk_at dksX5_record_1 20 rfl rfl)
theorem dX5_record_45 : decode cX5_record 45 = .ok (.getfield 347, 3) := dk_180 1 91 (dk_at dksX5_record_1 21 rfl rfl)
theorem dX5_record_48 : decode cX5_record 48 = .ok (.iastore, 1) := dk_79 (dk_at dksX5_record_2 0 rfl rfl)
theorem dX5_record_49 : decode cX5_record 49 = .ok (.aload_n 0, 1) := dk_42 (dk_at dksX5_record_2 1 rfl rfl)
theorem dX5_record_50 : decode cX5_record 50 = .ok (.getfield 76, 3) := dk_180 0 76 (dk_at dksX5_record_2 2 rfl rfl)
theorem dX5_record_53 : decode cX5_record 53 = .ok (.iload 4, 2) := dk_21 4 (dk_at dksX5_record_2 5 rfl rfl)
theorem dX5_record_55 : decode cX5_record 55 = .ok (.iconst 3, 1) := dk_6 (dk_at dksX5_record_2 7 rfl rfl)
theorem dX5_record_56 : decode cX5_record 56 = .ok (.iadd, 1) := dk_96 (dk_at dksX5_record_2 8 rfl rfl)
theorem dX5_record_57 : decode cX5_record 57 = .ok (.aload_n 0, 1) := dk_42 (dk_at dksX5_record_2 9 rfl rfl)
theorem dX5_record_58 : decode cX5_record 58 = .ok (.getfield 344, 3) := dk_180 1 88 (dk_at dksX5_record_2 10 rfl rfl)
theorem dX5_record_61 : decode cX5_record 61 = .ok (.ifCond .eq 7, 3) := dk_153 0 7 (dk_at dksX5_record_2 13 rfl rfl)
theorem dX5_record_64 : decode cX5_record 64 = .ok (.iconst 1, 1) := dk_4 (dk_at dksX5_record_2 16 rfl rfl)
theorem dX5_record_65 : decode cX5_record 65 = .ok (.goto 4, 3) := dk_167 0 4 (dk_at dksX5_record_2 17 rfl rfl)
theorem dX5_record_68 : decode cX5_record 68 = .ok (.iconst 0, 1) := dk_3 (dk_at dksX5_record_2 20 rfl rfl)
theorem dX5_record_69 : decode cX5_record 69 = .ok (.iastore, 1) := dk_79 (dk_at dksX5_record_2 21 rfl rfl)
theorem dX5_record_70 : decode cX5_record 70 = .ok (.aload_n 0, 1) := dk_42 (dk_at dksX5_record_2 22 rfl rfl)
theorem dX5_record_71 : decode cX5_record 71 = .ok (.getfield 76, 3) := dk_180 0 76 (dk_at dksX5_record_3 0 rfl rfl)
theorem dX5_record_74 : decode cX5_record 74 = .ok (.iload 4, 2) := dk_21 4 (dk_at dksX5_record_3 3 rfl rfl)
theorem dX5_record_76 : decode cX5_record 76 = .ok (.iconst 4, 1) := dk_7 (dk_at dksX5_record_3 5 rfl rfl)
theorem dX5_record_77 : decode cX5_record 77 = .ok (.iadd, 1) := dk_96 (dk_at dksX5_record_3 6 rfl rfl)
theorem dX5_record_78 : decode cX5_record 78 = .ok (.iload_n 3, 1) := dk_29 (dk_at dksX5_record_3 7 rfl rfl)
theorem dX5_record_79 : decode cX5_record 79 = .ok (.iastore, 1) := dk_79 (dk_at dksX5_record_3 8 rfl rfl)
theorem dX5_record_80 : decode cX5_record 80 = .ok (.aload_n 0, 1) := dk_42 (dk_at dksX5_record_3 9 rfl rfl)
theorem dX5_record_81 : decode cX5_record 81 = .ok (.dup, 1) := dk_89 (dk_at dksX5_record_3 10 rfl rfl)
theorem dX5_record_82 : decode cX5_record 82 = .ok (.getfield 356, 3) := dk_180 1 100 (dk_at dksX5_record_3 11 rfl rfl)
theorem dX5_record_85 : decode cX5_record 85 = .ok (.iconst 1, 1) := dk_4 (dk_at dksX5_record_3 14 rfl rfl)
theorem dX5_record_86 : decode cX5_record 86 = .ok (.iadd, 1) := dk_96 (dk_at dksX5_record_3 15 rfl rfl)
theorem dX5_record_87 : decode cX5_record 87 = .ok (.putfield 356, 3) := dk_181 1 100 (dk_at dksX5_record_3 16 rfl rfl)
theorem dX5_record_90 : decode cX5_record 90 = .ok (.aload_n 0, 1) := dk_42 (dk_at dksX5_record_3 19 rfl rfl)
theorem dX5_record_91 : decode cX5_record 91 = .ok (.getfield 57, 3) := dk_180 0 57 (dk_at dksX5_record_3 20 rfl rfl)
theorem dX5_record_94 : decode cX5_record 94 = .ok (.iload_n 1, 1) := dk_27 (dk_at dksX5_record_3 23 rfl rfl)
theorem dX5_record_95 : decode cX5_record 95 = .ok (.dup2, 1) := dk_92 (dk_at dksX5_record_4 0 rfl rfl)
theorem dX5_record_96 : decode cX5_record 96 = .ok (.iaload, 1) := dk_46 (dk_at dksX5_record_4 1 rfl rfl)
theorem dX5_record_97 : decode cX5_record 97 = .ok (.iconst 1, 1) := dk_4 (dk_at dksX5_record_4 2 rfl rfl)
theorem dX5_record_98 : decode cX5_record 98 = .ok (.iadd, 1) := dk_96 (dk_at dksX5_record_4 3 rfl rfl)
theorem dX5_record_99 : decode cX5_record 99 = .ok (.iastore, 1) := dk_79 (dk_at dksX5_record_4 4 rfl rfl)
theorem dX5_record_100 : decode cX5_record 100 = .ok (.aload_n 0, 1) := dk_42 (dk_at dksX5_record_4 5 rfl rfl)
theorem dX5_record_101 : decode cX5_record 101 = .ok (.getfield 57, 3) := dk_180 0 57 (dk_at dksX5_record_4 6 rfl rfl)
theorem dX5_record_104 : decode cX5_record 104 = .ok (.iload_n 1, 1) := dk_27 (dk_at dksX5_record_4 9 rfl rfl)
theorem dX5_record_105 : decode cX5_record 105 = .ok (.iaload, 1) := dk_46 (dk_at dksX5_record_4 10 rfl rfl)
theorem dX5_record_106 : decode cX5_record 106 = .ok (.aload_n 0, 1) := dk_42 (dk_at dksX5_record_4 11 rfl rfl)
theorem dX5_record_107 : decode cX5_record 107 = .ok (.getfield 54, 3) := dk_180 0 54 (dk_at dksX5_record_4 12 rfl rfl)
theorem dX5_record_110 : decode cX5_record 110 = .ok (.iload_n 1, 1) := dk_27 (dk_at dksX5_record_4 15 rfl rfl)
theorem dX5_record_111 : decode cX5_record 111 = .ok (.iaload, 1) := dk_46 (dk_at dksX5_record_4 16 rfl rfl)
theorem dX5_record_112 : decode cX5_record 112 = .ok (.if_icmp .ne 10, 3) := dk_160 0 10 (dk_at dksX5_record_4 17 rfl rfl)
theorem dX5_record_115 : decode cX5_record 115 = .ok (.aload_n 0, 1) := dk_42 (dk_at dksX5_record_4 20 rfl rfl)
theorem dX5_record_116 : decode cX5_record 116 = .ok (.getfield 48, 3) := dk_180 0 48 (dk_at dksX5_record_4 21 rfl rfl)
theorem dX5_record_119 : decode cX5_record 119 = .ok (.iload_n 1, 1) := dk_27 (dk_at dksX5_record_5 0 rfl rfl)
theorem dX5_record_120 : decode cX5_record 120 = .ok (.iconst 0, 1) := dk_3 (dk_at dksX5_record_5 1 rfl rfl)
theorem dX5_record_121 : decode cX5_record 121 = .ok (.iastore, 1) := dk_79 (dk_at dksX5_record_5 2 rfl rfl)
theorem dX5_record_122 : decode cX5_record 122 = .ok (.return_, 1) := dk_177 (dk_at dksX5_record_5 3 rfl rfl)
abbrev cX5_keepOne : ByteArray := prog_12_method_67_code
def yX5_keepOne : MethodName := ⟨RX5, "keepOne", "(IIII)V"⟩
def dkwX5_keepOne_4 : List UInt8 := [180, 0, 79, 21, 5, 16, 6, 96, 21, 4, 79, 42, 89, 180, 1, 109, 4, 96, 181, 1, 109, 177]
abbrev dktX5_keepOne_4 : List UInt8 := dkwX5_keepOne_4 ++ []
def dkwX5_keepOne_3 : List UInt8 := [96, 46, 79, 132, 6, 1, 167, 255, 224, 42, 180, 0, 79, 21, 5, 8, 96, 29, 4, 100, 79, 42]
abbrev dktX5_keepOne_3 : List UInt8 := dkwX5_keepOne_3 ++ dktX5_keepOne_4
def dkwX5_keepOne_2 : List UInt8 := [6, 162, 0, 32, 42, 180, 0, 79, 21, 5, 5, 96, 21, 6, 96, 42, 180, 0, 85, 6, 28, 104, 21, 6]
abbrev dktX5_keepOne_2 : List UInt8 := dkwX5_keepOne_2 ++ dktX5_keepOne_3
def dkwX5_keepOne_1 : List UInt8 := [21, 5, 27, 79, 42, 180, 0, 79, 21, 5, 4, 96, 42, 180, 0, 82, 28, 46, 79, 3, 54, 6, 21, 6]
abbrev dktX5_keepOne_1 : List UInt8 := dkwX5_keepOne_1 ++ dktX5_keepOne_2
def dkwX5_keepOne_0 : List UInt8 := [42, 180, 1, 109, 16, 40, 160, 0, 4, 177, 16, 7, 42, 180, 1, 109, 104, 54, 5, 42, 180, 0, 79]
abbrev dktX5_keepOne_0 : List UInt8 := dkwX5_keepOne_0 ++ dktX5_keepOne_1
theorem dksX5_keepOne_0 : cX5_keepOne.data.toList.drop 0 = dktX5_keepOne_0 := by decide +kernel
theorem dksX5_keepOne_1 : cX5_keepOne.data.toList.drop 23 = dktX5_keepOne_1 := dk_seg dksX5_keepOne_0 23 rfl rfl
theorem dksX5_keepOne_2 : cX5_keepOne.data.toList.drop 47 = dktX5_keepOne_2 := dk_seg dksX5_keepOne_1 24 rfl rfl
theorem dksX5_keepOne_3 : cX5_keepOne.data.toList.drop 71 = dktX5_keepOne_3 := dk_seg dksX5_keepOne_2 24 rfl rfl
theorem dksX5_keepOne_4 : cX5_keepOne.data.toList.drop 93 = dktX5_keepOne_4 := dk_seg dksX5_keepOne_3 22 rfl rfl
theorem dX5_keepOne_0 : decode cX5_keepOne 0 = .ok (.aload_n 0, 1) := dk_42 (dk_at dksX5_keepOne_0 0 rfl rfl)
theorem dX5_keepOne_1 : decode cX5_keepOne 1 = .ok (.getfield 365, 3) := dk_180 1 109 (dk_at dksX5_keepOne_0 1 rfl rfl)
theorem dX5_keepOne_4 : decode cX5_keepOne 4 = .ok (.bipush 40, 2) := dk_16 40 (dk_at dksX5_keepOne_0 4 rfl rfl)
theorem dX5_keepOne_6 : decode cX5_keepOne 6 = .ok (.if_icmp .ne 4, 3) := dk_160 0 4 (dk_at dksX5_keepOne_0 6 rfl rfl)
theorem dX5_keepOne_9 : decode cX5_keepOne 9 = .ok (.return_, 1) := dk_177 (dk_at dksX5_keepOne_0 9 rfl rfl)
theorem dX5_keepOne_10 : decode cX5_keepOne 10 = .ok (.bipush 7, 2) := dk_16 7 (dk_at dksX5_keepOne_0 10 rfl rfl)
theorem dX5_keepOne_12 : decode cX5_keepOne 12 = .ok (.aload_n 0, 1) := dk_42 (dk_at dksX5_keepOne_0 12 rfl rfl)
theorem dX5_keepOne_13 : decode cX5_keepOne 13 = .ok (.getfield 365, 3) := dk_180 1 109 (dk_at dksX5_keepOne_0 13 rfl rfl)
theorem dX5_keepOne_16 : decode cX5_keepOne 16 = .ok (.imul, 1) := dk_104 (dk_at dksX5_keepOne_0 16 rfl rfl)
theorem dX5_keepOne_17 : decode cX5_keepOne 17 = .ok (.istore 5, 2) := dk_54 5 (dk_at dksX5_keepOne_0 17 rfl rfl)
theorem dX5_keepOne_19 : decode cX5_keepOne 19 = .ok (.aload_n 0, 1) := dk_42 (dk_at dksX5_keepOne_0 19 rfl rfl)
theorem dX5_keepOne_20 : decode cX5_keepOne 20 = .ok (.getfield 79, 3) := dk_180 0 79 (dk_at dksX5_keepOne_0 20 rfl rfl)
theorem dX5_keepOne_23 : decode cX5_keepOne 23 = .ok (.iload 5, 2) := dk_21 5 (dk_at dksX5_keepOne_1 0 rfl rfl)
theorem dX5_keepOne_25 : decode cX5_keepOne 25 = .ok (.iload_n 1, 1) := dk_27 (dk_at dksX5_keepOne_1 2 rfl rfl)
theorem dX5_keepOne_26 : decode cX5_keepOne 26 = .ok (.iastore, 1) := dk_79 (dk_at dksX5_keepOne_1 3 rfl rfl)
theorem dX5_keepOne_27 : decode cX5_keepOne 27 = .ok (.aload_n 0, 1) := dk_42 (dk_at dksX5_keepOne_1 4 rfl rfl)
theorem dX5_keepOne_28 : decode cX5_keepOne 28 = .ok (.getfield 79, 3) := dk_180 0 79 (dk_at dksX5_keepOne_1 5 rfl rfl)
theorem dX5_keepOne_31 : decode cX5_keepOne 31 = .ok (.iload 5, 2) := dk_21 5 (dk_at dksX5_keepOne_1 8 rfl rfl)
theorem dX5_keepOne_33 : decode cX5_keepOne 33 = .ok (.iconst 1, 1) := dk_4 (dk_at dksX5_keepOne_1 10 rfl rfl)
theorem dX5_keepOne_34 : decode cX5_keepOne 34 = .ok (.iadd, 1) := dk_96 (dk_at dksX5_keepOne_1 11 rfl rfl)
theorem dX5_keepOne_35 : decode cX5_keepOne 35 = .ok (.aload_n 0, 1) := dk_42 (dk_at dksX5_keepOne_1 12 rfl rfl)
theorem dX5_keepOne_36 : decode cX5_keepOne 36 = .ok (.getfield 82, 3) := dk_180 0 82 (dk_at dksX5_keepOne_1 13 rfl rfl)
theorem dX5_keepOne_39 : decode cX5_keepOne 39 = .ok (.iload_n 2, 1) := dk_28 (dk_at dksX5_keepOne_1 16 rfl rfl)
theorem dX5_keepOne_40 : decode cX5_keepOne 40 = .ok (.iaload, 1) := dk_46 (dk_at dksX5_keepOne_1 17 rfl rfl)
theorem dX5_keepOne_41 : decode cX5_keepOne 41 = .ok (.iastore, 1) := dk_79 (dk_at dksX5_keepOne_1 18 rfl rfl)
theorem dX5_keepOne_42 : decode cX5_keepOne 42 = .ok (.iconst 0, 1) := dk_3 (dk_at dksX5_keepOne_1 19 rfl rfl)
theorem dX5_keepOne_43 : decode cX5_keepOne 43 = .ok (.istore 6, 2) := dk_54 6 (dk_at dksX5_keepOne_1 20 rfl rfl)
theorem dX5_keepOne_45 : decode cX5_keepOne 45 = .ok (.iload 6, 2) := dk_21 6 (dk_at dksX5_keepOne_1 22 rfl rfl)
theorem dX5_keepOne_47 : decode cX5_keepOne 47 = .ok (.iconst 3, 1) := dk_6 (dk_at dksX5_keepOne_2 0 rfl rfl)
theorem dX5_keepOne_48 : decode cX5_keepOne 48 = .ok (.if_icmp .ge 32, 3) := dk_162 0 32 (dk_at dksX5_keepOne_2 1 rfl rfl)
theorem dX5_keepOne_51 : decode cX5_keepOne 51 = .ok (.aload_n 0, 1) := dk_42 (dk_at dksX5_keepOne_2 4 rfl rfl)
theorem dX5_keepOne_52 : decode cX5_keepOne 52 = .ok (.getfield 79, 3) := dk_180 0 79 (dk_at dksX5_keepOne_2 5 rfl rfl)
theorem dX5_keepOne_55 : decode cX5_keepOne 55 = .ok (.iload 5, 2) := dk_21 5 (dk_at dksX5_keepOne_2 8 rfl rfl)
theorem dX5_keepOne_57 : decode cX5_keepOne 57 = .ok (.iconst 2, 1) := dk_5 (dk_at dksX5_keepOne_2 10 rfl rfl)
theorem dX5_keepOne_58 : decode cX5_keepOne 58 = .ok (.iadd, 1) := dk_96 (dk_at dksX5_keepOne_2 11 rfl rfl)
theorem dX5_keepOne_59 : decode cX5_keepOne 59 = .ok (.iload 6, 2) := dk_21 6 (dk_at dksX5_keepOne_2 12 rfl rfl)
theorem dX5_keepOne_61 : decode cX5_keepOne 61 = .ok (.iadd, 1) := dk_96 (dk_at dksX5_keepOne_2 14 rfl rfl)
theorem dX5_keepOne_62 : decode cX5_keepOne 62 = .ok (.aload_n 0, 1) := dk_42 (dk_at dksX5_keepOne_2 15 rfl rfl)
theorem dX5_keepOne_63 : decode cX5_keepOne 63 = .ok (.getfield 85, 3) := dk_180 0 85 (dk_at dksX5_keepOne_2 16 rfl rfl)
theorem dX5_keepOne_66 : decode cX5_keepOne 66 = .ok (.iconst 3, 1) := dk_6 (dk_at dksX5_keepOne_2 19 rfl rfl)
theorem dX5_keepOne_67 : decode cX5_keepOne 67 = .ok (.iload_n 2, 1) := dk_28 (dk_at dksX5_keepOne_2 20 rfl rfl)
theorem dX5_keepOne_68 : decode cX5_keepOne 68 = .ok (.imul, 1) := dk_104 (dk_at dksX5_keepOne_2 21 rfl rfl)
theorem dX5_keepOne_69 : decode cX5_keepOne 69 = .ok (.iload 6, 2) := dk_21 6 (dk_at dksX5_keepOne_2 22 rfl rfl)
theorem dX5_keepOne_71 : decode cX5_keepOne 71 = .ok (.iadd, 1) := dk_96 (dk_at dksX5_keepOne_3 0 rfl rfl)
theorem dX5_keepOne_72 : decode cX5_keepOne 72 = .ok (.iaload, 1) := dk_46 (dk_at dksX5_keepOne_3 1 rfl rfl)
theorem dX5_keepOne_73 : decode cX5_keepOne 73 = .ok (.iastore, 1) := dk_79 (dk_at dksX5_keepOne_3 2 rfl rfl)
theorem dX5_keepOne_74 : decode cX5_keepOne 74 = .ok (.iinc 6 1, 3) := dk_132 6 1 (dk_at dksX5_keepOne_3 3 rfl rfl)
theorem dX5_keepOne_77 : decode cX5_keepOne 77 = .ok (.goto (-32), 3) := dk_167 255 224 (dk_at dksX5_keepOne_3 6 rfl rfl)
theorem dX5_keepOne_80 : decode cX5_keepOne 80 = .ok (.aload_n 0, 1) := dk_42 (dk_at dksX5_keepOne_3 9 rfl rfl)
theorem dX5_keepOne_81 : decode cX5_keepOne 81 = .ok (.getfield 79, 3) := dk_180 0 79 (dk_at dksX5_keepOne_3 10 rfl rfl)
theorem dX5_keepOne_84 : decode cX5_keepOne 84 = .ok (.iload 5, 2) := dk_21 5 (dk_at dksX5_keepOne_3 13 rfl rfl)
theorem dX5_keepOne_86 : decode cX5_keepOne 86 = .ok (.iconst 5, 1) := dk_8 (dk_at dksX5_keepOne_3 15 rfl rfl)
theorem dX5_keepOne_87 : decode cX5_keepOne 87 = .ok (.iadd, 1) := dk_96 (dk_at dksX5_keepOne_3 16 rfl rfl)
theorem dX5_keepOne_88 : decode cX5_keepOne 88 = .ok (.iload_n 3, 1) := dk_29 (dk_at dksX5_keepOne_3 17 rfl rfl)
theorem dX5_keepOne_89 : decode cX5_keepOne 89 = .ok (.iconst 1, 1) := dk_4 (dk_at dksX5_keepOne_3 18 rfl rfl)
theorem dX5_keepOne_90 : decode cX5_keepOne 90 = .ok (.isub, 1) := dk_100 (dk_at dksX5_keepOne_3 19 rfl rfl)
theorem dX5_keepOne_91 : decode cX5_keepOne 91 = .ok (.iastore, 1) := dk_79 (dk_at dksX5_keepOne_3 20 rfl rfl)
theorem dX5_keepOne_92 : decode cX5_keepOne 92 = .ok (.aload_n 0, 1) := dk_42 (dk_at dksX5_keepOne_3 21 rfl rfl)
theorem dX5_keepOne_93 : decode cX5_keepOne 93 = .ok (.getfield 79, 3) := dk_180 0 79 (dk_at dksX5_keepOne_4 0 rfl rfl)
theorem dX5_keepOne_96 : decode cX5_keepOne 96 = .ok (.iload 5, 2) := dk_21 5 (dk_at dksX5_keepOne_4 3 rfl rfl)
theorem dX5_keepOne_98 : decode cX5_keepOne 98 = .ok (.bipush 6, 2) := dk_16 6 (dk_at dksX5_keepOne_4 5 rfl rfl)
theorem dX5_keepOne_100 : decode cX5_keepOne 100 = .ok (.iadd, 1) := dk_96 (dk_at dksX5_keepOne_4 7 rfl rfl)
theorem dX5_keepOne_101 : decode cX5_keepOne 101 = .ok (.iload 4, 2) := dk_21 4 (dk_at dksX5_keepOne_4 8 rfl rfl)
theorem dX5_keepOne_103 : decode cX5_keepOne 103 = .ok (.iastore, 1) := dk_79 (dk_at dksX5_keepOne_4 10 rfl rfl)
theorem dX5_keepOne_104 : decode cX5_keepOne 104 = .ok (.aload_n 0, 1) := dk_42 (dk_at dksX5_keepOne_4 11 rfl rfl)
theorem dX5_keepOne_105 : decode cX5_keepOne 105 = .ok (.dup, 1) := dk_89 (dk_at dksX5_keepOne_4 12 rfl rfl)
theorem dX5_keepOne_106 : decode cX5_keepOne 106 = .ok (.getfield 365, 3) := dk_180 1 109 (dk_at dksX5_keepOne_4 13 rfl rfl)
theorem dX5_keepOne_109 : decode cX5_keepOne 109 = .ok (.iconst 1, 1) := dk_4 (dk_at dksX5_keepOne_4 16 rfl rfl)
theorem dX5_keepOne_110 : decode cX5_keepOne 110 = .ok (.iadd, 1) := dk_96 (dk_at dksX5_keepOne_4 17 rfl rfl)
theorem dX5_keepOne_111 : decode cX5_keepOne 111 = .ok (.putfield 365, 3) := dk_181 1 109 (dk_at dksX5_keepOne_4 18 rfl rfl)
theorem dX5_keepOne_114 : decode cX5_keepOne 114 = .ok (.return_, 1) := dk_177 (dk_at dksX5_keepOne_4 21 rfl rfl)
abbrev cX5_step : ByteArray := prog_12_method_75_code
def yX5_step : MethodName := ⟨RX5, "step", "()V"⟩
def dkwX5_step_19 : List UInt8 := [184, 1, 97, 79, 177]
abbrev dktX5_step_19 : List UInt8 := dkwX5_step_19 ++ []
def dkwX5_step_18 : List UInt8 := [21, 6, 42, 180, 0, 91, 42, 180, 1, 143, 4, 100, 46, 42, 180, 0, 91, 42, 180, 1, 143, 46]
abbrev dktX5_step_18 : List UInt8 := dkwX5_step_18 ++ dktX5_step_19
def dkwX5_step_17 : List UInt8 := [167, 0, 49, 42, 89, 180, 1, 143, 4, 100, 181, 1, 143, 42, 180, 0, 91, 42, 180, 1, 143, 4, 100]
abbrev dktX5_step_17 : List UInt8 := dkwX5_step_17 ++ dktX5_step_18
def dkwX5_step_16 : List UInt8 := [46, 184, 1, 94, 153, 0, 21, 42, 42, 180, 1, 143, 5, 100, 181, 1, 143, 42, 2, 182, 1, 151]
abbrev dktX5_step_16 : List UInt8 := dkwX5_step_16 ++ dktX5_step_17
def dkwX5_step_15 : List UInt8 := [160, 0, 12, 42, 22, 4, 182, 1, 163, 167, 0, 86, 21, 6, 42, 180, 0, 91, 42, 180, 1, 143, 4, 100]
abbrev dktX5_step_15 : List UInt8 := dkwX5_step_15 ++ dktX5_step_16
def dkwX5_step_14 : List UInt8 := [181, 1, 140, 42, 180, 0, 88, 42, 180, 1, 125, 28, 4, 96, 21, 6, 96, 79, 167, 0, 101, 29, 16, 9]
abbrev dktX5_step_14 : List UInt8 := dkwX5_step_14 ++ dktX5_step_15
def dkwX5_step_13 : List UInt8 := [180, 1, 140, 4, 96, 181, 1, 140, 167, 0, 135, 29, 16, 8, 160, 0, 31, 42, 89, 180, 1, 140, 4, 100]
abbrev dktX5_step_13 : List UInt8 := dkwX5_step_13 ++ dktX5_step_14
def dkwX5_step_12 : List UInt8 := [180, 1, 140, 42, 180, 1, 143, 79, 42, 180, 0, 100, 42, 180, 1, 140, 42, 180, 1, 125, 79, 42, 89]
abbrev dktX5_step_12 : List UInt8 := dkwX5_step_12 ++ dktX5_step_13
def dkwX5_step_11 : List UInt8 := [160, 0, 57, 42, 180, 0, 94, 42, 180, 1, 140, 28, 4, 96, 21, 6, 96, 79, 42, 180, 0, 97, 42]
abbrev dktX5_step_11 : List UInt8 := dkwX5_step_11 ++ dktX5_step_12
def dkwX5_step_10 : List UInt8 := [160, 0, 21, 42, 180, 0, 88, 42, 180, 1, 125, 28, 4, 96, 21, 6, 96, 79, 167, 0, 195, 29, 16, 7]
abbrev dktX5_step_10 : List UInt8 := dkwX5_step_10 ++ dktX5_step_11
def dkwX5_step_9 : List UInt8 := [154, 0, 12, 28, 4, 96, 21, 6, 96, 167, 0, 6, 28, 4, 96, 79, 167, 0, 219, 29, 16, 6]
abbrev dktX5_step_9 : List UInt8 := dkwX5_step_9 ++ dktX5_step_10
def dkwX5_step_8 : List UInt8 := [4, 100, 181, 1, 143, 42, 180, 0, 88, 42, 180, 1, 125, 42, 180, 0, 91, 42, 180, 1, 143, 46]
abbrev dktX5_step_8 : List UInt8 := dkwX5_step_8 ++ dktX5_step_9
def dkwX5_step_7 : List UInt8 := [180, 0, 91, 42, 180, 1, 143, 46, 182, 1, 151, 167, 1, 14, 29, 8, 160, 0, 49, 42, 89, 180, 1, 143]
abbrev dktX5_step_7 : List UInt8 := dkwX5_step_7 ++ dktX5_step_8
def dkwX5_step_6 : List UInt8 := [100, 46, 116, 79, 167, 1, 45, 29, 7, 160, 0, 29, 42, 89, 180, 1, 143, 4, 100, 181, 1, 143, 42, 42]
abbrev dktX5_step_6 : List UInt8 := dkwX5_step_6 ++ dktX5_step_7
def dkwX5_step_5 : List UInt8 := [29, 6, 160, 0, 29, 42, 180, 0, 91, 42, 180, 1, 143, 4, 100, 42, 180, 0, 91, 42, 180, 1, 143, 4]
abbrev dktX5_step_5 : List UInt8 := dkwX5_step_5 ++ dktX5_step_6
def dkwX5_step_4 : List UInt8 := [160, 0, 24, 42, 42, 180, 0, 85, 6, 42, 180, 1, 125, 104, 21, 6, 96, 46, 182, 1, 146, 167, 1, 76]
abbrev dktX5_step_4 : List UInt8 := dkwX5_step_4 ++ dktX5_step_5
def dkwX5_step_3 : List UInt8 := [180, 1, 125, 28, 4, 96, 79, 29, 154, 0, 12, 42, 21, 6, 182, 1, 146, 167, 1, 102, 29, 4]
abbrev dktX5_step_3 : List UInt8 := dkwX5_step_3 ++ dktX5_step_4
def dkwX5_step_2 : List UInt8 := [62, 42, 180, 0, 20, 27, 184, 0, 141, 28, 96, 47, 55, 4, 22, 4, 136, 54, 6, 42, 180, 0, 88, 42]
abbrev dktX5_step_2 : List UInt8 := dkwX5_step_2 ++ dktX5_step_3
def dkwX5_step_1 : List UInt8 := [180, 0, 24, 27, 46, 160, 0, 8, 42, 182, 1, 160, 177, 42, 180, 0, 17, 27, 184, 0, 141, 28, 96, 46]
abbrev dktX5_step_1 : List UInt8 := dkwX5_step_1 ++ dktX5_step_2
def dkwX5_step_0 : List UInt8 := [42, 180, 0, 82, 42, 180, 1, 125, 46, 60, 42, 180, 0, 88, 42, 180, 1, 125, 46, 61, 28, 42]
abbrev dktX5_step_0 : List UInt8 := dkwX5_step_0 ++ dktX5_step_1
theorem dksX5_step_0 : cX5_step.data.toList.drop 0 = dktX5_step_0 := by decide +kernel
theorem dksX5_step_1 : cX5_step.data.toList.drop 22 = dktX5_step_1 := dk_seg dksX5_step_0 22 rfl rfl
theorem dksX5_step_2 : cX5_step.data.toList.drop 46 = dktX5_step_2 := dk_seg dksX5_step_1 24 rfl rfl
theorem dksX5_step_3 : cX5_step.data.toList.drop 70 = dktX5_step_3 := dk_seg dksX5_step_2 24 rfl rfl
theorem dksX5_step_4 : cX5_step.data.toList.drop 92 = dktX5_step_4 := dk_seg dksX5_step_3 22 rfl rfl
theorem dksX5_step_5 : cX5_step.data.toList.drop 116 = dktX5_step_5 := dk_seg dksX5_step_4 24 rfl rfl
theorem dksX5_step_6 : cX5_step.data.toList.drop 140 = dktX5_step_6 := dk_seg dksX5_step_5 24 rfl rfl
theorem dksX5_step_7 : cX5_step.data.toList.drop 164 = dktX5_step_7 := dk_seg dksX5_step_6 24 rfl rfl
theorem dksX5_step_8 : cX5_step.data.toList.drop 188 = dktX5_step_8 := dk_seg dksX5_step_7 24 rfl rfl
theorem dksX5_step_9 : cX5_step.data.toList.drop 210 = dktX5_step_9 := dk_seg dksX5_step_8 22 rfl rfl
theorem dksX5_step_10 : cX5_step.data.toList.drop 232 = dktX5_step_10 := dk_seg dksX5_step_9 22 rfl rfl
theorem dksX5_step_11 : cX5_step.data.toList.drop 256 = dktX5_step_11 := dk_seg dksX5_step_10 24 rfl rfl
theorem dksX5_step_12 : cX5_step.data.toList.drop 279 = dktX5_step_12 := dk_seg dksX5_step_11 23 rfl rfl
theorem dksX5_step_13 : cX5_step.data.toList.drop 302 = dktX5_step_13 := dk_seg dksX5_step_12 23 rfl rfl
theorem dksX5_step_14 : cX5_step.data.toList.drop 326 = dktX5_step_14 := dk_seg dksX5_step_13 24 rfl rfl
theorem dksX5_step_15 : cX5_step.data.toList.drop 350 = dktX5_step_15 := dk_seg dksX5_step_14 24 rfl rfl
theorem dksX5_step_16 : cX5_step.data.toList.drop 374 = dktX5_step_16 := dk_seg dksX5_step_15 24 rfl rfl
theorem dksX5_step_17 : cX5_step.data.toList.drop 396 = dktX5_step_17 := dk_seg dksX5_step_16 22 rfl rfl
theorem dksX5_step_18 : cX5_step.data.toList.drop 419 = dktX5_step_18 := dk_seg dksX5_step_17 23 rfl rfl
theorem dksX5_step_19 : cX5_step.data.toList.drop 441 = dktX5_step_19 := dk_seg dksX5_step_18 22 rfl rfl
theorem dX5_step_0 : decode cX5_step 0 = .ok (.aload_n 0, 1) := dk_42 (dk_at dksX5_step_0 0 rfl rfl)
theorem dX5_step_1 : decode cX5_step 1 = .ok (.getfield 82, 3) := dk_180 0 82 (dk_at dksX5_step_0 1 rfl rfl)
theorem dX5_step_4 : decode cX5_step 4 = .ok (.aload_n 0, 1) := dk_42 (dk_at dksX5_step_0 4 rfl rfl)
theorem dX5_step_5 : decode cX5_step 5 = .ok (.getfield 381, 3) := dk_180 1 125 (dk_at dksX5_step_0 5 rfl rfl)
theorem dX5_step_8 : decode cX5_step 8 = .ok (.iaload, 1) := dk_46 (dk_at dksX5_step_0 8 rfl rfl)
theorem dX5_step_9 : decode cX5_step 9 = .ok (.istore_n 1, 1) := dk_60 (dk_at dksX5_step_0 9 rfl rfl)
theorem dX5_step_10 : decode cX5_step 10 = .ok (.aload_n 0, 1) := dk_42 (dk_at dksX5_step_0 10 rfl rfl)
theorem dX5_step_11 : decode cX5_step 11 = .ok (.getfield 88, 3) := dk_180 0 88 (dk_at dksX5_step_0 11 rfl rfl)
theorem dX5_step_14 : decode cX5_step 14 = .ok (.aload_n 0, 1) := dk_42 (dk_at dksX5_step_0 14 rfl rfl)
theorem dX5_step_15 : decode cX5_step 15 = .ok (.getfield 381, 3) := dk_180 1 125 (dk_at dksX5_step_0 15 rfl rfl)
theorem dX5_step_18 : decode cX5_step 18 = .ok (.iaload, 1) := dk_46 (dk_at dksX5_step_0 18 rfl rfl)
theorem dX5_step_19 : decode cX5_step 19 = .ok (.istore_n 2, 1) := dk_61 (dk_at dksX5_step_0 19 rfl rfl)
theorem dX5_step_20 : decode cX5_step 20 = .ok (.iload_n 2, 1) := dk_28 (dk_at dksX5_step_0 20 rfl rfl)
theorem dX5_step_21 : decode cX5_step 21 = .ok (.aload_n 0, 1) := dk_42 (dk_at dksX5_step_0 21 rfl rfl)
theorem dX5_step_22 : decode cX5_step 22 = .ok (.getfield 24, 3) := dk_180 0 24 (dk_at dksX5_step_1 0 rfl rfl)
theorem dX5_step_25 : decode cX5_step 25 = .ok (.iload_n 1, 1) := dk_27 (dk_at dksX5_step_1 3 rfl rfl)
theorem dX5_step_26 : decode cX5_step 26 = .ok (.iaload, 1) := dk_46 (dk_at dksX5_step_1 4 rfl rfl)
theorem dX5_step_27 : decode cX5_step 27 = .ok (.if_icmp .ne 8, 3) := dk_160 0 8 (dk_at dksX5_step_1 5 rfl rfl)
theorem dX5_step_30 : decode cX5_step 30 = .ok (.aload_n 0, 1) := dk_42 (dk_at dksX5_step_1 8 rfl rfl)
theorem dX5_step_31 : decode cX5_step 31 = .ok (.invokevirtual 416, 3) := dk_182 1 160 (dk_at dksX5_step_1 9 rfl rfl)
theorem dX5_step_34 : decode cX5_step 34 = .ok (.return_, 1) := dk_177 (dk_at dksX5_step_1 12 rfl rfl)
theorem dX5_step_35 : decode cX5_step 35 = .ok (.aload_n 0, 1) := dk_42 (dk_at dksX5_step_1 13 rfl rfl)
theorem dX5_step_36 : decode cX5_step 36 = .ok (.getfield 17, 3) := dk_180 0 17 (dk_at dksX5_step_1 14 rfl rfl)
theorem dX5_step_39 : decode cX5_step 39 = .ok (.iload_n 1, 1) := dk_27 (dk_at dksX5_step_1 17 rfl rfl)
theorem dX5_step_40 : decode cX5_step 40 = .ok (.invokestatic 141, 3) := dk_184 0 141 (dk_at dksX5_step_1 18 rfl rfl)
theorem dX5_step_43 : decode cX5_step 43 = .ok (.iload_n 2, 1) := dk_28 (dk_at dksX5_step_1 21 rfl rfl)
theorem dX5_step_44 : decode cX5_step 44 = .ok (.iadd, 1) := dk_96 (dk_at dksX5_step_1 22 rfl rfl)
theorem dX5_step_45 : decode cX5_step 45 = .ok (.iaload, 1) := dk_46 (dk_at dksX5_step_1 23 rfl rfl)
theorem dX5_step_46 : decode cX5_step 46 = .ok (.istore_n 3, 1) := dk_62 (dk_at dksX5_step_2 0 rfl rfl)
theorem dX5_step_47 : decode cX5_step 47 = .ok (.aload_n 0, 1) := dk_42 (dk_at dksX5_step_2 1 rfl rfl)
theorem dX5_step_48 : decode cX5_step 48 = .ok (.getfield 20, 3) := dk_180 0 20 (dk_at dksX5_step_2 2 rfl rfl)
theorem dX5_step_51 : decode cX5_step 51 = .ok (.iload_n 1, 1) := dk_27 (dk_at dksX5_step_2 5 rfl rfl)
theorem dX5_step_52 : decode cX5_step 52 = .ok (.invokestatic 141, 3) := dk_184 0 141 (dk_at dksX5_step_2 6 rfl rfl)
theorem dX5_step_55 : decode cX5_step 55 = .ok (.iload_n 2, 1) := dk_28 (dk_at dksX5_step_2 9 rfl rfl)
theorem dX5_step_56 : decode cX5_step 56 = .ok (.iadd, 1) := dk_96 (dk_at dksX5_step_2 10 rfl rfl)
theorem dX5_step_57 : decode cX5_step 57 = .ok (.laload, 1) := dk_47 (dk_at dksX5_step_2 11 rfl rfl)
theorem dX5_step_58 : decode cX5_step 58 = .ok (.lstore 4, 2) := dk_55 4 (dk_at dksX5_step_2 12 rfl rfl)
theorem dX5_step_60 : decode cX5_step 60 = .ok (.lload 4, 2) := dk_22 4 (dk_at dksX5_step_2 14 rfl rfl)
theorem dX5_step_62 : decode cX5_step 62 = .ok (.l2i, 1) := dk_136 (dk_at dksX5_step_2 16 rfl rfl)
theorem dX5_step_63 : decode cX5_step 63 = .ok (.istore 6, 2) := dk_54 6 (dk_at dksX5_step_2 17 rfl rfl)
theorem dX5_step_65 : decode cX5_step 65 = .ok (.aload_n 0, 1) := dk_42 (dk_at dksX5_step_2 19 rfl rfl)
theorem dX5_step_66 : decode cX5_step 66 = .ok (.getfield 88, 3) := dk_180 0 88 (dk_at dksX5_step_2 20 rfl rfl)
theorem dX5_step_69 : decode cX5_step 69 = .ok (.aload_n 0, 1) := dk_42 (dk_at dksX5_step_2 23 rfl rfl)
theorem dX5_step_70 : decode cX5_step 70 = .ok (.getfield 381, 3) := dk_180 1 125 (dk_at dksX5_step_3 0 rfl rfl)
theorem dX5_step_73 : decode cX5_step 73 = .ok (.iload_n 2, 1) := dk_28 (dk_at dksX5_step_3 3 rfl rfl)
theorem dX5_step_74 : decode cX5_step 74 = .ok (.iconst 1, 1) := dk_4 (dk_at dksX5_step_3 4 rfl rfl)
theorem dX5_step_75 : decode cX5_step 75 = .ok (.iadd, 1) := dk_96 (dk_at dksX5_step_3 5 rfl rfl)
theorem dX5_step_76 : decode cX5_step 76 = .ok (.iastore, 1) := dk_79 (dk_at dksX5_step_3 6 rfl rfl)
theorem dX5_step_77 : decode cX5_step 77 = .ok (.iload_n 3, 1) := dk_29 (dk_at dksX5_step_3 7 rfl rfl)
theorem dX5_step_78 : decode cX5_step 78 = .ok (.ifCond .ne 12, 3) := dk_154 0 12 (dk_at dksX5_step_3 8 rfl rfl)
theorem dX5_step_81 : decode cX5_step 81 = .ok (.aload_n 0, 1) := dk_42 (dk_at dksX5_step_3 11 rfl rfl)
theorem dX5_step_82 : decode cX5_step 82 = .ok (.iload 6, 2) := dk_21 6 (dk_at dksX5_step_3 12 rfl rfl)
theorem dX5_step_84 : decode cX5_step 84 = .ok (.invokevirtual 402, 3) := dk_182 1 146 (dk_at dksX5_step_3 14 rfl rfl)
theorem dX5_step_87 : decode cX5_step 87 = .ok (.goto 358, 3) := dk_167 1 102 (dk_at dksX5_step_3 17 rfl rfl)
theorem dX5_step_90 : decode cX5_step 90 = .ok (.iload_n 3, 1) := dk_29 (dk_at dksX5_step_3 20 rfl rfl)
theorem dX5_step_91 : decode cX5_step 91 = .ok (.iconst 1, 1) := dk_4 (dk_at dksX5_step_3 21 rfl rfl)
theorem dX5_step_92 : decode cX5_step 92 = .ok (.if_icmp .ne 24, 3) := dk_160 0 24 (dk_at dksX5_step_4 0 rfl rfl)
theorem dX5_step_95 : decode cX5_step 95 = .ok (.aload_n 0, 1) := dk_42 (dk_at dksX5_step_4 3 rfl rfl)
theorem dX5_step_96 : decode cX5_step 96 = .ok (.aload_n 0, 1) := dk_42 (dk_at dksX5_step_4 4 rfl rfl)
theorem dX5_step_97 : decode cX5_step 97 = .ok (.getfield 85, 3) := dk_180 0 85 (dk_at dksX5_step_4 5 rfl rfl)
theorem dX5_step_100 : decode cX5_step 100 = .ok (.iconst 3, 1) := dk_6 (dk_at dksX5_step_4 8 rfl rfl)
theorem dX5_step_101 : decode cX5_step 101 = .ok (.aload_n 0, 1) := dk_42 (dk_at dksX5_step_4 9 rfl rfl)
theorem dX5_step_102 : decode cX5_step 102 = .ok (.getfield 381, 3) := dk_180 1 125 (dk_at dksX5_step_4 10 rfl rfl)
theorem dX5_step_105 : decode cX5_step 105 = .ok (.imul, 1) := dk_104 (dk_at dksX5_step_4 13 rfl rfl)
theorem dX5_step_106 : decode cX5_step 106 = .ok (.iload 6, 2) := dk_21 6 (dk_at dksX5_step_4 14 rfl rfl)
theorem dX5_step_108 : decode cX5_step 108 = .ok (.iadd, 1) := dk_96 (dk_at dksX5_step_4 16 rfl rfl)
theorem dX5_step_109 : decode cX5_step 109 = .ok (.iaload, 1) := dk_46 (dk_at dksX5_step_4 17 rfl rfl)
theorem dX5_step_110 : decode cX5_step 110 = .ok (.invokevirtual 402, 3) := dk_182 1 146 (dk_at dksX5_step_4 18 rfl rfl)
theorem dX5_step_113 : decode cX5_step 113 = .ok (.goto 332, 3) := dk_167 1 76 (dk_at dksX5_step_4 21 rfl rfl)
theorem dX5_step_116 : decode cX5_step 116 = .ok (.iload_n 3, 1) := dk_29 (dk_at dksX5_step_5 0 rfl rfl)
theorem dX5_step_117 : decode cX5_step 117 = .ok (.iconst 3, 1) := dk_6 (dk_at dksX5_step_5 1 rfl rfl)
theorem dX5_step_118 : decode cX5_step 118 = .ok (.if_icmp .ne 29, 3) := dk_160 0 29 (dk_at dksX5_step_5 2 rfl rfl)
theorem dX5_step_121 : decode cX5_step 121 = .ok (.aload_n 0, 1) := dk_42 (dk_at dksX5_step_5 5 rfl rfl)
theorem dX5_step_122 : decode cX5_step 122 = .ok (.getfield 91, 3) := dk_180 0 91 (dk_at dksX5_step_5 6 rfl rfl)
theorem dX5_step_125 : decode cX5_step 125 = .ok (.aload_n 0, 1) := dk_42 (dk_at dksX5_step_5 9 rfl rfl)
theorem dX5_step_126 : decode cX5_step 126 = .ok (.getfield 399, 3) := dk_180 1 143 (dk_at dksX5_step_5 10 rfl rfl)
theorem dX5_step_129 : decode cX5_step 129 = .ok (.iconst 1, 1) := dk_4 (dk_at dksX5_step_5 13 rfl rfl)
theorem dX5_step_130 : decode cX5_step 130 = .ok (.isub, 1) := dk_100 (dk_at dksX5_step_5 14 rfl rfl)
theorem dX5_step_131 : decode cX5_step 131 = .ok (.aload_n 0, 1) := dk_42 (dk_at dksX5_step_5 15 rfl rfl)
theorem dX5_step_132 : decode cX5_step 132 = .ok (.getfield 91, 3) := dk_180 0 91 (dk_at dksX5_step_5 16 rfl rfl)
theorem dX5_step_135 : decode cX5_step 135 = .ok (.aload_n 0, 1) := dk_42 (dk_at dksX5_step_5 19 rfl rfl)
theorem dX5_step_136 : decode cX5_step 136 = .ok (.getfield 399, 3) := dk_180 1 143 (dk_at dksX5_step_5 20 rfl rfl)
theorem dX5_step_139 : decode cX5_step 139 = .ok (.iconst 1, 1) := dk_4 (dk_at dksX5_step_5 23 rfl rfl)
theorem dX5_step_140 : decode cX5_step 140 = .ok (.isub, 1) := dk_100 (dk_at dksX5_step_6 0 rfl rfl)
theorem dX5_step_141 : decode cX5_step 141 = .ok (.iaload, 1) := dk_46 (dk_at dksX5_step_6 1 rfl rfl)
theorem dX5_step_142 : decode cX5_step 142 = .ok (.ineg, 1) := dk_116 (dk_at dksX5_step_6 2 rfl rfl)
theorem dX5_step_143 : decode cX5_step 143 = .ok (.iastore, 1) := dk_79 (dk_at dksX5_step_6 3 rfl rfl)
theorem dX5_step_144 : decode cX5_step 144 = .ok (.goto 301, 3) := dk_167 1 45 (dk_at dksX5_step_6 4 rfl rfl)
theorem dX5_step_147 : decode cX5_step 147 = .ok (.iload_n 3, 1) := dk_29 (dk_at dksX5_step_6 7 rfl rfl)
theorem dX5_step_148 : decode cX5_step 148 = .ok (.iconst 4, 1) := dk_7 (dk_at dksX5_step_6 8 rfl rfl)
theorem dX5_step_149 : decode cX5_step 149 = .ok (.if_icmp .ne 29, 3) := dk_160 0 29 (dk_at dksX5_step_6 9 rfl rfl)
theorem dX5_step_152 : decode cX5_step 152 = .ok (.aload_n 0, 1) := dk_42 (dk_at dksX5_step_6 12 rfl rfl)
theorem dX5_step_153 : decode cX5_step 153 = .ok (.dup, 1) := dk_89 (dk_at dksX5_step_6 13 rfl rfl)
theorem dX5_step_154 : decode cX5_step 154 = .ok (.getfield 399, 3) := dk_180 1 143 (dk_at dksX5_step_6 14 rfl rfl)
theorem dX5_step_157 : decode cX5_step 157 = .ok (.iconst 1, 1) := dk_4 (dk_at dksX5_step_6 17 rfl rfl)
theorem dX5_step_158 : decode cX5_step 158 = .ok (.isub, 1) := dk_100 (dk_at dksX5_step_6 18 rfl rfl)
theorem dX5_step_159 : decode cX5_step 159 = .ok (.putfield 399, 3) := dk_181 1 143 (dk_at dksX5_step_6 19 rfl rfl)
theorem dX5_step_162 : decode cX5_step 162 = .ok (.aload_n 0, 1) := dk_42 (dk_at dksX5_step_6 22 rfl rfl)
theorem dX5_step_163 : decode cX5_step 163 = .ok (.aload_n 0, 1) := dk_42 (dk_at dksX5_step_6 23 rfl rfl)
theorem dX5_step_164 : decode cX5_step 164 = .ok (.getfield 91, 3) := dk_180 0 91 (dk_at dksX5_step_7 0 rfl rfl)
theorem dX5_step_167 : decode cX5_step 167 = .ok (.aload_n 0, 1) := dk_42 (dk_at dksX5_step_7 3 rfl rfl)
theorem dX5_step_168 : decode cX5_step 168 = .ok (.getfield 399, 3) := dk_180 1 143 (dk_at dksX5_step_7 4 rfl rfl)
theorem dX5_step_171 : decode cX5_step 171 = .ok (.iaload, 1) := dk_46 (dk_at dksX5_step_7 7 rfl rfl)
theorem dX5_step_172 : decode cX5_step 172 = .ok (.invokevirtual 407, 3) := dk_182 1 151 (dk_at dksX5_step_7 8 rfl rfl)
theorem dX5_step_175 : decode cX5_step 175 = .ok (.goto 270, 3) := dk_167 1 14 (dk_at dksX5_step_7 11 rfl rfl)
theorem dX5_step_178 : decode cX5_step 178 = .ok (.iload_n 3, 1) := dk_29 (dk_at dksX5_step_7 14 rfl rfl)
theorem dX5_step_179 : decode cX5_step 179 = .ok (.iconst 5, 1) := dk_8 (dk_at dksX5_step_7 15 rfl rfl)
theorem dX5_step_180 : decode cX5_step 180 = .ok (.if_icmp .ne 49, 3) := dk_160 0 49 (dk_at dksX5_step_7 16 rfl rfl)
theorem dX5_step_183 : decode cX5_step 183 = .ok (.aload_n 0, 1) := dk_42 (dk_at dksX5_step_7 19 rfl rfl)
theorem dX5_step_184 : decode cX5_step 184 = .ok (.dup, 1) := dk_89 (dk_at dksX5_step_7 20 rfl rfl)
theorem dX5_step_185 : decode cX5_step 185 = .ok (.getfield 399, 3) := dk_180 1 143 (dk_at dksX5_step_7 21 rfl rfl)
theorem dX5_step_188 : decode cX5_step 188 = .ok (.iconst 1, 1) := dk_4 (dk_at dksX5_step_8 0 rfl rfl)
theorem dX5_step_189 : decode cX5_step 189 = .ok (.isub, 1) := dk_100 (dk_at dksX5_step_8 1 rfl rfl)
theorem dX5_step_190 : decode cX5_step 190 = .ok (.putfield 399, 3) := dk_181 1 143 (dk_at dksX5_step_8 2 rfl rfl)
theorem dX5_step_193 : decode cX5_step 193 = .ok (.aload_n 0, 1) := dk_42 (dk_at dksX5_step_8 5 rfl rfl)
theorem dX5_step_194 : decode cX5_step 194 = .ok (.getfield 88, 3) := dk_180 0 88 (dk_at dksX5_step_8 6 rfl rfl)
theorem dX5_step_197 : decode cX5_step 197 = .ok (.aload_n 0, 1) := dk_42 (dk_at dksX5_step_8 9 rfl rfl)
theorem dX5_step_198 : decode cX5_step 198 = .ok (.getfield 381, 3) := dk_180 1 125 (dk_at dksX5_step_8 10 rfl rfl)
theorem dX5_step_201 : decode cX5_step 201 = .ok (.aload_n 0, 1) := dk_42 (dk_at dksX5_step_8 13 rfl rfl)
theorem dX5_step_202 : decode cX5_step 202 = .ok (.getfield 91, 3) := dk_180 0 91 (dk_at dksX5_step_8 14 rfl rfl)
theorem dX5_step_205 : decode cX5_step 205 = .ok (.aload_n 0, 1) := dk_42 (dk_at dksX5_step_8 17 rfl rfl)
theorem dX5_step_206 : decode cX5_step 206 = .ok (.getfield 399, 3) := dk_180 1 143 (dk_at dksX5_step_8 18 rfl rfl)
theorem dX5_step_209 : decode cX5_step 209 = .ok (.iaload, 1) := dk_46 (dk_at dksX5_step_8 21 rfl rfl)
theorem dX5_step_210 : decode cX5_step 210 = .ok (.ifCond .ne 12, 3) := dk_154 0 12 (dk_at dksX5_step_9 0 rfl rfl)
theorem dX5_step_213 : decode cX5_step 213 = .ok (.iload_n 2, 1) := dk_28 (dk_at dksX5_step_9 3 rfl rfl)
theorem dX5_step_214 : decode cX5_step 214 = .ok (.iconst 1, 1) := dk_4 (dk_at dksX5_step_9 4 rfl rfl)
theorem dX5_step_215 : decode cX5_step 215 = .ok (.iadd, 1) := dk_96 (dk_at dksX5_step_9 5 rfl rfl)
theorem dX5_step_216 : decode cX5_step 216 = .ok (.iload 6, 2) := dk_21 6 (dk_at dksX5_step_9 6 rfl rfl)
theorem dX5_step_218 : decode cX5_step 218 = .ok (.iadd, 1) := dk_96 (dk_at dksX5_step_9 8 rfl rfl)
theorem dX5_step_219 : decode cX5_step 219 = .ok (.goto 6, 3) := dk_167 0 6 (dk_at dksX5_step_9 9 rfl rfl)
theorem dX5_step_222 : decode cX5_step 222 = .ok (.iload_n 2, 1) := dk_28 (dk_at dksX5_step_9 12 rfl rfl)
theorem dX5_step_223 : decode cX5_step 223 = .ok (.iconst 1, 1) := dk_4 (dk_at dksX5_step_9 13 rfl rfl)
theorem dX5_step_224 : decode cX5_step 224 = .ok (.iadd, 1) := dk_96 (dk_at dksX5_step_9 14 rfl rfl)
theorem dX5_step_225 : decode cX5_step 225 = .ok (.iastore, 1) := dk_79 (dk_at dksX5_step_9 15 rfl rfl)
theorem dX5_step_226 : decode cX5_step 226 = .ok (.goto 219, 3) := dk_167 0 219 (dk_at dksX5_step_9 16 rfl rfl)
theorem dX5_step_229 : decode cX5_step 229 = .ok (.iload_n 3, 1) := dk_29 (dk_at dksX5_step_9 19 rfl rfl)
theorem dX5_step_230 : decode cX5_step 230 = .ok (.bipush 6, 2) := dk_16 6 (dk_at dksX5_step_9 20 rfl rfl)
theorem dX5_step_232 : decode cX5_step 232 = .ok (.if_icmp .ne 21, 3) := dk_160 0 21 (dk_at dksX5_step_10 0 rfl rfl)
theorem dX5_step_235 : decode cX5_step 235 = .ok (.aload_n 0, 1) := dk_42 (dk_at dksX5_step_10 3 rfl rfl)
theorem dX5_step_236 : decode cX5_step 236 = .ok (.getfield 88, 3) := dk_180 0 88 (dk_at dksX5_step_10 4 rfl rfl)
theorem dX5_step_239 : decode cX5_step 239 = .ok (.aload_n 0, 1) := dk_42 (dk_at dksX5_step_10 7 rfl rfl)
theorem dX5_step_240 : decode cX5_step 240 = .ok (.getfield 381, 3) := dk_180 1 125 (dk_at dksX5_step_10 8 rfl rfl)
theorem dX5_step_243 : decode cX5_step 243 = .ok (.iload_n 2, 1) := dk_28 (dk_at dksX5_step_10 11 rfl rfl)
theorem dX5_step_244 : decode cX5_step 244 = .ok (.iconst 1, 1) := dk_4 (dk_at dksX5_step_10 12 rfl rfl)
theorem dX5_step_245 : decode cX5_step 245 = .ok (.iadd, 1) := dk_96 (dk_at dksX5_step_10 13 rfl rfl)
theorem dX5_step_246 : decode cX5_step 246 = .ok (.iload 6, 2) := dk_21 6 (dk_at dksX5_step_10 14 rfl rfl)
theorem dX5_step_248 : decode cX5_step 248 = .ok (.iadd, 1) := dk_96 (dk_at dksX5_step_10 16 rfl rfl)
theorem dX5_step_249 : decode cX5_step 249 = .ok (.iastore, 1) := dk_79 (dk_at dksX5_step_10 17 rfl rfl)
theorem dX5_step_250 : decode cX5_step 250 = .ok (.goto 195, 3) := dk_167 0 195 (dk_at dksX5_step_10 18 rfl rfl)
theorem dX5_step_253 : decode cX5_step 253 = .ok (.iload_n 3, 1) := dk_29 (dk_at dksX5_step_10 21 rfl rfl)
theorem dX5_step_254 : decode cX5_step 254 = .ok (.bipush 7, 2) := dk_16 7 (dk_at dksX5_step_10 22 rfl rfl)
theorem dX5_step_256 : decode cX5_step 256 = .ok (.if_icmp .ne 57, 3) := dk_160 0 57 (dk_at dksX5_step_11 0 rfl rfl)
theorem dX5_step_259 : decode cX5_step 259 = .ok (.aload_n 0, 1) := dk_42 (dk_at dksX5_step_11 3 rfl rfl)
theorem dX5_step_260 : decode cX5_step 260 = .ok (.getfield 94, 3) := dk_180 0 94 (dk_at dksX5_step_11 4 rfl rfl)
theorem dX5_step_263 : decode cX5_step 263 = .ok (.aload_n 0, 1) := dk_42 (dk_at dksX5_step_11 7 rfl rfl)
theorem dX5_step_264 : decode cX5_step 264 = .ok (.getfield 396, 3) := dk_180 1 140 (dk_at dksX5_step_11 8 rfl rfl)
theorem dX5_step_267 : decode cX5_step 267 = .ok (.iload_n 2, 1) := dk_28 (dk_at dksX5_step_11 11 rfl rfl)
theorem dX5_step_268 : decode cX5_step 268 = .ok (.iconst 1, 1) := dk_4 (dk_at dksX5_step_11 12 rfl rfl)
theorem dX5_step_269 : decode cX5_step 269 = .ok (.iadd, 1) := dk_96 (dk_at dksX5_step_11 13 rfl rfl)
theorem dX5_step_270 : decode cX5_step 270 = .ok (.iload 6, 2) := dk_21 6 (dk_at dksX5_step_11 14 rfl rfl)
theorem dX5_step_272 : decode cX5_step 272 = .ok (.iadd, 1) := dk_96 (dk_at dksX5_step_11 16 rfl rfl)
theorem dX5_step_273 : decode cX5_step 273 = .ok (.iastore, 1) := dk_79 (dk_at dksX5_step_11 17 rfl rfl)
theorem dX5_step_274 : decode cX5_step 274 = .ok (.aload_n 0, 1) := dk_42 (dk_at dksX5_step_11 18 rfl rfl)
theorem dX5_step_275 : decode cX5_step 275 = .ok (.getfield 97, 3) := dk_180 0 97 (dk_at dksX5_step_11 19 rfl rfl)
theorem dX5_step_278 : decode cX5_step 278 = .ok (.aload_n 0, 1) := dk_42 (dk_at dksX5_step_11 22 rfl rfl)
theorem dX5_step_279 : decode cX5_step 279 = .ok (.getfield 396, 3) := dk_180 1 140 (dk_at dksX5_step_12 0 rfl rfl)
theorem dX5_step_282 : decode cX5_step 282 = .ok (.aload_n 0, 1) := dk_42 (dk_at dksX5_step_12 3 rfl rfl)
theorem dX5_step_283 : decode cX5_step 283 = .ok (.getfield 399, 3) := dk_180 1 143 (dk_at dksX5_step_12 4 rfl rfl)
theorem dX5_step_286 : decode cX5_step 286 = .ok (.iastore, 1) := dk_79 (dk_at dksX5_step_12 7 rfl rfl)
theorem dX5_step_287 : decode cX5_step 287 = .ok (.aload_n 0, 1) := dk_42 (dk_at dksX5_step_12 8 rfl rfl)
theorem dX5_step_288 : decode cX5_step 288 = .ok (.getfield 100, 3) := dk_180 0 100 (dk_at dksX5_step_12 9 rfl rfl)
theorem dX5_step_291 : decode cX5_step 291 = .ok (.aload_n 0, 1) := dk_42 (dk_at dksX5_step_12 12 rfl rfl)
theorem dX5_step_292 : decode cX5_step 292 = .ok (.getfield 396, 3) := dk_180 1 140 (dk_at dksX5_step_12 13 rfl rfl)
theorem dX5_step_295 : decode cX5_step 295 = .ok (.aload_n 0, 1) := dk_42 (dk_at dksX5_step_12 16 rfl rfl)
theorem dX5_step_296 : decode cX5_step 296 = .ok (.getfield 381, 3) := dk_180 1 125 (dk_at dksX5_step_12 17 rfl rfl)
theorem dX5_step_299 : decode cX5_step 299 = .ok (.iastore, 1) := dk_79 (dk_at dksX5_step_12 20 rfl rfl)
theorem dX5_step_300 : decode cX5_step 300 = .ok (.aload_n 0, 1) := dk_42 (dk_at dksX5_step_12 21 rfl rfl)
theorem dX5_step_301 : decode cX5_step 301 = .ok (.dup, 1) := dk_89 (dk_at dksX5_step_12 22 rfl rfl)
theorem dX5_step_302 : decode cX5_step 302 = .ok (.getfield 396, 3) := dk_180 1 140 (dk_at dksX5_step_13 0 rfl rfl)
theorem dX5_step_305 : decode cX5_step 305 = .ok (.iconst 1, 1) := dk_4 (dk_at dksX5_step_13 3 rfl rfl)
theorem dX5_step_306 : decode cX5_step 306 = .ok (.iadd, 1) := dk_96 (dk_at dksX5_step_13 4 rfl rfl)
theorem dX5_step_307 : decode cX5_step 307 = .ok (.putfield 396, 3) := dk_181 1 140 (dk_at dksX5_step_13 5 rfl rfl)
theorem dX5_step_310 : decode cX5_step 310 = .ok (.goto 135, 3) := dk_167 0 135 (dk_at dksX5_step_13 8 rfl rfl)
theorem dX5_step_313 : decode cX5_step 313 = .ok (.iload_n 3, 1) := dk_29 (dk_at dksX5_step_13 11 rfl rfl)
theorem dX5_step_314 : decode cX5_step 314 = .ok (.bipush 8, 2) := dk_16 8 (dk_at dksX5_step_13 12 rfl rfl)
theorem dX5_step_316 : decode cX5_step 316 = .ok (.if_icmp .ne 31, 3) := dk_160 0 31 (dk_at dksX5_step_13 14 rfl rfl)
theorem dX5_step_319 : decode cX5_step 319 = .ok (.aload_n 0, 1) := dk_42 (dk_at dksX5_step_13 17 rfl rfl)
theorem dX5_step_320 : decode cX5_step 320 = .ok (.dup, 1) := dk_89 (dk_at dksX5_step_13 18 rfl rfl)
theorem dX5_step_321 : decode cX5_step 321 = .ok (.getfield 396, 3) := dk_180 1 140 (dk_at dksX5_step_13 19 rfl rfl)
theorem dX5_step_324 : decode cX5_step 324 = .ok (.iconst 1, 1) := dk_4 (dk_at dksX5_step_13 22 rfl rfl)
theorem dX5_step_325 : decode cX5_step 325 = .ok (.isub, 1) := dk_100 (dk_at dksX5_step_13 23 rfl rfl)
theorem dX5_step_326 : decode cX5_step 326 = .ok (.putfield 396, 3) := dk_181 1 140 (dk_at dksX5_step_14 0 rfl rfl)
theorem dX5_step_329 : decode cX5_step 329 = .ok (.aload_n 0, 1) := dk_42 (dk_at dksX5_step_14 3 rfl rfl)
theorem dX5_step_330 : decode cX5_step 330 = .ok (.getfield 88, 3) := dk_180 0 88 (dk_at dksX5_step_14 4 rfl rfl)
theorem dX5_step_333 : decode cX5_step 333 = .ok (.aload_n 0, 1) := dk_42 (dk_at dksX5_step_14 7 rfl rfl)
theorem dX5_step_334 : decode cX5_step 334 = .ok (.getfield 381, 3) := dk_180 1 125 (dk_at dksX5_step_14 8 rfl rfl)
theorem dX5_step_337 : decode cX5_step 337 = .ok (.iload_n 2, 1) := dk_28 (dk_at dksX5_step_14 11 rfl rfl)
theorem dX5_step_338 : decode cX5_step 338 = .ok (.iconst 1, 1) := dk_4 (dk_at dksX5_step_14 12 rfl rfl)
theorem dX5_step_339 : decode cX5_step 339 = .ok (.iadd, 1) := dk_96 (dk_at dksX5_step_14 13 rfl rfl)
theorem dX5_step_340 : decode cX5_step 340 = .ok (.iload 6, 2) := dk_21 6 (dk_at dksX5_step_14 14 rfl rfl)
theorem dX5_step_342 : decode cX5_step 342 = .ok (.iadd, 1) := dk_96 (dk_at dksX5_step_14 16 rfl rfl)
theorem dX5_step_343 : decode cX5_step 343 = .ok (.iastore, 1) := dk_79 (dk_at dksX5_step_14 17 rfl rfl)
theorem dX5_step_344 : decode cX5_step 344 = .ok (.goto 101, 3) := dk_167 0 101 (dk_at dksX5_step_14 18 rfl rfl)
theorem dX5_step_347 : decode cX5_step 347 = .ok (.iload_n 3, 1) := dk_29 (dk_at dksX5_step_14 21 rfl rfl)
theorem dX5_step_348 : decode cX5_step 348 = .ok (.bipush 9, 2) := dk_16 9 (dk_at dksX5_step_14 22 rfl rfl)
theorem dX5_step_350 : decode cX5_step 350 = .ok (.if_icmp .ne 12, 3) := dk_160 0 12 (dk_at dksX5_step_15 0 rfl rfl)
theorem dX5_step_353 : decode cX5_step 353 = .ok (.aload_n 0, 1) := dk_42 (dk_at dksX5_step_15 3 rfl rfl)
theorem dX5_step_354 : decode cX5_step 354 = .ok (.lload 4, 2) := dk_22 4 (dk_at dksX5_step_15 4 rfl rfl)
theorem dX5_step_356 : decode cX5_step 356 = .ok (.invokevirtual 419, 3) := dk_182 1 163 (dk_at dksX5_step_15 6 rfl rfl)
theorem dX5_step_359 : decode cX5_step 359 = .ok (.goto 86, 3) := dk_167 0 86 (dk_at dksX5_step_15 9 rfl rfl)
theorem dX5_step_362 : decode cX5_step 362 = .ok (.iload 6, 2) := dk_21 6 (dk_at dksX5_step_15 12 rfl rfl)
theorem dX5_step_364 : decode cX5_step 364 = .ok (.aload_n 0, 1) := dk_42 (dk_at dksX5_step_15 14 rfl rfl)
theorem dX5_step_365 : decode cX5_step 365 = .ok (.getfield 91, 3) := dk_180 0 91 (dk_at dksX5_step_15 15 rfl rfl)
theorem dX5_step_368 : decode cX5_step 368 = .ok (.aload_n 0, 1) := dk_42 (dk_at dksX5_step_15 18 rfl rfl)
theorem dX5_step_369 : decode cX5_step 369 = .ok (.getfield 399, 3) := dk_180 1 143 (dk_at dksX5_step_15 19 rfl rfl)
theorem dX5_step_372 : decode cX5_step 372 = .ok (.iconst 1, 1) := dk_4 (dk_at dksX5_step_15 22 rfl rfl)
theorem dX5_step_373 : decode cX5_step 373 = .ok (.isub, 1) := dk_100 (dk_at dksX5_step_15 23 rfl rfl)
theorem dX5_step_374 : decode cX5_step 374 = .ok (.iaload, 1) := dk_46 (dk_at dksX5_step_16 0 rfl rfl)
theorem dX5_step_375 : decode cX5_step 375 = .ok (.invokestatic 350, 3) := dk_184 1 94 (dk_at dksX5_step_16 1 rfl rfl)
theorem dX5_step_378 : decode cX5_step 378 = .ok (.ifCond .eq 21, 3) := dk_153 0 21 (dk_at dksX5_step_16 4 rfl rfl)
theorem dX5_step_381 : decode cX5_step 381 = .ok (.aload_n 0, 1) := dk_42 (dk_at dksX5_step_16 7 rfl rfl)
theorem dX5_step_382 : decode cX5_step 382 = .ok (.aload_n 0, 1) := dk_42 (dk_at dksX5_step_16 8 rfl rfl)
theorem dX5_step_383 : decode cX5_step 383 = .ok (.getfield 399, 3) := dk_180 1 143 (dk_at dksX5_step_16 9 rfl rfl)
theorem dX5_step_386 : decode cX5_step 386 = .ok (.iconst 2, 1) := dk_5 (dk_at dksX5_step_16 12 rfl rfl)
theorem dX5_step_387 : decode cX5_step 387 = .ok (.isub, 1) := dk_100 (dk_at dksX5_step_16 13 rfl rfl)
theorem dX5_step_388 : decode cX5_step 388 = .ok (.putfield 399, 3) := dk_181 1 143 (dk_at dksX5_step_16 14 rfl rfl)
theorem dX5_step_391 : decode cX5_step 391 = .ok (.aload_n 0, 1) := dk_42 (dk_at dksX5_step_16 17 rfl rfl)
theorem dX5_step_392 : decode cX5_step 392 = .ok (.iconst (-1), 1) := dk_2 (dk_at dksX5_step_16 18 rfl rfl)
theorem dX5_step_393 : decode cX5_step 393 = .ok (.invokevirtual 407, 3) := dk_182 1 151 (dk_at dksX5_step_16 19 rfl rfl)
theorem dX5_step_396 : decode cX5_step 396 = .ok (.goto 49, 3) := dk_167 0 49 (dk_at dksX5_step_17 0 rfl rfl)
theorem dX5_step_399 : decode cX5_step 399 = .ok (.aload_n 0, 1) := dk_42 (dk_at dksX5_step_17 3 rfl rfl)
theorem dX5_step_400 : decode cX5_step 400 = .ok (.dup, 1) := dk_89 (dk_at dksX5_step_17 4 rfl rfl)
theorem dX5_step_401 : decode cX5_step 401 = .ok (.getfield 399, 3) := dk_180 1 143 (dk_at dksX5_step_17 5 rfl rfl)
theorem dX5_step_404 : decode cX5_step 404 = .ok (.iconst 1, 1) := dk_4 (dk_at dksX5_step_17 8 rfl rfl)
theorem dX5_step_405 : decode cX5_step 405 = .ok (.isub, 1) := dk_100 (dk_at dksX5_step_17 9 rfl rfl)
theorem dX5_step_406 : decode cX5_step 406 = .ok (.putfield 399, 3) := dk_181 1 143 (dk_at dksX5_step_17 10 rfl rfl)
theorem dX5_step_409 : decode cX5_step 409 = .ok (.aload_n 0, 1) := dk_42 (dk_at dksX5_step_17 13 rfl rfl)
theorem dX5_step_410 : decode cX5_step 410 = .ok (.getfield 91, 3) := dk_180 0 91 (dk_at dksX5_step_17 14 rfl rfl)
theorem dX5_step_413 : decode cX5_step 413 = .ok (.aload_n 0, 1) := dk_42 (dk_at dksX5_step_17 17 rfl rfl)
theorem dX5_step_414 : decode cX5_step 414 = .ok (.getfield 399, 3) := dk_180 1 143 (dk_at dksX5_step_17 18 rfl rfl)
theorem dX5_step_417 : decode cX5_step 417 = .ok (.iconst 1, 1) := dk_4 (dk_at dksX5_step_17 21 rfl rfl)
theorem dX5_step_418 : decode cX5_step 418 = .ok (.isub, 1) := dk_100 (dk_at dksX5_step_17 22 rfl rfl)
theorem dX5_step_419 : decode cX5_step 419 = .ok (.iload 6, 2) := dk_21 6 (dk_at dksX5_step_18 0 rfl rfl)
theorem dX5_step_421 : decode cX5_step 421 = .ok (.aload_n 0, 1) := dk_42 (dk_at dksX5_step_18 2 rfl rfl)
theorem dX5_step_422 : decode cX5_step 422 = .ok (.getfield 91, 3) := dk_180 0 91 (dk_at dksX5_step_18 3 rfl rfl)
theorem dX5_step_425 : decode cX5_step 425 = .ok (.aload_n 0, 1) := dk_42 (dk_at dksX5_step_18 6 rfl rfl)
theorem dX5_step_426 : decode cX5_step 426 = .ok (.getfield 399, 3) := dk_180 1 143 (dk_at dksX5_step_18 7 rfl rfl)
theorem dX5_step_429 : decode cX5_step 429 = .ok (.iconst 1, 1) := dk_4 (dk_at dksX5_step_18 10 rfl rfl)
theorem dX5_step_430 : decode cX5_step 430 = .ok (.isub, 1) := dk_100 (dk_at dksX5_step_18 11 rfl rfl)
theorem dX5_step_431 : decode cX5_step 431 = .ok (.iaload, 1) := dk_46 (dk_at dksX5_step_18 12 rfl rfl)
theorem dX5_step_432 : decode cX5_step 432 = .ok (.aload_n 0, 1) := dk_42 (dk_at dksX5_step_18 13 rfl rfl)
theorem dX5_step_433 : decode cX5_step 433 = .ok (.getfield 91, 3) := dk_180 0 91 (dk_at dksX5_step_18 14 rfl rfl)
theorem dX5_step_436 : decode cX5_step 436 = .ok (.aload_n 0, 1) := dk_42 (dk_at dksX5_step_18 17 rfl rfl)
theorem dX5_step_437 : decode cX5_step 437 = .ok (.getfield 399, 3) := dk_180 1 143 (dk_at dksX5_step_18 18 rfl rfl)
theorem dX5_step_440 : decode cX5_step 440 = .ok (.iaload, 1) := dk_46 (dk_at dksX5_step_18 21 rfl rfl)
theorem dX5_step_441 : decode cX5_step 441 = .ok (.invokestatic 353, 3) := dk_184 1 97 (dk_at dksX5_step_19 0 rfl rfl)
theorem dX5_step_444 : decode cX5_step 444 = .ok (.iastore, 1) := dk_79 (dk_at dksX5_step_19 3 rfl rfl)
theorem dX5_step_445 : decode cX5_step 445 = .ok (.return_, 1) := dk_177 (dk_at dksX5_step_19 4 rfl rfl)
abbrev cX5_leave : ByteArray := prog_12_method_73_code
def yX5_leave : MethodName := ⟨RX5, "leave", "()V"⟩
def dkwX5_leave_2 : List UInt8 := [154, 0, 16, 42, 3, 181, 1, 134, 42, 27, 181, 1, 137, 167, 0, 8, 42, 27, 182, 1, 146, 177]
abbrev dktX5_leave_2 : List UInt8 := dkwX5_leave_2 ++ []
def dkwX5_leave_1 : List UInt8 := [180, 1, 125, 4, 27, 182, 1, 131, 42, 89, 180, 1, 125, 4, 100, 181, 1, 125, 42, 180, 1, 125]
abbrev dktX5_leave_1 : List UInt8 := dkwX5_leave_1 ++ dktX5_leave_2
def dkwX5_leave_0 : List UInt8 := [42, 180, 0, 91, 42, 180, 1, 143, 4, 100, 46, 60, 42, 89, 180, 1, 143, 4, 100, 181, 1, 143, 42, 42]
abbrev dktX5_leave_0 : List UInt8 := dkwX5_leave_0 ++ dktX5_leave_1
theorem dksX5_leave_0 : cX5_leave.data.toList.drop 0 = dktX5_leave_0 := by decide +kernel
theorem dksX5_leave_1 : cX5_leave.data.toList.drop 24 = dktX5_leave_1 := dk_seg dksX5_leave_0 24 rfl rfl
theorem dksX5_leave_2 : cX5_leave.data.toList.drop 46 = dktX5_leave_2 := dk_seg dksX5_leave_1 22 rfl rfl
theorem dX5_leave_0 : decode cX5_leave 0 = .ok (.aload_n 0, 1) := dk_42 (dk_at dksX5_leave_0 0 rfl rfl)
theorem dX5_leave_1 : decode cX5_leave 1 = .ok (.getfield 91, 3) := dk_180 0 91 (dk_at dksX5_leave_0 1 rfl rfl)
theorem dX5_leave_4 : decode cX5_leave 4 = .ok (.aload_n 0, 1) := dk_42 (dk_at dksX5_leave_0 4 rfl rfl)
theorem dX5_leave_5 : decode cX5_leave 5 = .ok (.getfield 399, 3) := dk_180 1 143 (dk_at dksX5_leave_0 5 rfl rfl)
theorem dX5_leave_8 : decode cX5_leave 8 = .ok (.iconst 1, 1) := dk_4 (dk_at dksX5_leave_0 8 rfl rfl)
theorem dX5_leave_9 : decode cX5_leave 9 = .ok (.isub, 1) := dk_100 (dk_at dksX5_leave_0 9 rfl rfl)
theorem dX5_leave_10 : decode cX5_leave 10 = .ok (.iaload, 1) := dk_46 (dk_at dksX5_leave_0 10 rfl rfl)
theorem dX5_leave_11 : decode cX5_leave 11 = .ok (.istore_n 1, 1) := dk_60 (dk_at dksX5_leave_0 11 rfl rfl)
theorem dX5_leave_12 : decode cX5_leave 12 = .ok (.aload_n 0, 1) := dk_42 (dk_at dksX5_leave_0 12 rfl rfl)
theorem dX5_leave_13 : decode cX5_leave 13 = .ok (.dup, 1) := dk_89 (dk_at dksX5_leave_0 13 rfl rfl)
theorem dX5_leave_14 : decode cX5_leave 14 = .ok (.getfield 399, 3) := dk_180 1 143 (dk_at dksX5_leave_0 14 rfl rfl)
theorem dX5_leave_17 : decode cX5_leave 17 = .ok (.iconst 1, 1) := dk_4 (dk_at dksX5_leave_0 17 rfl rfl)
theorem dX5_leave_18 : decode cX5_leave 18 = .ok (.isub, 1) := dk_100 (dk_at dksX5_leave_0 18 rfl rfl)
theorem dX5_leave_19 : decode cX5_leave 19 = .ok (.putfield 399, 3) := dk_181 1 143 (dk_at dksX5_leave_0 19 rfl rfl)
theorem dX5_leave_22 : decode cX5_leave 22 = .ok (.aload_n 0, 1) := dk_42 (dk_at dksX5_leave_0 22 rfl rfl)
theorem dX5_leave_23 : decode cX5_leave 23 = .ok (.aload_n 0, 1) := dk_42 (dk_at dksX5_leave_0 23 rfl rfl)
theorem dX5_leave_24 : decode cX5_leave 24 = .ok (.getfield 381, 3) := dk_180 1 125 (dk_at dksX5_leave_1 0 rfl rfl)
theorem dX5_leave_27 : decode cX5_leave 27 = .ok (.iconst 1, 1) := dk_4 (dk_at dksX5_leave_1 3 rfl rfl)
theorem dX5_leave_28 : decode cX5_leave 28 = .ok (.iload_n 1, 1) := dk_27 (dk_at dksX5_leave_1 4 rfl rfl)
theorem dX5_leave_29 : decode cX5_leave 29 = .ok (.invokevirtual 387, 3) := dk_182 1 131 (dk_at dksX5_leave_1 5 rfl rfl)
theorem dX5_leave_32 : decode cX5_leave 32 = .ok (.aload_n 0, 1) := dk_42 (dk_at dksX5_leave_1 8 rfl rfl)
theorem dX5_leave_33 : decode cX5_leave 33 = .ok (.dup, 1) := dk_89 (dk_at dksX5_leave_1 9 rfl rfl)
theorem dX5_leave_34 : decode cX5_leave 34 = .ok (.getfield 381, 3) := dk_180 1 125 (dk_at dksX5_leave_1 10 rfl rfl)
theorem dX5_leave_37 : decode cX5_leave 37 = .ok (.iconst 1, 1) := dk_4 (dk_at dksX5_leave_1 13 rfl rfl)
theorem dX5_leave_38 : decode cX5_leave 38 = .ok (.isub, 1) := dk_100 (dk_at dksX5_leave_1 14 rfl rfl)
theorem dX5_leave_39 : decode cX5_leave 39 = .ok (.putfield 381, 3) := dk_181 1 125 (dk_at dksX5_leave_1 15 rfl rfl)
theorem dX5_leave_42 : decode cX5_leave 42 = .ok (.aload_n 0, 1) := dk_42 (dk_at dksX5_leave_1 18 rfl rfl)
theorem dX5_leave_43 : decode cX5_leave 43 = .ok (.getfield 381, 3) := dk_180 1 125 (dk_at dksX5_leave_1 19 rfl rfl)
theorem dX5_leave_46 : decode cX5_leave 46 = .ok (.ifCond .ne 16, 3) := dk_154 0 16 (dk_at dksX5_leave_2 0 rfl rfl)
theorem dX5_leave_49 : decode cX5_leave 49 = .ok (.aload_n 0, 1) := dk_42 (dk_at dksX5_leave_2 3 rfl rfl)
theorem dX5_leave_50 : decode cX5_leave 50 = .ok (.iconst 0, 1) := dk_3 (dk_at dksX5_leave_2 4 rfl rfl)
theorem dX5_leave_51 : decode cX5_leave 51 = .ok (.putfield 390, 3) := dk_181 1 134 (dk_at dksX5_leave_2 5 rfl rfl)
theorem dX5_leave_54 : decode cX5_leave 54 = .ok (.aload_n 0, 1) := dk_42 (dk_at dksX5_leave_2 8 rfl rfl)
theorem dX5_leave_55 : decode cX5_leave 55 = .ok (.iload_n 1, 1) := dk_27 (dk_at dksX5_leave_2 9 rfl rfl)
theorem dX5_leave_56 : decode cX5_leave 56 = .ok (.putfield 393, 3) := dk_181 1 137 (dk_at dksX5_leave_2 10 rfl rfl)
theorem dX5_leave_59 : decode cX5_leave 59 = .ok (.goto 8, 3) := dk_167 0 8 (dk_at dksX5_leave_2 13 rfl rfl)
theorem dX5_leave_62 : decode cX5_leave 62 = .ok (.aload_n 0, 1) := dk_42 (dk_at dksX5_leave_2 16 rfl rfl)
theorem dX5_leave_63 : decode cX5_leave 63 = .ok (.iload_n 1, 1) := dk_27 (dk_at dksX5_leave_2 17 rfl rfl)
theorem dX5_leave_64 : decode cX5_leave 64 = .ok (.invokevirtual 402, 3) := dk_182 1 146 (dk_at dksX5_leave_2 18 rfl rfl)
theorem dX5_leave_67 : decode cX5_leave 67 = .ok (.return_, 1) := dk_177 (dk_at dksX5_leave_2 21 rfl rfl)
abbrev cX5_push : ByteArray := prog_12_method_72_code
def yX5_push : MethodName := ⟨RX5, "push", "(I)V"⟩
def dkwX5_push_0 : List UInt8 := [42, 180, 0, 91, 42, 180, 1, 143, 27, 79, 42, 89, 180, 1, 143, 4, 96, 181, 1, 143, 177]
abbrev dktX5_push_0 : List UInt8 := dkwX5_push_0 ++ []
theorem dksX5_push_0 : cX5_push.data.toList.drop 0 = dktX5_push_0 := by decide +kernel
theorem dX5_push_0 : decode cX5_push 0 = .ok (.aload_n 0, 1) := dk_42 (dk_at dksX5_push_0 0 rfl rfl)
theorem dX5_push_1 : decode cX5_push 1 = .ok (.getfield 91, 3) := dk_180 0 91 (dk_at dksX5_push_0 1 rfl rfl)
theorem dX5_push_4 : decode cX5_push 4 = .ok (.aload_n 0, 1) := dk_42 (dk_at dksX5_push_0 4 rfl rfl)
theorem dX5_push_5 : decode cX5_push 5 = .ok (.getfield 399, 3) := dk_180 1 143 (dk_at dksX5_push_0 5 rfl rfl)
theorem dX5_push_8 : decode cX5_push 8 = .ok (.iload_n 1, 1) := dk_27 (dk_at dksX5_push_0 8 rfl rfl)
theorem dX5_push_9 : decode cX5_push 9 = .ok (.iastore, 1) := dk_79 (dk_at dksX5_push_0 9 rfl rfl)
theorem dX5_push_10 : decode cX5_push 10 = .ok (.aload_n 0, 1) := dk_42 (dk_at dksX5_push_0 10 rfl rfl)
theorem dX5_push_11 : decode cX5_push 11 = .ok (.dup, 1) := dk_89 (dk_at dksX5_push_0 11 rfl rfl)
theorem dX5_push_12 : decode cX5_push 12 = .ok (.getfield 399, 3) := dk_180 1 143 (dk_at dksX5_push_0 12 rfl rfl)
theorem dX5_push_15 : decode cX5_push 15 = .ok (.iconst 1, 1) := dk_4 (dk_at dksX5_push_0 15 rfl rfl)
theorem dX5_push_16 : decode cX5_push 16 = .ok (.iadd, 1) := dk_96 (dk_at dksX5_push_0 16 rfl rfl)
theorem dX5_push_17 : decode cX5_push 17 = .ok (.putfield 399, 3) := dk_181 1 143 (dk_at dksX5_push_0 17 rfl rfl)
theorem dX5_push_20 : decode cX5_push 20 = .ok (.return_, 1) := dk_177 (dk_at dksX5_push_0 20 rfl rfl)
abbrev cX5_throwUp : ByteArray := prog_12_method_71_code
def yX5_throwUp : MethodName := ⟨RX5, "throwUp", "(I)V"⟩
def dkwX5_throwUp_4 : List UInt8 := [167, 255, 162, 42, 4, 181, 1, 134, 42, 27, 181, 1, 137, 177]
abbrev dktX5_throwUp_4 : List UInt8 := dkwX5_throwUp_4 ++ []
def dkwX5_throwUp_3 : List UInt8 := [79, 177, 42, 42, 180, 1, 125, 5, 27, 182, 1, 131, 42, 89, 180, 1, 125, 4, 100, 181, 1, 125]
abbrev dktX5_throwUp_3 : List UInt8 := dkwX5_throwUp_3 ++ dktX5_throwUp_4
def dkwX5_throwUp_2 : List UInt8 := [180, 1, 140, 46, 181, 1, 143, 42, 180, 0, 88, 42, 180, 1, 125, 42, 180, 0, 94, 42, 180, 1, 140, 46]
abbrev dktX5_throwUp_2 : List UInt8 := dkwX5_throwUp_2 ++ dktX5_throwUp_3
def dkwX5_throwUp_1 : List UInt8 := [46, 42, 180, 1, 125, 160, 0, 45, 42, 89, 180, 1, 140, 4, 100, 181, 1, 140, 42, 42, 180, 0, 97, 42]
abbrev dktX5_throwUp_1 : List UInt8 := dkwX5_throwUp_1 ++ dktX5_throwUp_2
def dkwX5_throwUp_0 : List UInt8 := [42, 180, 1, 125, 158, 0, 93, 42, 180, 1, 140, 158, 0, 63, 42, 180, 0, 100, 42, 180, 1, 140, 4, 100]
abbrev dktX5_throwUp_0 : List UInt8 := dkwX5_throwUp_0 ++ dktX5_throwUp_1
theorem dksX5_throwUp_0 : cX5_throwUp.data.toList.drop 0 = dktX5_throwUp_0 := by decide +kernel
theorem dksX5_throwUp_1 : cX5_throwUp.data.toList.drop 24 = dktX5_throwUp_1 := dk_seg dksX5_throwUp_0 24 rfl rfl
theorem dksX5_throwUp_2 : cX5_throwUp.data.toList.drop 48 = dktX5_throwUp_2 := dk_seg dksX5_throwUp_1 24 rfl rfl
theorem dksX5_throwUp_3 : cX5_throwUp.data.toList.drop 72 = dktX5_throwUp_3 := dk_seg dksX5_throwUp_2 24 rfl rfl
theorem dksX5_throwUp_4 : cX5_throwUp.data.toList.drop 94 = dktX5_throwUp_4 := dk_seg dksX5_throwUp_3 22 rfl rfl
theorem dX5_throwUp_0 : decode cX5_throwUp 0 = .ok (.aload_n 0, 1) := dk_42 (dk_at dksX5_throwUp_0 0 rfl rfl)
theorem dX5_throwUp_1 : decode cX5_throwUp 1 = .ok (.getfield 381, 3) := dk_180 1 125 (dk_at dksX5_throwUp_0 1 rfl rfl)
theorem dX5_throwUp_4 : decode cX5_throwUp 4 = .ok (.ifCond .le 93, 3) := dk_158 0 93 (dk_at dksX5_throwUp_0 4 rfl rfl)
theorem dX5_throwUp_7 : decode cX5_throwUp 7 = .ok (.aload_n 0, 1) := dk_42 (dk_at dksX5_throwUp_0 7 rfl rfl)
theorem dX5_throwUp_8 : decode cX5_throwUp 8 = .ok (.getfield 396, 3) := dk_180 1 140 (dk_at dksX5_throwUp_0 8 rfl rfl)
theorem dX5_throwUp_11 : decode cX5_throwUp 11 = .ok (.ifCond .le 63, 3) := dk_158 0 63 (dk_at dksX5_throwUp_0 11 rfl rfl)
theorem dX5_throwUp_14 : decode cX5_throwUp 14 = .ok (.aload_n 0, 1) := dk_42 (dk_at dksX5_throwUp_0 14 rfl rfl)
theorem dX5_throwUp_15 : decode cX5_throwUp 15 = .ok (.getfield 100, 3) := dk_180 0 100 (dk_at dksX5_throwUp_0 15 rfl rfl)
theorem dX5_throwUp_18 : decode cX5_throwUp 18 = .ok (.aload_n 0, 1) := dk_42 (dk_at dksX5_throwUp_0 18 rfl rfl)
theorem dX5_throwUp_19 : decode cX5_throwUp 19 = .ok (.getfield 396, 3) := dk_180 1 140 (dk_at dksX5_throwUp_0 19 rfl rfl)
theorem dX5_throwUp_22 : decode cX5_throwUp 22 = .ok (.iconst 1, 1) := dk_4 (dk_at dksX5_throwUp_0 22 rfl rfl)
theorem dX5_throwUp_23 : decode cX5_throwUp 23 = .ok (.isub, 1) := dk_100 (dk_at dksX5_throwUp_0 23 rfl rfl)
theorem dX5_throwUp_24 : decode cX5_throwUp 24 = .ok (.iaload, 1) := dk_46 (dk_at dksX5_throwUp_1 0 rfl rfl)
theorem dX5_throwUp_25 : decode cX5_throwUp 25 = .ok (.aload_n 0, 1) := dk_42 (dk_at dksX5_throwUp_1 1 rfl rfl)
theorem dX5_throwUp_26 : decode cX5_throwUp 26 = .ok (.getfield 381, 3) := dk_180 1 125 (dk_at dksX5_throwUp_1 2 rfl rfl)
theorem dX5_throwUp_29 : decode cX5_throwUp 29 = .ok (.if_icmp .ne 45, 3) := dk_160 0 45 (dk_at dksX5_throwUp_1 5 rfl rfl)
theorem dX5_throwUp_32 : decode cX5_throwUp 32 = .ok (.aload_n 0, 1) := dk_42 (dk_at dksX5_throwUp_1 8 rfl rfl)
theorem dX5_throwUp_33 : decode cX5_throwUp 33 = .ok (.dup, 1) := dk_89 (dk_at dksX5_throwUp_1 9 rfl rfl)
theorem dX5_throwUp_34 : decode cX5_throwUp 34 = .ok (.getfield 396, 3) := dk_180 1 140 (dk_at dksX5_throwUp_1 10 rfl rfl)
theorem dX5_throwUp_37 : decode cX5_throwUp 37 = .ok (.iconst 1, 1) := dk_4 (dk_at dksX5_throwUp_1 13 rfl rfl)
theorem dX5_throwUp_38 : decode cX5_throwUp 38 = .ok (.isub, 1) := dk_100 (dk_at dksX5_throwUp_1 14 rfl rfl)
theorem dX5_throwUp_39 : decode cX5_throwUp 39 = .ok (.putfield 396, 3) := dk_181 1 140 (dk_at dksX5_throwUp_1 15 rfl rfl)
theorem dX5_throwUp_42 : decode cX5_throwUp 42 = .ok (.aload_n 0, 1) := dk_42 (dk_at dksX5_throwUp_1 18 rfl rfl)
theorem dX5_throwUp_43 : decode cX5_throwUp 43 = .ok (.aload_n 0, 1) := dk_42 (dk_at dksX5_throwUp_1 19 rfl rfl)
theorem dX5_throwUp_44 : decode cX5_throwUp 44 = .ok (.getfield 97, 3) := dk_180 0 97 (dk_at dksX5_throwUp_1 20 rfl rfl)
theorem dX5_throwUp_47 : decode cX5_throwUp 47 = .ok (.aload_n 0, 1) := dk_42 (dk_at dksX5_throwUp_1 23 rfl rfl)
theorem dX5_throwUp_48 : decode cX5_throwUp 48 = .ok (.getfield 396, 3) := dk_180 1 140 (dk_at dksX5_throwUp_2 0 rfl rfl)
theorem dX5_throwUp_51 : decode cX5_throwUp 51 = .ok (.iaload, 1) := dk_46 (dk_at dksX5_throwUp_2 3 rfl rfl)
theorem dX5_throwUp_52 : decode cX5_throwUp 52 = .ok (.putfield 399, 3) := dk_181 1 143 (dk_at dksX5_throwUp_2 4 rfl rfl)
theorem dX5_throwUp_55 : decode cX5_throwUp 55 = .ok (.aload_n 0, 1) := dk_42 (dk_at dksX5_throwUp_2 7 rfl rfl)
theorem dX5_throwUp_56 : decode cX5_throwUp 56 = .ok (.getfield 88, 3) := dk_180 0 88 (dk_at dksX5_throwUp_2 8 rfl rfl)
theorem dX5_throwUp_59 : decode cX5_throwUp 59 = .ok (.aload_n 0, 1) := dk_42 (dk_at dksX5_throwUp_2 11 rfl rfl)
theorem dX5_throwUp_60 : decode cX5_throwUp 60 = .ok (.getfield 381, 3) := dk_180 1 125 (dk_at dksX5_throwUp_2 12 rfl rfl)
theorem dX5_throwUp_63 : decode cX5_throwUp 63 = .ok (.aload_n 0, 1) := dk_42 (dk_at dksX5_throwUp_2 15 rfl rfl)
theorem dX5_throwUp_64 : decode cX5_throwUp 64 = .ok (.getfield 94, 3) := dk_180 0 94 (dk_at dksX5_throwUp_2 16 rfl rfl)
theorem dX5_throwUp_67 : decode cX5_throwUp 67 = .ok (.aload_n 0, 1) := dk_42 (dk_at dksX5_throwUp_2 19 rfl rfl)
theorem dX5_throwUp_68 : decode cX5_throwUp 68 = .ok (.getfield 396, 3) := dk_180 1 140 (dk_at dksX5_throwUp_2 20 rfl rfl)
theorem dX5_throwUp_71 : decode cX5_throwUp 71 = .ok (.iaload, 1) := dk_46 (dk_at dksX5_throwUp_2 23 rfl rfl)
theorem dX5_throwUp_72 : decode cX5_throwUp 72 = .ok (.iastore, 1) := dk_79 (dk_at dksX5_throwUp_3 0 rfl rfl)
theorem dX5_throwUp_73 : decode cX5_throwUp 73 = .ok (.return_, 1) := dk_177 (dk_at dksX5_throwUp_3 1 rfl rfl)
theorem dX5_throwUp_74 : decode cX5_throwUp 74 = .ok (.aload_n 0, 1) := dk_42 (dk_at dksX5_throwUp_3 2 rfl rfl)
theorem dX5_throwUp_75 : decode cX5_throwUp 75 = .ok (.aload_n 0, 1) := dk_42 (dk_at dksX5_throwUp_3 3 rfl rfl)
theorem dX5_throwUp_76 : decode cX5_throwUp 76 = .ok (.getfield 381, 3) := dk_180 1 125 (dk_at dksX5_throwUp_3 4 rfl rfl)
theorem dX5_throwUp_79 : decode cX5_throwUp 79 = .ok (.iconst 2, 1) := dk_5 (dk_at dksX5_throwUp_3 7 rfl rfl)
theorem dX5_throwUp_80 : decode cX5_throwUp 80 = .ok (.iload_n 1, 1) := dk_27 (dk_at dksX5_throwUp_3 8 rfl rfl)
theorem dX5_throwUp_81 : decode cX5_throwUp 81 = .ok (.invokevirtual 387, 3) := dk_182 1 131 (dk_at dksX5_throwUp_3 9 rfl rfl)
theorem dX5_throwUp_84 : decode cX5_throwUp 84 = .ok (.aload_n 0, 1) := dk_42 (dk_at dksX5_throwUp_3 12 rfl rfl)
theorem dX5_throwUp_85 : decode cX5_throwUp 85 = .ok (.dup, 1) := dk_89 (dk_at dksX5_throwUp_3 13 rfl rfl)
theorem dX5_throwUp_86 : decode cX5_throwUp 86 = .ok (.getfield 381, 3) := dk_180 1 125 (dk_at dksX5_throwUp_3 14 rfl rfl)
theorem dX5_throwUp_89 : decode cX5_throwUp 89 = .ok (.iconst 1, 1) := dk_4 (dk_at dksX5_throwUp_3 17 rfl rfl)
theorem dX5_throwUp_90 : decode cX5_throwUp 90 = .ok (.isub, 1) := dk_100 (dk_at dksX5_throwUp_3 18 rfl rfl)
theorem dX5_throwUp_91 : decode cX5_throwUp 91 = .ok (.putfield 381, 3) := dk_181 1 125 (dk_at dksX5_throwUp_3 19 rfl rfl)
theorem dX5_throwUp_94 : decode cX5_throwUp 94 = .ok (.goto (-94), 3) := dk_167 255 162 (dk_at dksX5_throwUp_4 0 rfl rfl)
theorem dX5_throwUp_97 : decode cX5_throwUp 97 = .ok (.aload_n 0, 1) := dk_42 (dk_at dksX5_throwUp_4 3 rfl rfl)
theorem dX5_throwUp_98 : decode cX5_throwUp 98 = .ok (.iconst 1, 1) := dk_4 (dk_at dksX5_throwUp_4 4 rfl rfl)
theorem dX5_throwUp_99 : decode cX5_throwUp 99 = .ok (.putfield 390, 3) := dk_181 1 134 (dk_at dksX5_throwUp_4 5 rfl rfl)
theorem dX5_throwUp_102 : decode cX5_throwUp 102 = .ok (.aload_n 0, 1) := dk_42 (dk_at dksX5_throwUp_4 8 rfl rfl)
theorem dX5_throwUp_103 : decode cX5_throwUp 103 = .ok (.iload_n 1, 1) := dk_27 (dk_at dksX5_throwUp_4 9 rfl rfl)
theorem dX5_throwUp_104 : decode cX5_throwUp 104 = .ok (.putfield 393, 3) := dk_181 1 137 (dk_at dksX5_throwUp_4 10 rfl rfl)
theorem dX5_throwUp_107 : decode cX5_throwUp 107 = .ok (.return_, 1) := dk_177 (dk_at dksX5_throwUp_4 13 rfl rfl)
abbrev cX5_invoke : ByteArray := prog_12_method_74_code
def yX5_invoke : MethodName := ⟨RX5, "invoke", "(J)V"⟩
def dkwX5_invoke_5 : List UInt8 := [132, 5, 1, 167, 255, 219, 42, 21, 4, 182, 1, 157, 177]
abbrev dktX5_invoke_5 : List UInt8 := dkwX5_invoke_5 ++ []
def dkwX5_invoke_4 : List UInt8 := [180, 1, 125, 104, 6, 96, 21, 5, 96, 42, 180, 0, 91, 42, 180, 1, 143, 21, 5, 96, 46, 79]
abbrev dktX5_invoke_4 : List UInt8 := dkwX5_invoke_4 ++ dktX5_invoke_5
def dkwX5_invoke_3 : List UInt8 := [42, 16, 253, 182, 1, 154, 167, 0, 52, 3, 54, 5, 21, 5, 29, 162, 0, 37, 42, 180, 0, 85, 6, 42]
abbrev dktX5_invoke_3 : List UInt8 := dkwX5_invoke_3 ++ dktX5_invoke_4
def dkwX5_invoke_2 : List UInt8 := [16, 10, 160, 0, 12, 42, 16, 254, 182, 1, 151, 167, 0, 71, 42, 180, 1, 128, 17, 3, 232, 160, 0, 12]
abbrev dktX5_invoke_2 : List UInt8 := dkwX5_invoke_2 ++ dktX5_invoke_3
def dkwX5_invoke_1 : List UInt8 := [182, 1, 16, 54, 4, 21, 4, 156, 0, 12, 42, 16, 252, 182, 1, 151, 167, 0, 89, 42, 180, 1, 125]
abbrev dktX5_invoke_1 : List UInt8 := dkwX5_invoke_1 ++ dktX5_invoke_2
def dkwX5_invoke_0 : List UInt8 := [31, 20, 1, 149, 127, 136, 62, 42, 42, 180, 1, 143, 29, 100, 181, 1, 143, 42, 31, 5, 123, 29]
abbrev dktX5_invoke_0 : List UInt8 := dkwX5_invoke_0 ++ dktX5_invoke_1
theorem dksX5_invoke_0 : cX5_invoke.data.toList.drop 0 = dktX5_invoke_0 := by decide +kernel
theorem dksX5_invoke_1 : cX5_invoke.data.toList.drop 22 = dktX5_invoke_1 := dk_seg dksX5_invoke_0 22 rfl rfl
theorem dksX5_invoke_2 : cX5_invoke.data.toList.drop 45 = dktX5_invoke_2 := dk_seg dksX5_invoke_1 23 rfl rfl
theorem dksX5_invoke_3 : cX5_invoke.data.toList.drop 69 = dktX5_invoke_3 := dk_seg dksX5_invoke_2 24 rfl rfl
theorem dksX5_invoke_4 : cX5_invoke.data.toList.drop 93 = dktX5_invoke_4 := dk_seg dksX5_invoke_3 24 rfl rfl
theorem dksX5_invoke_5 : cX5_invoke.data.toList.drop 115 = dktX5_invoke_5 := dk_seg dksX5_invoke_4 22 rfl rfl
theorem dX5_invoke_0 : decode cX5_invoke 0 = .ok (.lload_n 1, 1) := dk_31 (dk_at dksX5_invoke_0 0 rfl rfl)
theorem dX5_invoke_1 : decode cX5_invoke 1 = .ok (.ldc2_w 405, 3) := dk_20 1 149 (dk_at dksX5_invoke_0 1 rfl rfl)
theorem dX5_invoke_4 : decode cX5_invoke 4 = .ok (.land, 1) := dk_127 (dk_at dksX5_invoke_0 4 rfl rfl)
theorem dX5_invoke_5 : decode cX5_invoke 5 = .ok (.l2i, 1) := dk_136 (dk_at dksX5_invoke_0 5 rfl rfl)
theorem dX5_invoke_6 : decode cX5_invoke 6 = .ok (.istore_n 3, 1) := dk_62 (dk_at dksX5_invoke_0 6 rfl rfl)
theorem dX5_invoke_7 : decode cX5_invoke 7 = .ok (.aload_n 0, 1) := dk_42 (dk_at dksX5_invoke_0 7 rfl rfl)
theorem dX5_invoke_8 : decode cX5_invoke 8 = .ok (.aload_n 0, 1) := dk_42 (dk_at dksX5_invoke_0 8 rfl rfl)
theorem dX5_invoke_9 : decode cX5_invoke 9 = .ok (.getfield 399, 3) := dk_180 1 143 (dk_at dksX5_invoke_0 9 rfl rfl)
theorem dX5_invoke_12 : decode cX5_invoke 12 = .ok (.iload_n 3, 1) := dk_29 (dk_at dksX5_invoke_0 12 rfl rfl)
theorem dX5_invoke_13 : decode cX5_invoke 13 = .ok (.isub, 1) := dk_100 (dk_at dksX5_invoke_0 13 rfl rfl)
theorem dX5_invoke_14 : decode cX5_invoke 14 = .ok (.putfield 399, 3) := dk_181 1 143 (dk_at dksX5_invoke_0 14 rfl rfl)
theorem dX5_invoke_17 : decode cX5_invoke 17 = .ok (.aload_n 0, 1) := dk_42 (dk_at dksX5_invoke_0 17 rfl rfl)
theorem dX5_invoke_18 : decode cX5_invoke 18 = .ok (.lload_n 1, 1) := dk_31 (dk_at dksX5_invoke_0 18 rfl rfl)
theorem dX5_invoke_19 : decode cX5_invoke 19 = .ok (.iconst 2, 1) := dk_5 (dk_at dksX5_invoke_0 19 rfl rfl)
theorem dX5_invoke_20 : decode cX5_invoke 20 = .ok (.lshr, 1) := dk_123 (dk_at dksX5_invoke_0 20 rfl rfl)
theorem dX5_invoke_21 : decode cX5_invoke 21 = .ok (.iload_n 3, 1) := dk_29 (dk_at dksX5_invoke_0 21 rfl rfl)
theorem dX5_invoke_22 : decode cX5_invoke 22 = .ok (.invokevirtual 272, 3) := dk_182 1 16 (dk_at dksX5_invoke_1 0 rfl rfl)
theorem dX5_invoke_25 : decode cX5_invoke 25 = .ok (.istore 4, 2) := dk_54 4 (dk_at dksX5_invoke_1 3 rfl rfl)
theorem dX5_invoke_27 : decode cX5_invoke 27 = .ok (.iload 4, 2) := dk_21 4 (dk_at dksX5_invoke_1 5 rfl rfl)
theorem dX5_invoke_29 : decode cX5_invoke 29 = .ok (.ifCond .ge 12, 3) := dk_156 0 12 (dk_at dksX5_invoke_1 7 rfl rfl)
theorem dX5_invoke_32 : decode cX5_invoke 32 = .ok (.aload_n 0, 1) := dk_42 (dk_at dksX5_invoke_1 10 rfl rfl)
theorem dX5_invoke_33 : decode cX5_invoke 33 = .ok (.bipush (-4), 2) := dk_16 252 (dk_at dksX5_invoke_1 11 rfl rfl)
theorem dX5_invoke_35 : decode cX5_invoke 35 = .ok (.invokevirtual 407, 3) := dk_182 1 151 (dk_at dksX5_invoke_1 13 rfl rfl)
theorem dX5_invoke_38 : decode cX5_invoke 38 = .ok (.goto 89, 3) := dk_167 0 89 (dk_at dksX5_invoke_1 16 rfl rfl)
theorem dX5_invoke_41 : decode cX5_invoke 41 = .ok (.aload_n 0, 1) := dk_42 (dk_at dksX5_invoke_1 19 rfl rfl)
theorem dX5_invoke_42 : decode cX5_invoke 42 = .ok (.getfield 381, 3) := dk_180 1 125 (dk_at dksX5_invoke_1 20 rfl rfl)
theorem dX5_invoke_45 : decode cX5_invoke 45 = .ok (.bipush 10, 2) := dk_16 10 (dk_at dksX5_invoke_2 0 rfl rfl)
theorem dX5_invoke_47 : decode cX5_invoke 47 = .ok (.if_icmp .ne 12, 3) := dk_160 0 12 (dk_at dksX5_invoke_2 2 rfl rfl)
theorem dX5_invoke_50 : decode cX5_invoke 50 = .ok (.aload_n 0, 1) := dk_42 (dk_at dksX5_invoke_2 5 rfl rfl)
theorem dX5_invoke_51 : decode cX5_invoke 51 = .ok (.bipush (-2), 2) := dk_16 254 (dk_at dksX5_invoke_2 6 rfl rfl)
theorem dX5_invoke_53 : decode cX5_invoke 53 = .ok (.invokevirtual 407, 3) := dk_182 1 151 (dk_at dksX5_invoke_2 8 rfl rfl)
theorem dX5_invoke_56 : decode cX5_invoke 56 = .ok (.goto 71, 3) := dk_167 0 71 (dk_at dksX5_invoke_2 11 rfl rfl)
theorem dX5_invoke_59 : decode cX5_invoke 59 = .ok (.aload_n 0, 1) := dk_42 (dk_at dksX5_invoke_2 14 rfl rfl)
theorem dX5_invoke_60 : decode cX5_invoke 60 = .ok (.getfield 384, 3) := dk_180 1 128 (dk_at dksX5_invoke_2 15 rfl rfl)
theorem dX5_invoke_63 : decode cX5_invoke 63 = .ok (.sipush 1000, 3) := dk_17 3 232 (dk_at dksX5_invoke_2 18 rfl rfl)
theorem dX5_invoke_66 : decode cX5_invoke 66 = .ok (.if_icmp .ne 12, 3) := dk_160 0 12 (dk_at dksX5_invoke_2 21 rfl rfl)
theorem dX5_invoke_69 : decode cX5_invoke 69 = .ok (.aload_n 0, 1) := dk_42 (dk_at dksX5_invoke_3 0 rfl rfl)
theorem dX5_invoke_70 : decode cX5_invoke 70 = .ok (.bipush (-3), 2) := dk_16 253 (dk_at dksX5_invoke_3 1 rfl rfl)
theorem dX5_invoke_72 : decode cX5_invoke 72 = .ok (.invokevirtual 410, 3) := dk_182 1 154 (dk_at dksX5_invoke_3 3 rfl rfl)
theorem dX5_invoke_75 : decode cX5_invoke 75 = .ok (.goto 52, 3) := dk_167 0 52 (dk_at dksX5_invoke_3 6 rfl rfl)
theorem dX5_invoke_78 : decode cX5_invoke 78 = .ok (.iconst 0, 1) := dk_3 (dk_at dksX5_invoke_3 9 rfl rfl)
theorem dX5_invoke_79 : decode cX5_invoke 79 = .ok (.istore 5, 2) := dk_54 5 (dk_at dksX5_invoke_3 10 rfl rfl)
theorem dX5_invoke_81 : decode cX5_invoke 81 = .ok (.iload 5, 2) := dk_21 5 (dk_at dksX5_invoke_3 12 rfl rfl)
theorem dX5_invoke_83 : decode cX5_invoke 83 = .ok (.iload_n 3, 1) := dk_29 (dk_at dksX5_invoke_3 14 rfl rfl)
theorem dX5_invoke_84 : decode cX5_invoke 84 = .ok (.if_icmp .ge 37, 3) := dk_162 0 37 (dk_at dksX5_invoke_3 15 rfl rfl)
theorem dX5_invoke_87 : decode cX5_invoke 87 = .ok (.aload_n 0, 1) := dk_42 (dk_at dksX5_invoke_3 18 rfl rfl)
theorem dX5_invoke_88 : decode cX5_invoke 88 = .ok (.getfield 85, 3) := dk_180 0 85 (dk_at dksX5_invoke_3 19 rfl rfl)
theorem dX5_invoke_91 : decode cX5_invoke 91 = .ok (.iconst 3, 1) := dk_6 (dk_at dksX5_invoke_3 22 rfl rfl)
theorem dX5_invoke_92 : decode cX5_invoke 92 = .ok (.aload_n 0, 1) := dk_42 (dk_at dksX5_invoke_3 23 rfl rfl)
theorem dX5_invoke_93 : decode cX5_invoke 93 = .ok (.getfield 381, 3) := dk_180 1 125 (dk_at dksX5_invoke_4 0 rfl rfl)
theorem dX5_invoke_96 : decode cX5_invoke 96 = .ok (.imul, 1) := dk_104 (dk_at dksX5_invoke_4 3 rfl rfl)
theorem dX5_invoke_97 : decode cX5_invoke 97 = .ok (.iconst 3, 1) := dk_6 (dk_at dksX5_invoke_4 4 rfl rfl)
theorem dX5_invoke_98 : decode cX5_invoke 98 = .ok (.iadd, 1) := dk_96 (dk_at dksX5_invoke_4 5 rfl rfl)
theorem dX5_invoke_99 : decode cX5_invoke 99 = .ok (.iload 5, 2) := dk_21 5 (dk_at dksX5_invoke_4 6 rfl rfl)
theorem dX5_invoke_101 : decode cX5_invoke 101 = .ok (.iadd, 1) := dk_96 (dk_at dksX5_invoke_4 8 rfl rfl)
theorem dX5_invoke_102 : decode cX5_invoke 102 = .ok (.aload_n 0, 1) := dk_42 (dk_at dksX5_invoke_4 9 rfl rfl)
theorem dX5_invoke_103 : decode cX5_invoke 103 = .ok (.getfield 91, 3) := dk_180 0 91 (dk_at dksX5_invoke_4 10 rfl rfl)
theorem dX5_invoke_106 : decode cX5_invoke 106 = .ok (.aload_n 0, 1) := dk_42 (dk_at dksX5_invoke_4 13 rfl rfl)
theorem dX5_invoke_107 : decode cX5_invoke 107 = .ok (.getfield 399, 3) := dk_180 1 143 (dk_at dksX5_invoke_4 14 rfl rfl)
theorem dX5_invoke_110 : decode cX5_invoke 110 = .ok (.iload 5, 2) := dk_21 5 (dk_at dksX5_invoke_4 17 rfl rfl)
theorem dX5_invoke_112 : decode cX5_invoke 112 = .ok (.iadd, 1) := dk_96 (dk_at dksX5_invoke_4 19 rfl rfl)
theorem dX5_invoke_113 : decode cX5_invoke 113 = .ok (.iaload, 1) := dk_46 (dk_at dksX5_invoke_4 20 rfl rfl)
theorem dX5_invoke_114 : decode cX5_invoke 114 = .ok (.iastore, 1) := dk_79 (dk_at dksX5_invoke_4 21 rfl rfl)
theorem dX5_invoke_115 : decode cX5_invoke 115 = .ok (.iinc 5 1, 3) := dk_132 5 1 (dk_at dksX5_invoke_5 0 rfl rfl)
theorem dX5_invoke_118 : decode cX5_invoke 118 = .ok (.goto (-37), 3) := dk_167 255 219 (dk_at dksX5_invoke_5 3 rfl rfl)
theorem dX5_invoke_121 : decode cX5_invoke 121 = .ok (.aload_n 0, 1) := dk_42 (dk_at dksX5_invoke_5 6 rfl rfl)
theorem dX5_invoke_122 : decode cX5_invoke 122 = .ok (.iload 4, 2) := dk_21 4 (dk_at dksX5_invoke_5 7 rfl rfl)
theorem dX5_invoke_124 : decode cX5_invoke 124 = .ok (.invokevirtual 413, 3) := dk_182 1 157 (dk_at dksX5_invoke_5 9 rfl rfl)
theorem dX5_invoke_127 : decode cX5_invoke 127 = .ok (.return_, 1) := dk_177 (dk_at dksX5_invoke_5 12 rfl rfl)
abbrev cX5_throwAll : ByteArray := prog_12_method_70_code
def yX5_throwAll : MethodName := ⟨RX5, "throwAll", "(I)V"⟩
def dkwX5_throwAll_1 : List UInt8 := [181, 1, 125, 167, 255, 229, 42, 4, 181, 1, 134, 42, 27, 181, 1, 137, 177]
abbrev dktX5_throwAll_1 : List UInt8 := dkwX5_throwAll_1 ++ []
def dkwX5_throwAll_0 : List UInt8 := [42, 180, 1, 125, 158, 0, 26, 42, 42, 180, 1, 125, 5, 27, 182, 1, 131, 42, 89, 180, 1, 125, 4, 100]
abbrev dktX5_throwAll_0 : List UInt8 := dkwX5_throwAll_0 ++ dktX5_throwAll_1
theorem dksX5_throwAll_0 : cX5_throwAll.data.toList.drop 0 = dktX5_throwAll_0 := by decide +kernel
theorem dksX5_throwAll_1 : cX5_throwAll.data.toList.drop 24 = dktX5_throwAll_1 := dk_seg dksX5_throwAll_0 24 rfl rfl
theorem dX5_throwAll_0 : decode cX5_throwAll 0 = .ok (.aload_n 0, 1) := dk_42 (dk_at dksX5_throwAll_0 0 rfl rfl)
theorem dX5_throwAll_1 : decode cX5_throwAll 1 = .ok (.getfield 381, 3) := dk_180 1 125 (dk_at dksX5_throwAll_0 1 rfl rfl)
theorem dX5_throwAll_4 : decode cX5_throwAll 4 = .ok (.ifCond .le 26, 3) := dk_158 0 26 (dk_at dksX5_throwAll_0 4 rfl rfl)
theorem dX5_throwAll_7 : decode cX5_throwAll 7 = .ok (.aload_n 0, 1) := dk_42 (dk_at dksX5_throwAll_0 7 rfl rfl)
theorem dX5_throwAll_8 : decode cX5_throwAll 8 = .ok (.aload_n 0, 1) := dk_42 (dk_at dksX5_throwAll_0 8 rfl rfl)
theorem dX5_throwAll_9 : decode cX5_throwAll 9 = .ok (.getfield 381, 3) := dk_180 1 125 (dk_at dksX5_throwAll_0 9 rfl rfl)
theorem dX5_throwAll_12 : decode cX5_throwAll 12 = .ok (.iconst 2, 1) := dk_5 (dk_at dksX5_throwAll_0 12 rfl rfl)
theorem dX5_throwAll_13 : decode cX5_throwAll 13 = .ok (.iload_n 1, 1) := dk_27 (dk_at dksX5_throwAll_0 13 rfl rfl)
theorem dX5_throwAll_14 : decode cX5_throwAll 14 = .ok (.invokevirtual 387, 3) := dk_182 1 131 (dk_at dksX5_throwAll_0 14 rfl rfl)
theorem dX5_throwAll_17 : decode cX5_throwAll 17 = .ok (.aload_n 0, 1) := dk_42 (dk_at dksX5_throwAll_0 17 rfl rfl)
theorem dX5_throwAll_18 : decode cX5_throwAll 18 = .ok (.dup, 1) := dk_89 (dk_at dksX5_throwAll_0 18 rfl rfl)
theorem dX5_throwAll_19 : decode cX5_throwAll 19 = .ok (.getfield 381, 3) := dk_180 1 125 (dk_at dksX5_throwAll_0 19 rfl rfl)
theorem dX5_throwAll_22 : decode cX5_throwAll 22 = .ok (.iconst 1, 1) := dk_4 (dk_at dksX5_throwAll_0 22 rfl rfl)
theorem dX5_throwAll_23 : decode cX5_throwAll 23 = .ok (.isub, 1) := dk_100 (dk_at dksX5_throwAll_0 23 rfl rfl)
theorem dX5_throwAll_24 : decode cX5_throwAll 24 = .ok (.putfield 381, 3) := dk_181 1 125 (dk_at dksX5_throwAll_1 0 rfl rfl)
theorem dX5_throwAll_27 : decode cX5_throwAll 27 = .ok (.goto (-27), 3) := dk_167 255 229 (dk_at dksX5_throwAll_1 3 rfl rfl)
theorem dX5_throwAll_30 : decode cX5_throwAll 30 = .ok (.aload_n 0, 1) := dk_42 (dk_at dksX5_throwAll_1 6 rfl rfl)
theorem dX5_throwAll_31 : decode cX5_throwAll 31 = .ok (.iconst 1, 1) := dk_4 (dk_at dksX5_throwAll_1 7 rfl rfl)
theorem dX5_throwAll_32 : decode cX5_throwAll 32 = .ok (.putfield 390, 3) := dk_181 1 134 (dk_at dksX5_throwAll_1 8 rfl rfl)
theorem dX5_throwAll_35 : decode cX5_throwAll 35 = .ok (.aload_n 0, 1) := dk_42 (dk_at dksX5_throwAll_1 11 rfl rfl)
theorem dX5_throwAll_36 : decode cX5_throwAll 36 = .ok (.iload_n 1, 1) := dk_27 (dk_at dksX5_throwAll_1 12 rfl rfl)
theorem dX5_throwAll_37 : decode cX5_throwAll 37 = .ok (.putfield 393, 3) := dk_181 1 137 (dk_at dksX5_throwAll_1 13 rfl rfl)
theorem dX5_throwAll_40 : decode cX5_throwAll 40 = .ok (.return_, 1) := dk_177 (dk_at dksX5_throwAll_1 16 rfl rfl)
abbrev cX5_value : ByteArray := prog_12_method_78_code
def yX5_value : MethodName := ⟨RX5, "value", "()I"⟩
def dkwX5_value_0 : List UInt8 := [42, 3, 181, 0, 115, 42, 180, 1, 170, 172]
abbrev dktX5_value_0 : List UInt8 := dkwX5_value_0 ++ []
theorem dksX5_value_0 : cX5_value.data.toList.drop 0 = dktX5_value_0 := by decide +kernel
theorem dX5_value_0 : decode cX5_value 0 = .ok (.aload_n 0, 1) := dk_42 (dk_at dksX5_value_0 0 rfl rfl)
theorem dX5_value_1 : decode cX5_value 1 = .ok (.iconst 0, 1) := dk_3 (dk_at dksX5_value_0 1 rfl rfl)
theorem dX5_value_2 : decode cX5_value 2 = .ok (.putfield 115, 3) := dk_181 0 115 (dk_at dksX5_value_0 2 rfl rfl)
theorem dX5_value_5 : decode cX5_value 5 = .ok (.aload_n 0, 1) := dk_42 (dk_at dksX5_value_0 5 rfl rfl)
theorem dX5_value_6 : decode cX5_value 6 = .ok (.getfield 426, 3) := dk_180 1 170 (dk_at dksX5_value_0 6 rfl rfl)
theorem dX5_value_9 : decode cX5_value 9 = .ok (.ireturn, 1) := dk_172 (dk_at dksX5_value_0 9 rfl rfl)
abbrev cX5_invoked : ByteArray := prog_12_method_79_code
def yX5_invoked : MethodName := ⟨RX5, "invoked", "()I"⟩
def dkwX5_invoked_0 : List UInt8 := [42, 3, 181, 0, 115, 42, 180, 1, 128, 172]
abbrev dktX5_invoked_0 : List UInt8 := dkwX5_invoked_0 ++ []
theorem dksX5_invoked_0 : cX5_invoked.data.toList.drop 0 = dktX5_invoked_0 := by decide +kernel
theorem dX5_invoked_0 : decode cX5_invoked 0 = .ok (.aload_n 0, 1) := dk_42 (dk_at dksX5_invoked_0 0 rfl rfl)
theorem dX5_invoked_1 : decode cX5_invoked 1 = .ok (.iconst 0, 1) := dk_3 (dk_at dksX5_invoked_0 1 rfl rfl)
theorem dX5_invoked_2 : decode cX5_invoked 2 = .ok (.putfield 115, 3) := dk_181 0 115 (dk_at dksX5_invoked_0 2 rfl rfl)
theorem dX5_invoked_5 : decode cX5_invoked 5 = .ok (.aload_n 0, 1) := dk_42 (dk_at dksX5_invoked_0 5 rfl rfl)
theorem dX5_invoked_6 : decode cX5_invoked 6 = .ok (.getfield 384, 3) := dk_180 1 128 (dk_at dksX5_invoked_0 6 rfl rfl)
theorem dX5_invoked_9 : decode cX5_invoked 9 = .ok (.ireturn, 1) := dk_172 (dk_at dksX5_invoked_0 9 rfl rfl)
abbrev cX5_records : ByteArray := prog_12_method_80_code
def yX5_records : MethodName := ⟨RX5, "records", "()I"⟩
def dkwX5_records_0 : List UInt8 := [42, 3, 181, 0, 115, 42, 180, 1, 100, 172]
abbrev dktX5_records_0 : List UInt8 := dkwX5_records_0 ++ []
theorem dksX5_records_0 : cX5_records.data.toList.drop 0 = dktX5_records_0 := by decide +kernel
theorem dX5_records_0 : decode cX5_records 0 = .ok (.aload_n 0, 1) := dk_42 (dk_at dksX5_records_0 0 rfl rfl)
theorem dX5_records_1 : decode cX5_records 1 = .ok (.iconst 0, 1) := dk_3 (dk_at dksX5_records_0 1 rfl rfl)
theorem dX5_records_2 : decode cX5_records 2 = .ok (.putfield 115, 3) := dk_181 0 115 (dk_at dksX5_records_0 2 rfl rfl)
theorem dX5_records_5 : decode cX5_records 5 = .ok (.aload_n 0, 1) := dk_42 (dk_at dksX5_records_0 5 rfl rfl)
theorem dX5_records_6 : decode cX5_records 6 = .ok (.getfield 356, 3) := dk_180 1 100 (dk_at dksX5_records_0 6 rfl rfl)
theorem dX5_records_9 : decode cX5_records 9 = .ok (.ireturn, 1) := dk_172 (dk_at dksX5_records_0 9 rfl rfl)
abbrev cX5_record_2 : ByteArray := prog_12_method_81_code
def yX5_record_2 : MethodName := ⟨RX5, "record", "(II)I"⟩
def dkwX5_record_2_2 : List UInt8 := [180, 0, 76, 8, 27, 104, 28, 96, 46, 172]
abbrev dktX5_record_2_2 : List UInt8 := dkwX5_record_2_2 ++ []
def dkwX5_record_2_1 : List UInt8 := [164, 0, 7, 5, 167, 0, 4, 3, 181, 0, 115, 42, 180, 0, 115, 158, 0, 7, 3, 167, 0, 13, 42]
abbrev dktX5_record_2_1 : List UInt8 := dkwX5_record_2_1 ++ dktX5_record_2_2
def dkwX5_record_2_0 : List UInt8 := [42, 27, 155, 0, 11, 27, 42, 180, 1, 100, 161, 0, 7, 4, 167, 0, 17, 28, 155, 0, 8, 28, 7]
abbrev dktX5_record_2_0 : List UInt8 := dkwX5_record_2_0 ++ dktX5_record_2_1
theorem dksX5_record_2_0 : cX5_record_2.data.toList.drop 0 = dktX5_record_2_0 := by decide +kernel
theorem dksX5_record_2_1 : cX5_record_2.data.toList.drop 23 = dktX5_record_2_1 := dk_seg dksX5_record_2_0 23 rfl rfl
theorem dksX5_record_2_2 : cX5_record_2.data.toList.drop 46 = dktX5_record_2_2 := dk_seg dksX5_record_2_1 23 rfl rfl
theorem dX5_record_2_0 : decode cX5_record_2 0 = .ok (.aload_n 0, 1) := dk_42 (dk_at dksX5_record_2_0 0 rfl rfl)
theorem dX5_record_2_1 : decode cX5_record_2 1 = .ok (.iload_n 1, 1) := dk_27 (dk_at dksX5_record_2_0 1 rfl rfl)
theorem dX5_record_2_2 : decode cX5_record_2 2 = .ok (.ifCond .lt 11, 3) := dk_155 0 11 (dk_at dksX5_record_2_0 2 rfl rfl)
theorem dX5_record_2_5 : decode cX5_record_2 5 = .ok (.iload_n 1, 1) := dk_27 (dk_at dksX5_record_2_0 5 rfl rfl)
theorem dX5_record_2_6 : decode cX5_record_2 6 = .ok (.aload_n 0, 1) := dk_42 (dk_at dksX5_record_2_0 6 rfl rfl)
theorem dX5_record_2_7 : decode cX5_record_2 7 = .ok (.getfield 356, 3) := dk_180 1 100 (dk_at dksX5_record_2_0 7 rfl rfl)
theorem dX5_record_2_10 : decode cX5_record_2 10 = .ok (.if_icmp .lt 7, 3) := dk_161 0 7 (dk_at dksX5_record_2_0 10 rfl rfl)
theorem dX5_record_2_13 : decode cX5_record_2 13 = .ok (.iconst 1, 1) := dk_4 (dk_at dksX5_record_2_0 13 rfl rfl)
theorem dX5_record_2_14 : decode cX5_record_2 14 = .ok (.goto 17, 3) := dk_167 0 17 (dk_at dksX5_record_2_0 14 rfl rfl)
theorem dX5_record_2_17 : decode cX5_record_2 17 = .ok (.iload_n 2, 1) := dk_28 (dk_at dksX5_record_2_0 17 rfl rfl)
theorem dX5_record_2_18 : decode cX5_record_2 18 = .ok (.ifCond .lt 8, 3) := dk_155 0 8 (dk_at dksX5_record_2_0 18 rfl rfl)
theorem dX5_record_2_21 : decode cX5_record_2 21 = .ok (.iload_n 2, 1) := dk_28 (dk_at dksX5_record_2_0 21 rfl rfl)
theorem dX5_record_2_22 : decode cX5_record_2 22 = .ok (.iconst 4, 1) := dk_7 (dk_at dksX5_record_2_0 22 rfl rfl)
theorem dX5_record_2_23 : decode cX5_record_2 23 = .ok (.if_icmp .le 7, 3) := dk_164 0 7 (dk_at dksX5_record_2_1 0 rfl rfl)
theorem dX5_record_2_26 : decode cX5_record_2 26 = .ok (.iconst 2, 1) := dk_5 (dk_at dksX5_record_2_1 3 rfl rfl)
theorem dX5_record_2_27 : decode cX5_record_2 27 = .ok (.goto 4, 3) := dk_167 0 4 (dk_at dksX5_record_2_1 4 rfl rfl)
theorem dX5_record_2_30 : decode cX5_record_2 30 = .ok (.iconst 0, 1) := dk_3 (dk_at dksX5_record_2_1 7 rfl rfl)
theorem dX5_record_2_31 : decode cX5_record_2 31 = .ok (.putfield 115, 3) := dk_181 0 115 (dk_at dksX5_record_2_1 8 rfl rfl)
theorem dX5_record_2_34 : decode cX5_record_2 34 = .ok (.aload_n 0, 1) := dk_42 (dk_at dksX5_record_2_1 11 rfl rfl)
theorem dX5_record_2_35 : decode cX5_record_2 35 = .ok (.getfield 115, 3) := dk_180 0 115 (dk_at dksX5_record_2_1 12 rfl rfl)
theorem dX5_record_2_38 : decode cX5_record_2 38 = .ok (.ifCond .le 7, 3) := dk_158 0 7 (dk_at dksX5_record_2_1 15 rfl rfl)
theorem dX5_record_2_41 : decode cX5_record_2 41 = .ok (.iconst 0, 1) := dk_3 (dk_at dksX5_record_2_1 18 rfl rfl)
theorem dX5_record_2_42 : decode cX5_record_2 42 = .ok (.goto 13, 3) := dk_167 0 13 (dk_at dksX5_record_2_1 19 rfl rfl)
theorem dX5_record_2_45 : decode cX5_record_2 45 = .ok (.aload_n 0, 1) := dk_42 (dk_at dksX5_record_2_1 22 rfl rfl)
theorem dX5_record_2_46 : decode cX5_record_2 46 = .ok (.getfield 76, 3) := dk_180 0 76 (dk_at dksX5_record_2_2 0 rfl rfl)
theorem dX5_record_2_49 : decode cX5_record_2 49 = .ok (.iconst 5, 1) := dk_8 (dk_at dksX5_record_2_2 3 rfl rfl)
theorem dX5_record_2_50 : decode cX5_record_2 50 = .ok (.iload_n 1, 1) := dk_27 (dk_at dksX5_record_2_2 4 rfl rfl)
theorem dX5_record_2_51 : decode cX5_record_2 51 = .ok (.imul, 1) := dk_104 (dk_at dksX5_record_2_2 5 rfl rfl)
theorem dX5_record_2_52 : decode cX5_record_2 52 = .ok (.iload_n 2, 1) := dk_28 (dk_at dksX5_record_2_2 6 rfl rfl)
theorem dX5_record_2_53 : decode cX5_record_2 53 = .ok (.iadd, 1) := dk_96 (dk_at dksX5_record_2_2 7 rfl rfl)
theorem dX5_record_2_54 : decode cX5_record_2 54 = .ok (.iaload, 1) := dk_46 (dk_at dksX5_record_2_2 8 rfl rfl)
theorem dX5_record_2_55 : decode cX5_record_2 55 = .ok (.ireturn, 1) := dk_172 (dk_at dksX5_record_2_2 9 rfl rfl)
abbrev cX5_clear : ByteArray := prog_12_method_82_code
def yX5_clear : MethodName := ⟨RX5, "clear", "()I"⟩
def dkwX5_clear_0 : List UInt8 := [42, 3, 181, 0, 115, 42, 180, 1, 100, 60, 42, 3, 181, 1, 100, 42, 3, 181, 1, 109, 27, 172]
abbrev dktX5_clear_0 : List UInt8 := dkwX5_clear_0 ++ []
theorem dksX5_clear_0 : cX5_clear.data.toList.drop 0 = dktX5_clear_0 := by decide +kernel
theorem dX5_clear_0 : decode cX5_clear 0 = .ok (.aload_n 0, 1) := dk_42 (dk_at dksX5_clear_0 0 rfl rfl)
theorem dX5_clear_1 : decode cX5_clear 1 = .ok (.iconst 0, 1) := dk_3 (dk_at dksX5_clear_0 1 rfl rfl)
theorem dX5_clear_2 : decode cX5_clear 2 = .ok (.putfield 115, 3) := dk_181 0 115 (dk_at dksX5_clear_0 2 rfl rfl)
theorem dX5_clear_5 : decode cX5_clear 5 = .ok (.aload_n 0, 1) := dk_42 (dk_at dksX5_clear_0 5 rfl rfl)
theorem dX5_clear_6 : decode cX5_clear 6 = .ok (.getfield 356, 3) := dk_180 1 100 (dk_at dksX5_clear_0 6 rfl rfl)
theorem dX5_clear_9 : decode cX5_clear 9 = .ok (.istore_n 1, 1) := dk_60 (dk_at dksX5_clear_0 9 rfl rfl)
theorem dX5_clear_10 : decode cX5_clear 10 = .ok (.aload_n 0, 1) := dk_42 (dk_at dksX5_clear_0 10 rfl rfl)
theorem dX5_clear_11 : decode cX5_clear 11 = .ok (.iconst 0, 1) := dk_3 (dk_at dksX5_clear_0 11 rfl rfl)
theorem dX5_clear_12 : decode cX5_clear 12 = .ok (.putfield 356, 3) := dk_181 1 100 (dk_at dksX5_clear_0 12 rfl rfl)
theorem dX5_clear_15 : decode cX5_clear 15 = .ok (.aload_n 0, 1) := dk_42 (dk_at dksX5_clear_0 15 rfl rfl)
theorem dX5_clear_16 : decode cX5_clear 16 = .ok (.iconst 0, 1) := dk_3 (dk_at dksX5_clear_0 16 rfl rfl)
theorem dX5_clear_17 : decode cX5_clear 17 = .ok (.putfield 365, 3) := dk_181 1 109 (dk_at dksX5_clear_0 17 rfl rfl)
theorem dX5_clear_20 : decode cX5_clear 20 = .ok (.iload_n 1, 1) := dk_27 (dk_at dksX5_clear_0 20 rfl rfl)
theorem dX5_clear_21 : decode cX5_clear 21 = .ok (.ireturn, 1) := dk_172 (dk_at dksX5_clear_0 21 rfl rfl)
abbrev cX5_job : ByteArray := prog_12_method_83_code
def yX5_job : MethodName := ⟨RX5, "job", "(II)I"⟩
def dkwX5_job_3 : List UInt8 := [42, 180, 0, 57, 27, 46, 100, 167, 0, 4, 3, 172]
abbrev dktX5_job_3 : List UInt8 := dkwX5_job_3 ++ []
def dkwX5_job_2 : List UInt8 := [180, 0, 48, 27, 46, 167, 0, 30, 42, 180, 0, 48, 27, 46, 4, 160, 0, 19, 42, 180, 0, 54, 27, 46]
abbrev dktX5_job_2 : List UInt8 := dkwX5_job_2 ++ dktX5_job_3
def dkwX5_job_1 : List UInt8 := [5, 167, 0, 4, 3, 181, 0, 115, 42, 180, 0, 115, 158, 0, 5, 3, 172, 28, 154, 0, 12, 42]
abbrev dktX5_job_1 : List UInt8 := dkwX5_job_1 ++ dktX5_job_2
def dkwX5_job_0 : List UInt8 := [42, 27, 155, 0, 9, 27, 16, 8, 161, 0, 7, 4, 167, 0, 17, 28, 155, 0, 8, 28, 4, 164, 0, 7]
abbrev dktX5_job_0 : List UInt8 := dkwX5_job_0 ++ dktX5_job_1
theorem dksX5_job_0 : cX5_job.data.toList.drop 0 = dktX5_job_0 := by decide +kernel
theorem dksX5_job_1 : cX5_job.data.toList.drop 24 = dktX5_job_1 := dk_seg dksX5_job_0 24 rfl rfl
theorem dksX5_job_2 : cX5_job.data.toList.drop 46 = dktX5_job_2 := dk_seg dksX5_job_1 22 rfl rfl
theorem dksX5_job_3 : cX5_job.data.toList.drop 70 = dktX5_job_3 := dk_seg dksX5_job_2 24 rfl rfl
theorem dX5_job_0 : decode cX5_job 0 = .ok (.aload_n 0, 1) := dk_42 (dk_at dksX5_job_0 0 rfl rfl)
theorem dX5_job_1 : decode cX5_job 1 = .ok (.iload_n 1, 1) := dk_27 (dk_at dksX5_job_0 1 rfl rfl)
theorem dX5_job_2 : decode cX5_job 2 = .ok (.ifCond .lt 9, 3) := dk_155 0 9 (dk_at dksX5_job_0 2 rfl rfl)
theorem dX5_job_5 : decode cX5_job 5 = .ok (.iload_n 1, 1) := dk_27 (dk_at dksX5_job_0 5 rfl rfl)
theorem dX5_job_6 : decode cX5_job 6 = .ok (.bipush 8, 2) := dk_16 8 (dk_at dksX5_job_0 6 rfl rfl)
theorem dX5_job_8 : decode cX5_job 8 = .ok (.if_icmp .lt 7, 3) := dk_161 0 7 (dk_at dksX5_job_0 8 rfl rfl)
theorem dX5_job_11 : decode cX5_job 11 = .ok (.iconst 1, 1) := dk_4 (dk_at dksX5_job_0 11 rfl rfl)
theorem dX5_job_12 : decode cX5_job 12 = .ok (.goto 17, 3) := dk_167 0 17 (dk_at dksX5_job_0 12 rfl rfl)
theorem dX5_job_15 : decode cX5_job 15 = .ok (.iload_n 2, 1) := dk_28 (dk_at dksX5_job_0 15 rfl rfl)
theorem dX5_job_16 : decode cX5_job 16 = .ok (.ifCond .lt 8, 3) := dk_155 0 8 (dk_at dksX5_job_0 16 rfl rfl)
theorem dX5_job_19 : decode cX5_job 19 = .ok (.iload_n 2, 1) := dk_28 (dk_at dksX5_job_0 19 rfl rfl)
theorem dX5_job_20 : decode cX5_job 20 = .ok (.iconst 1, 1) := dk_4 (dk_at dksX5_job_0 20 rfl rfl)
theorem dX5_job_21 : decode cX5_job 21 = .ok (.if_icmp .le 7, 3) := dk_164 0 7 (dk_at dksX5_job_0 21 rfl rfl)
theorem dX5_job_24 : decode cX5_job 24 = .ok (.iconst 2, 1) := dk_5 (dk_at dksX5_job_1 0 rfl rfl)
theorem dX5_job_25 : decode cX5_job 25 = .ok (.goto 4, 3) := dk_167 0 4 (dk_at dksX5_job_1 1 rfl rfl)
theorem dX5_job_28 : decode cX5_job 28 = .ok (.iconst 0, 1) := dk_3 (dk_at dksX5_job_1 4 rfl rfl)
theorem dX5_job_29 : decode cX5_job 29 = .ok (.putfield 115, 3) := dk_181 0 115 (dk_at dksX5_job_1 5 rfl rfl)
theorem dX5_job_32 : decode cX5_job 32 = .ok (.aload_n 0, 1) := dk_42 (dk_at dksX5_job_1 8 rfl rfl)
theorem dX5_job_33 : decode cX5_job 33 = .ok (.getfield 115, 3) := dk_180 0 115 (dk_at dksX5_job_1 9 rfl rfl)
theorem dX5_job_36 : decode cX5_job 36 = .ok (.ifCond .le 5, 3) := dk_158 0 5 (dk_at dksX5_job_1 12 rfl rfl)
theorem dX5_job_39 : decode cX5_job 39 = .ok (.iconst 0, 1) := dk_3 (dk_at dksX5_job_1 15 rfl rfl)
theorem dX5_job_40 : decode cX5_job 40 = .ok (.ireturn, 1) := dk_172 (dk_at dksX5_job_1 16 rfl rfl)
theorem dX5_job_41 : decode cX5_job 41 = .ok (.iload_n 2, 1) := dk_28 (dk_at dksX5_job_1 17 rfl rfl)
theorem dX5_job_42 : decode cX5_job 42 = .ok (.ifCond .ne 12, 3) := dk_154 0 12 (dk_at dksX5_job_1 18 rfl rfl)
theorem dX5_job_45 : decode cX5_job 45 = .ok (.aload_n 0, 1) := dk_42 (dk_at dksX5_job_1 21 rfl rfl)
theorem dX5_job_46 : decode cX5_job 46 = .ok (.getfield 48, 3) := dk_180 0 48 (dk_at dksX5_job_2 0 rfl rfl)
theorem dX5_job_49 : decode cX5_job 49 = .ok (.iload_n 1, 1) := dk_27 (dk_at dksX5_job_2 3 rfl rfl)
theorem dX5_job_50 : decode cX5_job 50 = .ok (.iaload, 1) := dk_46 (dk_at dksX5_job_2 4 rfl rfl)
theorem dX5_job_51 : decode cX5_job 51 = .ok (.goto 30, 3) := dk_167 0 30 (dk_at dksX5_job_2 5 rfl rfl)
theorem dX5_job_54 : decode cX5_job 54 = .ok (.aload_n 0, 1) := dk_42 (dk_at dksX5_job_2 8 rfl rfl)
theorem dX5_job_55 : decode cX5_job 55 = .ok (.getfield 48, 3) := dk_180 0 48 (dk_at dksX5_job_2 9 rfl rfl)
theorem dX5_job_58 : decode cX5_job 58 = .ok (.iload_n 1, 1) := dk_27 (dk_at dksX5_job_2 12 rfl rfl)
theorem dX5_job_59 : decode cX5_job 59 = .ok (.iaload, 1) := dk_46 (dk_at dksX5_job_2 13 rfl rfl)
theorem dX5_job_60 : decode cX5_job 60 = .ok (.iconst 1, 1) := dk_4 (dk_at dksX5_job_2 14 rfl rfl)
theorem dX5_job_61 : decode cX5_job 61 = .ok (.if_icmp .ne 19, 3) := dk_160 0 19 (dk_at dksX5_job_2 15 rfl rfl)
theorem dX5_job_64 : decode cX5_job 64 = .ok (.aload_n 0, 1) := dk_42 (dk_at dksX5_job_2 18 rfl rfl)
theorem dX5_job_65 : decode cX5_job 65 = .ok (.getfield 54, 3) := dk_180 0 54 (dk_at dksX5_job_2 19 rfl rfl)
theorem dX5_job_68 : decode cX5_job 68 = .ok (.iload_n 1, 1) := dk_27 (dk_at dksX5_job_2 22 rfl rfl)
theorem dX5_job_69 : decode cX5_job 69 = .ok (.iaload, 1) := dk_46 (dk_at dksX5_job_2 23 rfl rfl)
theorem dX5_job_70 : decode cX5_job 70 = .ok (.aload_n 0, 1) := dk_42 (dk_at dksX5_job_3 0 rfl rfl)
theorem dX5_job_71 : decode cX5_job 71 = .ok (.getfield 57, 3) := dk_180 0 57 (dk_at dksX5_job_3 1 rfl rfl)
theorem dX5_job_74 : decode cX5_job 74 = .ok (.iload_n 1, 1) := dk_27 (dk_at dksX5_job_3 4 rfl rfl)
theorem dX5_job_75 : decode cX5_job 75 = .ok (.iaload, 1) := dk_46 (dk_at dksX5_job_3 5 rfl rfl)
theorem dX5_job_76 : decode cX5_job 76 = .ok (.isub, 1) := dk_100 (dk_at dksX5_job_3 6 rfl rfl)
theorem dX5_job_77 : decode cX5_job 77 = .ok (.goto 4, 3) := dk_167 0 4 (dk_at dksX5_job_3 7 rfl rfl)
theorem dX5_job_80 : decode cX5_job 80 = .ok (.iconst 0, 1) := dk_3 (dk_at dksX5_job_3 10 rfl rfl)
theorem dX5_job_81 : decode cX5_job 81 = .ok (.ireturn, 1) := dk_172 (dk_at dksX5_job_3 11 rfl rfl)
abbrev cX5_counted : ByteArray := prog_12_method_84_code
def yX5_counted : MethodName := ⟨RX5, "counted", "(III)I"⟩
def dkwX5_counted_3 : List UInt8 := [158, 0, 7, 3, 167, 0, 18, 42, 180, 0, 73, 16, 48, 27, 104, 6, 28, 104, 96, 29, 96, 46, 172]
abbrev dktX5_counted_3 : List UInt8 := dkwX5_counted_3 ++ []
def dkwX5_counted_2 : List UInt8 := [167, 0, 17, 29, 155, 0, 8, 29, 5, 164, 0, 7, 5, 167, 0, 4, 3, 181, 0, 115, 42, 180, 0, 115]
abbrev dktX5_counted_2 : List UInt8 := dkwX5_counted_2 ++ dktX5_counted_3
def dkwX5_counted_1 : List UInt8 := [167, 0, 4, 3, 54, 4, 42, 21, 4, 153, 0, 13, 42, 180, 0, 48, 27, 46, 5, 159, 0, 7, 4]
abbrev dktX5_counted_1 : List UInt8 := dkwX5_counted_1 ++ dktX5_counted_2
def dkwX5_counted_0 : List UInt8 := [27, 155, 0, 25, 27, 16, 8, 162, 0, 19, 28, 155, 0, 15, 28, 42, 180, 1, 4, 162, 0, 7, 4]
abbrev dktX5_counted_0 : List UInt8 := dkwX5_counted_0 ++ dktX5_counted_1
theorem dksX5_counted_0 : cX5_counted.data.toList.drop 0 = dktX5_counted_0 := by decide +kernel
theorem dksX5_counted_1 : cX5_counted.data.toList.drop 23 = dktX5_counted_1 := dk_seg dksX5_counted_0 23 rfl rfl
theorem dksX5_counted_2 : cX5_counted.data.toList.drop 46 = dktX5_counted_2 := dk_seg dksX5_counted_1 23 rfl rfl
theorem dksX5_counted_3 : cX5_counted.data.toList.drop 70 = dktX5_counted_3 := dk_seg dksX5_counted_2 24 rfl rfl
theorem dX5_counted_0 : decode cX5_counted 0 = .ok (.iload_n 1, 1) := dk_27 (dk_at dksX5_counted_0 0 rfl rfl)
theorem dX5_counted_1 : decode cX5_counted 1 = .ok (.ifCond .lt 25, 3) := dk_155 0 25 (dk_at dksX5_counted_0 1 rfl rfl)
theorem dX5_counted_4 : decode cX5_counted 4 = .ok (.iload_n 1, 1) := dk_27 (dk_at dksX5_counted_0 4 rfl rfl)
theorem dX5_counted_5 : decode cX5_counted 5 = .ok (.bipush 8, 2) := dk_16 8 (dk_at dksX5_counted_0 5 rfl rfl)
theorem dX5_counted_7 : decode cX5_counted 7 = .ok (.if_icmp .ge 19, 3) := dk_162 0 19 (dk_at dksX5_counted_0 7 rfl rfl)
theorem dX5_counted_10 : decode cX5_counted 10 = .ok (.iload_n 2, 1) := dk_28 (dk_at dksX5_counted_0 10 rfl rfl)
theorem dX5_counted_11 : decode cX5_counted 11 = .ok (.ifCond .lt 15, 3) := dk_155 0 15 (dk_at dksX5_counted_0 11 rfl rfl)
theorem dX5_counted_14 : decode cX5_counted 14 = .ok (.iload_n 2, 1) := dk_28 (dk_at dksX5_counted_0 14 rfl rfl)
theorem dX5_counted_15 : decode cX5_counted 15 = .ok (.aload_n 0, 1) := dk_42 (dk_at dksX5_counted_0 15 rfl rfl)
theorem dX5_counted_16 : decode cX5_counted 16 = .ok (.getfield 260, 3) := dk_180 1 4 (dk_at dksX5_counted_0 16 rfl rfl)
theorem dX5_counted_19 : decode cX5_counted 19 = .ok (.if_icmp .ge 7, 3) := dk_162 0 7 (dk_at dksX5_counted_0 19 rfl rfl)
theorem dX5_counted_22 : decode cX5_counted 22 = .ok (.iconst 1, 1) := dk_4 (dk_at dksX5_counted_0 22 rfl rfl)
theorem dX5_counted_23 : decode cX5_counted 23 = .ok (.goto 4, 3) := dk_167 0 4 (dk_at dksX5_counted_1 0 rfl rfl)
theorem dX5_counted_26 : decode cX5_counted 26 = .ok (.iconst 0, 1) := dk_3 (dk_at dksX5_counted_1 3 rfl rfl)
theorem dX5_counted_27 : decode cX5_counted 27 = .ok (.istore 4, 2) := dk_54 4 (dk_at dksX5_counted_1 4 rfl rfl)
theorem dX5_counted_29 : decode cX5_counted 29 = .ok (.aload_n 0, 1) := dk_42 (dk_at dksX5_counted_1 6 rfl rfl)
theorem dX5_counted_30 : decode cX5_counted 30 = .ok (.iload 4, 2) := dk_21 4 (dk_at dksX5_counted_1 7 rfl rfl)
theorem dX5_counted_32 : decode cX5_counted 32 = .ok (.ifCond .eq 13, 3) := dk_153 0 13 (dk_at dksX5_counted_1 9 rfl rfl)
theorem dX5_counted_35 : decode cX5_counted 35 = .ok (.aload_n 0, 1) := dk_42 (dk_at dksX5_counted_1 12 rfl rfl)
theorem dX5_counted_36 : decode cX5_counted 36 = .ok (.getfield 48, 3) := dk_180 0 48 (dk_at dksX5_counted_1 13 rfl rfl)
theorem dX5_counted_39 : decode cX5_counted 39 = .ok (.iload_n 1, 1) := dk_27 (dk_at dksX5_counted_1 16 rfl rfl)
theorem dX5_counted_40 : decode cX5_counted 40 = .ok (.iaload, 1) := dk_46 (dk_at dksX5_counted_1 17 rfl rfl)
theorem dX5_counted_41 : decode cX5_counted 41 = .ok (.iconst 2, 1) := dk_5 (dk_at dksX5_counted_1 18 rfl rfl)
theorem dX5_counted_42 : decode cX5_counted 42 = .ok (.if_icmp .eq 7, 3) := dk_159 0 7 (dk_at dksX5_counted_1 19 rfl rfl)
theorem dX5_counted_45 : decode cX5_counted 45 = .ok (.iconst 1, 1) := dk_4 (dk_at dksX5_counted_1 22 rfl rfl)
theorem dX5_counted_46 : decode cX5_counted 46 = .ok (.goto 17, 3) := dk_167 0 17 (dk_at dksX5_counted_2 0 rfl rfl)
theorem dX5_counted_49 : decode cX5_counted 49 = .ok (.iload_n 3, 1) := dk_29 (dk_at dksX5_counted_2 3 rfl rfl)
theorem dX5_counted_50 : decode cX5_counted 50 = .ok (.ifCond .lt 8, 3) := dk_155 0 8 (dk_at dksX5_counted_2 4 rfl rfl)
theorem dX5_counted_53 : decode cX5_counted 53 = .ok (.iload_n 3, 1) := dk_29 (dk_at dksX5_counted_2 7 rfl rfl)
theorem dX5_counted_54 : decode cX5_counted 54 = .ok (.iconst 2, 1) := dk_5 (dk_at dksX5_counted_2 8 rfl rfl)
theorem dX5_counted_55 : decode cX5_counted 55 = .ok (.if_icmp .le 7, 3) := dk_164 0 7 (dk_at dksX5_counted_2 9 rfl rfl)
theorem dX5_counted_58 : decode cX5_counted 58 = .ok (.iconst 2, 1) := dk_5 (dk_at dksX5_counted_2 12 rfl rfl)
theorem dX5_counted_59 : decode cX5_counted 59 = .ok (.goto 4, 3) := dk_167 0 4 (dk_at dksX5_counted_2 13 rfl rfl)
theorem dX5_counted_62 : decode cX5_counted 62 = .ok (.iconst 0, 1) := dk_3 (dk_at dksX5_counted_2 16 rfl rfl)
theorem dX5_counted_63 : decode cX5_counted 63 = .ok (.putfield 115, 3) := dk_181 0 115 (dk_at dksX5_counted_2 17 rfl rfl)
theorem dX5_counted_66 : decode cX5_counted 66 = .ok (.aload_n 0, 1) := dk_42 (dk_at dksX5_counted_2 20 rfl rfl)
theorem dX5_counted_67 : decode cX5_counted 67 = .ok (.getfield 115, 3) := dk_180 0 115 (dk_at dksX5_counted_2 21 rfl rfl)
theorem dX5_counted_70 : decode cX5_counted 70 = .ok (.ifCond .le 7, 3) := dk_158 0 7 (dk_at dksX5_counted_3 0 rfl rfl)
theorem dX5_counted_73 : decode cX5_counted 73 = .ok (.iconst 0, 1) := dk_3 (dk_at dksX5_counted_3 3 rfl rfl)
theorem dX5_counted_74 : decode cX5_counted 74 = .ok (.goto 18, 3) := dk_167 0 18 (dk_at dksX5_counted_3 4 rfl rfl)
theorem dX5_counted_77 : decode cX5_counted 77 = .ok (.aload_n 0, 1) := dk_42 (dk_at dksX5_counted_3 7 rfl rfl)
theorem dX5_counted_78 : decode cX5_counted 78 = .ok (.getfield 73, 3) := dk_180 0 73 (dk_at dksX5_counted_3 8 rfl rfl)
theorem dX5_counted_81 : decode cX5_counted 81 = .ok (.bipush 48, 2) := dk_16 48 (dk_at dksX5_counted_3 11 rfl rfl)
theorem dX5_counted_83 : decode cX5_counted 83 = .ok (.iload_n 1, 1) := dk_27 (dk_at dksX5_counted_3 13 rfl rfl)
theorem dX5_counted_84 : decode cX5_counted 84 = .ok (.imul, 1) := dk_104 (dk_at dksX5_counted_3 14 rfl rfl)
theorem dX5_counted_85 : decode cX5_counted 85 = .ok (.iconst 3, 1) := dk_6 (dk_at dksX5_counted_3 15 rfl rfl)
theorem dX5_counted_86 : decode cX5_counted 86 = .ok (.iload_n 2, 1) := dk_28 (dk_at dksX5_counted_3 16 rfl rfl)
theorem dX5_counted_87 : decode cX5_counted 87 = .ok (.imul, 1) := dk_104 (dk_at dksX5_counted_3 17 rfl rfl)
theorem dX5_counted_88 : decode cX5_counted 88 = .ok (.iadd, 1) := dk_96 (dk_at dksX5_counted_3 18 rfl rfl)
theorem dX5_counted_89 : decode cX5_counted 89 = .ok (.iload_n 3, 1) := dk_29 (dk_at dksX5_counted_3 19 rfl rfl)
theorem dX5_counted_90 : decode cX5_counted 90 = .ok (.iadd, 1) := dk_96 (dk_at dksX5_counted_3 20 rfl rfl)
theorem dX5_counted_91 : decode cX5_counted 91 = .ok (.iaload, 1) := dk_46 (dk_at dksX5_counted_3 21 rfl rfl)
theorem dX5_counted_92 : decode cX5_counted 92 = .ok (.ireturn, 1) := dk_172 (dk_at dksX5_counted_3 22 rfl rfl)
abbrev cX5_keeps : ByteArray := prog_12_method_85_code
def yX5_keeps : MethodName := ⟨RX5, "keeps", "()I"⟩
def dkwX5_keeps_0 : List UInt8 := [42, 3, 181, 0, 115, 42, 180, 1, 109, 172]
abbrev dktX5_keeps_0 : List UInt8 := dkwX5_keeps_0 ++ []
theorem dksX5_keeps_0 : cX5_keeps.data.toList.drop 0 = dktX5_keeps_0 := by decide +kernel
theorem dX5_keeps_0 : decode cX5_keeps 0 = .ok (.aload_n 0, 1) := dk_42 (dk_at dksX5_keeps_0 0 rfl rfl)
theorem dX5_keeps_1 : decode cX5_keeps 1 = .ok (.iconst 0, 1) := dk_3 (dk_at dksX5_keeps_0 1 rfl rfl)
theorem dX5_keeps_2 : decode cX5_keeps 2 = .ok (.putfield 115, 3) := dk_181 0 115 (dk_at dksX5_keeps_0 2 rfl rfl)
theorem dX5_keeps_5 : decode cX5_keeps 5 = .ok (.aload_n 0, 1) := dk_42 (dk_at dksX5_keeps_0 5 rfl rfl)
theorem dX5_keeps_6 : decode cX5_keeps 6 = .ok (.getfield 365, 3) := dk_180 1 109 (dk_at dksX5_keeps_0 6 rfl rfl)
theorem dX5_keeps_9 : decode cX5_keeps 9 = .ok (.ireturn, 1) := dk_172 (dk_at dksX5_keeps_0 9 rfl rfl)
abbrev cX5_kept : ByteArray := prog_12_method_86_code
def yX5_kept : MethodName := ⟨RX5, "kept", "(II)I"⟩
def dkwX5_kept_2 : List UInt8 := [180, 0, 79, 16, 7, 27, 104, 28, 96, 46, 172]
abbrev dktX5_kept_2 : List UInt8 := dkwX5_kept_2 ++ []
def dkwX5_kept_1 : List UInt8 := [164, 0, 7, 5, 167, 0, 4, 3, 181, 0, 115, 42, 180, 0, 115, 158, 0, 7, 3, 167, 0, 14, 42]
abbrev dktX5_kept_1 : List UInt8 := dkwX5_kept_1 ++ dktX5_kept_2
def dkwX5_kept_0 : List UInt8 := [42, 27, 155, 0, 11, 27, 42, 180, 1, 109, 161, 0, 7, 4, 167, 0, 18, 28, 155, 0, 9, 28, 16, 6]
abbrev dktX5_kept_0 : List UInt8 := dkwX5_kept_0 ++ dktX5_kept_1
theorem dksX5_kept_0 : cX5_kept.data.toList.drop 0 = dktX5_kept_0 := by decide +kernel
theorem dksX5_kept_1 : cX5_kept.data.toList.drop 24 = dktX5_kept_1 := dk_seg dksX5_kept_0 24 rfl rfl
theorem dksX5_kept_2 : cX5_kept.data.toList.drop 47 = dktX5_kept_2 := dk_seg dksX5_kept_1 23 rfl rfl
theorem dX5_kept_0 : decode cX5_kept 0 = .ok (.aload_n 0, 1) := dk_42 (dk_at dksX5_kept_0 0 rfl rfl)
theorem dX5_kept_1 : decode cX5_kept 1 = .ok (.iload_n 1, 1) := dk_27 (dk_at dksX5_kept_0 1 rfl rfl)
theorem dX5_kept_2 : decode cX5_kept 2 = .ok (.ifCond .lt 11, 3) := dk_155 0 11 (dk_at dksX5_kept_0 2 rfl rfl)
theorem dX5_kept_5 : decode cX5_kept 5 = .ok (.iload_n 1, 1) := dk_27 (dk_at dksX5_kept_0 5 rfl rfl)
theorem dX5_kept_6 : decode cX5_kept 6 = .ok (.aload_n 0, 1) := dk_42 (dk_at dksX5_kept_0 6 rfl rfl)
theorem dX5_kept_7 : decode cX5_kept 7 = .ok (.getfield 365, 3) := dk_180 1 109 (dk_at dksX5_kept_0 7 rfl rfl)
theorem dX5_kept_10 : decode cX5_kept 10 = .ok (.if_icmp .lt 7, 3) := dk_161 0 7 (dk_at dksX5_kept_0 10 rfl rfl)
theorem dX5_kept_13 : decode cX5_kept 13 = .ok (.iconst 1, 1) := dk_4 (dk_at dksX5_kept_0 13 rfl rfl)
theorem dX5_kept_14 : decode cX5_kept 14 = .ok (.goto 18, 3) := dk_167 0 18 (dk_at dksX5_kept_0 14 rfl rfl)
theorem dX5_kept_17 : decode cX5_kept 17 = .ok (.iload_n 2, 1) := dk_28 (dk_at dksX5_kept_0 17 rfl rfl)
theorem dX5_kept_18 : decode cX5_kept 18 = .ok (.ifCond .lt 9, 3) := dk_155 0 9 (dk_at dksX5_kept_0 18 rfl rfl)
theorem dX5_kept_21 : decode cX5_kept 21 = .ok (.iload_n 2, 1) := dk_28 (dk_at dksX5_kept_0 21 rfl rfl)
theorem dX5_kept_22 : decode cX5_kept 22 = .ok (.bipush 6, 2) := dk_16 6 (dk_at dksX5_kept_0 22 rfl rfl)
theorem dX5_kept_24 : decode cX5_kept 24 = .ok (.if_icmp .le 7, 3) := dk_164 0 7 (dk_at dksX5_kept_1 0 rfl rfl)
theorem dX5_kept_27 : decode cX5_kept 27 = .ok (.iconst 2, 1) := dk_5 (dk_at dksX5_kept_1 3 rfl rfl)
theorem dX5_kept_28 : decode cX5_kept 28 = .ok (.goto 4, 3) := dk_167 0 4 (dk_at dksX5_kept_1 4 rfl rfl)
theorem dX5_kept_31 : decode cX5_kept 31 = .ok (.iconst 0, 1) := dk_3 (dk_at dksX5_kept_1 7 rfl rfl)
theorem dX5_kept_32 : decode cX5_kept 32 = .ok (.putfield 115, 3) := dk_181 0 115 (dk_at dksX5_kept_1 8 rfl rfl)
theorem dX5_kept_35 : decode cX5_kept 35 = .ok (.aload_n 0, 1) := dk_42 (dk_at dksX5_kept_1 11 rfl rfl)
theorem dX5_kept_36 : decode cX5_kept 36 = .ok (.getfield 115, 3) := dk_180 0 115 (dk_at dksX5_kept_1 12 rfl rfl)
theorem dX5_kept_39 : decode cX5_kept 39 = .ok (.ifCond .le 7, 3) := dk_158 0 7 (dk_at dksX5_kept_1 15 rfl rfl)
theorem dX5_kept_42 : decode cX5_kept 42 = .ok (.iconst 0, 1) := dk_3 (dk_at dksX5_kept_1 18 rfl rfl)
theorem dX5_kept_43 : decode cX5_kept 43 = .ok (.goto 14, 3) := dk_167 0 14 (dk_at dksX5_kept_1 19 rfl rfl)
theorem dX5_kept_46 : decode cX5_kept 46 = .ok (.aload_n 0, 1) := dk_42 (dk_at dksX5_kept_1 22 rfl rfl)
theorem dX5_kept_47 : decode cX5_kept 47 = .ok (.getfield 79, 3) := dk_180 0 79 (dk_at dksX5_kept_2 0 rfl rfl)
theorem dX5_kept_50 : decode cX5_kept 50 = .ok (.bipush 7, 2) := dk_16 7 (dk_at dksX5_kept_2 3 rfl rfl)
theorem dX5_kept_52 : decode cX5_kept 52 = .ok (.iload_n 1, 1) := dk_27 (dk_at dksX5_kept_2 5 rfl rfl)
theorem dX5_kept_53 : decode cX5_kept 53 = .ok (.imul, 1) := dk_104 (dk_at dksX5_kept_2 6 rfl rfl)
theorem dX5_kept_54 : decode cX5_kept 54 = .ok (.iload_n 2, 1) := dk_28 (dk_at dksX5_kept_2 7 rfl rfl)
theorem dX5_kept_55 : decode cX5_kept 55 = .ok (.iadd, 1) := dk_96 (dk_at dksX5_kept_2 8 rfl rfl)
theorem dX5_kept_56 : decode cX5_kept 56 = .ok (.iaload, 1) := dk_46 (dk_at dksX5_kept_2 9 rfl rfl)
theorem dX5_kept_57 : decode cX5_kept 57 = .ok (.ireturn, 1) := dk_172 (dk_at dksX5_kept_2 10 rfl rfl)
abbrev cX5_replay : ByteArray := prog_12_method_87_code
def yX5_replay : MethodName := ⟨RX5, "replay", "(I)I"⟩
def dkwX5_replay_3 : List UInt8 := [180, 0, 79, 16, 7, 27, 104, 7, 96, 46, 4, 182, 1, 173, 172]
abbrev dktX5_replay_3 : List UInt8 := dkwX5_replay_3 ++ []
def dkwX5_replay_2 : List UInt8 := [180, 0, 79, 16, 7, 27, 104, 5, 96, 46, 42, 180, 0, 79, 16, 7, 27, 104, 6, 96, 46, 42]
abbrev dktX5_replay_2 : List UInt8 := dkwX5_replay_2 ++ dktX5_replay_3
def dkwX5_replay_1 : List UInt8 := [180, 0, 115, 158, 0, 7, 3, 167, 0, 52, 42, 42, 180, 0, 79, 16, 7, 27, 104, 4, 96, 46, 42]
abbrev dktX5_replay_1 : List UInt8 := dkwX5_replay_1 ++ dktX5_replay_2
def dkwX5_replay_0 : List UInt8 := [42, 27, 155, 0, 11, 27, 42, 180, 1, 109, 161, 0, 7, 4, 167, 0, 4, 3, 181, 0, 115, 42]
abbrev dktX5_replay_0 : List UInt8 := dkwX5_replay_0 ++ dktX5_replay_1
theorem dksX5_replay_0 : cX5_replay.data.toList.drop 0 = dktX5_replay_0 := by decide +kernel
theorem dksX5_replay_1 : cX5_replay.data.toList.drop 22 = dktX5_replay_1 := dk_seg dksX5_replay_0 22 rfl rfl
theorem dksX5_replay_2 : cX5_replay.data.toList.drop 45 = dktX5_replay_2 := dk_seg dksX5_replay_1 23 rfl rfl
theorem dksX5_replay_3 : cX5_replay.data.toList.drop 67 = dktX5_replay_3 := dk_seg dksX5_replay_2 22 rfl rfl
theorem dX5_replay_0 : decode cX5_replay 0 = .ok (.aload_n 0, 1) := dk_42 (dk_at dksX5_replay_0 0 rfl rfl)
theorem dX5_replay_1 : decode cX5_replay 1 = .ok (.iload_n 1, 1) := dk_27 (dk_at dksX5_replay_0 1 rfl rfl)
theorem dX5_replay_2 : decode cX5_replay 2 = .ok (.ifCond .lt 11, 3) := dk_155 0 11 (dk_at dksX5_replay_0 2 rfl rfl)
theorem dX5_replay_5 : decode cX5_replay 5 = .ok (.iload_n 1, 1) := dk_27 (dk_at dksX5_replay_0 5 rfl rfl)
theorem dX5_replay_6 : decode cX5_replay 6 = .ok (.aload_n 0, 1) := dk_42 (dk_at dksX5_replay_0 6 rfl rfl)
theorem dX5_replay_7 : decode cX5_replay 7 = .ok (.getfield 365, 3) := dk_180 1 109 (dk_at dksX5_replay_0 7 rfl rfl)
theorem dX5_replay_10 : decode cX5_replay 10 = .ok (.if_icmp .lt 7, 3) := dk_161 0 7 (dk_at dksX5_replay_0 10 rfl rfl)
theorem dX5_replay_13 : decode cX5_replay 13 = .ok (.iconst 1, 1) := dk_4 (dk_at dksX5_replay_0 13 rfl rfl)
theorem dX5_replay_14 : decode cX5_replay 14 = .ok (.goto 4, 3) := dk_167 0 4 (dk_at dksX5_replay_0 14 rfl rfl)
theorem dX5_replay_17 : decode cX5_replay 17 = .ok (.iconst 0, 1) := dk_3 (dk_at dksX5_replay_0 17 rfl rfl)
theorem dX5_replay_18 : decode cX5_replay 18 = .ok (.putfield 115, 3) := dk_181 0 115 (dk_at dksX5_replay_0 18 rfl rfl)
theorem dX5_replay_21 : decode cX5_replay 21 = .ok (.aload_n 0, 1) := dk_42 (dk_at dksX5_replay_0 21 rfl rfl)
theorem dX5_replay_22 : decode cX5_replay 22 = .ok (.getfield 115, 3) := dk_180 0 115 (dk_at dksX5_replay_1 0 rfl rfl)
theorem dX5_replay_25 : decode cX5_replay 25 = .ok (.ifCond .le 7, 3) := dk_158 0 7 (dk_at dksX5_replay_1 3 rfl rfl)
theorem dX5_replay_28 : decode cX5_replay 28 = .ok (.iconst 0, 1) := dk_3 (dk_at dksX5_replay_1 6 rfl rfl)
theorem dX5_replay_29 : decode cX5_replay 29 = .ok (.goto 52, 3) := dk_167 0 52 (dk_at dksX5_replay_1 7 rfl rfl)
theorem dX5_replay_32 : decode cX5_replay 32 = .ok (.aload_n 0, 1) := dk_42 (dk_at dksX5_replay_1 10 rfl rfl)
theorem dX5_replay_33 : decode cX5_replay 33 = .ok (.aload_n 0, 1) := dk_42 (dk_at dksX5_replay_1 11 rfl rfl)
theorem dX5_replay_34 : decode cX5_replay 34 = .ok (.getfield 79, 3) := dk_180 0 79 (dk_at dksX5_replay_1 12 rfl rfl)
theorem dX5_replay_37 : decode cX5_replay 37 = .ok (.bipush 7, 2) := dk_16 7 (dk_at dksX5_replay_1 15 rfl rfl)
theorem dX5_replay_39 : decode cX5_replay 39 = .ok (.iload_n 1, 1) := dk_27 (dk_at dksX5_replay_1 17 rfl rfl)
theorem dX5_replay_40 : decode cX5_replay 40 = .ok (.imul, 1) := dk_104 (dk_at dksX5_replay_1 18 rfl rfl)
theorem dX5_replay_41 : decode cX5_replay 41 = .ok (.iconst 1, 1) := dk_4 (dk_at dksX5_replay_1 19 rfl rfl)
theorem dX5_replay_42 : decode cX5_replay 42 = .ok (.iadd, 1) := dk_96 (dk_at dksX5_replay_1 20 rfl rfl)
theorem dX5_replay_43 : decode cX5_replay 43 = .ok (.iaload, 1) := dk_46 (dk_at dksX5_replay_1 21 rfl rfl)
theorem dX5_replay_44 : decode cX5_replay 44 = .ok (.aload_n 0, 1) := dk_42 (dk_at dksX5_replay_1 22 rfl rfl)
theorem dX5_replay_45 : decode cX5_replay 45 = .ok (.getfield 79, 3) := dk_180 0 79 (dk_at dksX5_replay_2 0 rfl rfl)
theorem dX5_replay_48 : decode cX5_replay 48 = .ok (.bipush 7, 2) := dk_16 7 (dk_at dksX5_replay_2 3 rfl rfl)
theorem dX5_replay_50 : decode cX5_replay 50 = .ok (.iload_n 1, 1) := dk_27 (dk_at dksX5_replay_2 5 rfl rfl)
theorem dX5_replay_51 : decode cX5_replay 51 = .ok (.imul, 1) := dk_104 (dk_at dksX5_replay_2 6 rfl rfl)
theorem dX5_replay_52 : decode cX5_replay 52 = .ok (.iconst 2, 1) := dk_5 (dk_at dksX5_replay_2 7 rfl rfl)
theorem dX5_replay_53 : decode cX5_replay 53 = .ok (.iadd, 1) := dk_96 (dk_at dksX5_replay_2 8 rfl rfl)
theorem dX5_replay_54 : decode cX5_replay 54 = .ok (.iaload, 1) := dk_46 (dk_at dksX5_replay_2 9 rfl rfl)
theorem dX5_replay_55 : decode cX5_replay 55 = .ok (.aload_n 0, 1) := dk_42 (dk_at dksX5_replay_2 10 rfl rfl)
theorem dX5_replay_56 : decode cX5_replay 56 = .ok (.getfield 79, 3) := dk_180 0 79 (dk_at dksX5_replay_2 11 rfl rfl)
theorem dX5_replay_59 : decode cX5_replay 59 = .ok (.bipush 7, 2) := dk_16 7 (dk_at dksX5_replay_2 14 rfl rfl)
theorem dX5_replay_61 : decode cX5_replay 61 = .ok (.iload_n 1, 1) := dk_27 (dk_at dksX5_replay_2 16 rfl rfl)
theorem dX5_replay_62 : decode cX5_replay 62 = .ok (.imul, 1) := dk_104 (dk_at dksX5_replay_2 17 rfl rfl)
theorem dX5_replay_63 : decode cX5_replay 63 = .ok (.iconst 3, 1) := dk_6 (dk_at dksX5_replay_2 18 rfl rfl)
theorem dX5_replay_64 : decode cX5_replay 64 = .ok (.iadd, 1) := dk_96 (dk_at dksX5_replay_2 19 rfl rfl)
theorem dX5_replay_65 : decode cX5_replay 65 = .ok (.iaload, 1) := dk_46 (dk_at dksX5_replay_2 20 rfl rfl)
theorem dX5_replay_66 : decode cX5_replay 66 = .ok (.aload_n 0, 1) := dk_42 (dk_at dksX5_replay_2 21 rfl rfl)
theorem dX5_replay_67 : decode cX5_replay 67 = .ok (.getfield 79, 3) := dk_180 0 79 (dk_at dksX5_replay_3 0 rfl rfl)
theorem dX5_replay_70 : decode cX5_replay 70 = .ok (.bipush 7, 2) := dk_16 7 (dk_at dksX5_replay_3 3 rfl rfl)
theorem dX5_replay_72 : decode cX5_replay 72 = .ok (.iload_n 1, 1) := dk_27 (dk_at dksX5_replay_3 5 rfl rfl)
theorem dX5_replay_73 : decode cX5_replay 73 = .ok (.imul, 1) := dk_104 (dk_at dksX5_replay_3 6 rfl rfl)
theorem dX5_replay_74 : decode cX5_replay 74 = .ok (.iconst 4, 1) := dk_7 (dk_at dksX5_replay_3 7 rfl rfl)
theorem dX5_replay_75 : decode cX5_replay 75 = .ok (.iadd, 1) := dk_96 (dk_at dksX5_replay_3 8 rfl rfl)
theorem dX5_replay_76 : decode cX5_replay 76 = .ok (.iaload, 1) := dk_46 (dk_at dksX5_replay_3 9 rfl rfl)
theorem dX5_replay_77 : decode cX5_replay 77 = .ok (.iconst 1, 1) := dk_4 (dk_at dksX5_replay_3 10 rfl rfl)
theorem dX5_replay_78 : decode cX5_replay 78 = .ok (.invokevirtual 429, 3) := dk_182 1 173 (dk_at dksX5_replay_3 11 rfl rfl)
theorem dX5_replay_81 : decode cX5_replay 81 = .ok (.ireturn, 1) := dk_172 (dk_at dksX5_replay_3 14 rfl rfl)
theorem q126 : (Jvm.Cond.initialized "ProbeConsoleModel") ∈ lw_all := lw_g (lw_at lw_m1 11 rfl) rfl
theorem q1008 : (Jvm.Cond.selects "ProbeConsoleModel" ({ cls := "java/lang/Object", name := "getClass", desc := "()Ljava/lang/Class;" } : Jvm.MethodName) ({ cls := "java/lang/Object", name := "getClass", desc := "()Ljava/lang/Class;" } : Jvm.MethodName)) ∈ lw_all := lw_g (lw_at lw_m4 173 rfl) rfl
theorem q1146 : (Jvm.Cond.selects "ProbeConsoleModel" ({ cls := "java/lang/Object", name := "hashCode", desc := "()I" } : Jvm.MethodName) ({ cls := "java/lang/Object", name := "hashCode", desc := "()I" } : Jvm.MethodName)) ∈ lw_all := lw_g (lw_at lw_m5 71 rfl) rfl
theorem q1237 : (Jvm.Cond.selects "ProbeConsoleModel" ({ cls := "java/lang/Object", name := "equals", desc := "(Ljava/lang/Object;)Z" } : Jvm.MethodName) ({ cls := "java/lang/Object", name := "equals", desc := "(Ljava/lang/Object;)Z" } : Jvm.MethodName)) ∈ lw_all := lw_g (lw_at lw_m5 162 rfl) rfl
theorem q2235 : (Jvm.Cond.instantiable "ProbeConsoleModel" (60 : Nat)) ∈ lw_all := lw_g (lw_at lw_m9 200 rfl) rfl
theorem q2237 : (Jvm.Cond.instanceMethod ({ cls := "ProbeConsoleModel", name := "<init>", desc := "()V" } : Jvm.MethodName)) ∈ lw_all := lw_g (lw_at lw_m9 202 rfl) rfl
theorem q2238 : (Jvm.Cond.code ({ cls := "ProbeConsoleModel", name := "<init>", desc := "()V" } : Jvm.MethodName) prog_12_method_1_code (1 : Nat) (Option.none : Option Jvm.ClassFile.FieldType)) ∈ lw_all := lw_g (lw_at lw_m9 203 rfl) rfl
theorem q2239 : (Jvm.Cond.methodLink "ProbeConsoleModel" (1 : Nat) ({ cls := "java/lang/Object", name := "<init>", desc := "()V" } : Jvm.MethodName)) ∈ lw_all := lw_g (lw_at lw_m9 204 rfl) rfl
theorem q2240 : (Jvm.Cond.fieldLink "ProbeConsoleModel" (115 : Nat) "ProbeConsoleModel" "thrown" "I") ∈ lw_all := lw_g (lw_at lw_m9 205 rfl) rfl
theorem q2241 : (Jvm.Cond.fieldLink "ProbeConsoleModel" (7 : Nat) "ProbeConsoleModel" "tape" "[I") ∈ lw_all := lw_g (lw_at lw_m9 206 rfl) rfl
theorem q2242 : (Jvm.Cond.fieldLink "ProbeConsoleModel" (118 : Nat) "ProbeConsoleModel" "size" "I") ∈ lw_all := lw_g (lw_at lw_m9 207 rfl) rfl
theorem q2243 : (Jvm.Cond.fieldLink "ProbeConsoleModel" (123 : Nat) "ProbeConsoleModel" "fault" "I") ∈ lw_all := lw_g (lw_at lw_m9 208 rfl) rfl
theorem q2244 : (Jvm.Cond.fieldLink "ProbeConsoleModel" (13 : Nat) "ProbeConsoleModel" "place" "I") ∈ lw_all := lw_g (lw_at lw_m9 209 rfl) rfl
theorem q2245 : (Jvm.Cond.fieldLink "ProbeConsoleModel" (147 : Nat) "ProbeConsoleModel" "at" "I") ∈ lw_all := lw_g (lw_at lw_m9 210 rfl) rfl
theorem q2246 : (Jvm.Cond.fieldLink "ProbeConsoleModel" (17 : Nat) "ProbeConsoleModel" "steps" "[I") ∈ lw_all := lw_g (lw_at lw_m9 211 rfl) rfl
theorem q2247 : (Jvm.Cond.fieldLink "ProbeConsoleModel" (20 : Nat) "ProbeConsoleModel" "values" "[J") ∈ lw_all := lw_g (lw_at lw_m9 212 rfl) rfl
theorem q2248 : (Jvm.Cond.fieldLink "ProbeConsoleModel" (24 : Nat) "ProbeConsoleModel" "lengths" "[I") ∈ lw_all := lw_g (lw_at lw_m9 213 rfl) rfl
theorem q2249 : (Jvm.Cond.fieldLink "ProbeConsoleModel" (260 : Nat) "ProbeConsoleModel" "methods" "I") ∈ lw_all := lw_g (lw_at lw_m9 214 rfl) rfl
theorem q2250 : (Jvm.Cond.fieldLink "ProbeConsoleModel" (27 : Nat) "ProbeConsoleModel" "names" "[J") ∈ lw_all := lw_g (lw_at lw_m9 215 rfl) rfl
theorem q2251 : (Jvm.Cond.fieldLink "ProbeConsoleModel" (30 : Nat) "ProbeConsoleModel" "parameters" "[I") ∈ lw_all := lw_g (lw_at lw_m9 216 rfl) rfl
theorem q2252 : (Jvm.Cond.fieldLink "ProbeConsoleModel" (144 : Nat) "ProbeConsoleModel" "length" "I") ∈ lw_all := lw_g (lw_at lw_m9 217 rfl) rfl
theorem q2253 : (Jvm.Cond.fieldLink "ProbeConsoleModel" (154 : Nat) "ProbeConsoleModel" "nodes" "I") ∈ lw_all := lw_g (lw_at lw_m9 218 rfl) rfl
theorem q2254 : (Jvm.Cond.fieldLink "ProbeConsoleModel" (150 : Nat) "ProbeConsoleModel" "inCommand" "Z") ∈ lw_all := lw_g (lw_at lw_m9 219 rfl) rfl
theorem q2255 : (Jvm.Cond.fieldLink "ProbeConsoleModel" (202 : Nat) "ProbeConsoleModel" "variables" "I") ∈ lw_all := lw_g (lw_at lw_m9 220 rfl) rfl
theorem q2256 : (Jvm.Cond.fieldLink "ProbeConsoleModel" (33 : Nat) "ProbeConsoleModel" "waits" "[I") ∈ lw_all := lw_g (lw_at lw_m9 221 rfl) rfl
theorem q2257 : (Jvm.Cond.fieldLink "ProbeConsoleModel" (36 : Nat) "ProbeConsoleModel" "waitPlaces" "[I") ∈ lw_all := lw_g (lw_at lw_m9 222 rfl) rfl
theorem q2258 : (Jvm.Cond.fieldLink "ProbeConsoleModel" (39 : Nat) "ProbeConsoleModel" "waitValues" "[I") ∈ lw_all := lw_g (lw_at lw_m9 223 rfl) rfl
theorem q2259 : (Jvm.Cond.fieldLink "ProbeConsoleModel" (42 : Nat) "ProbeConsoleModel" "waitNames" "[J") ∈ lw_all := lw_g (lw_at lw_m9 224 rfl) rfl
theorem q2260 : (Jvm.Cond.fieldLink "ProbeConsoleModel" (161 : Nat) "ProbeConsoleModel" "waiting" "I") ∈ lw_all := lw_g (lw_at lw_m9 225 rfl) rfl
theorem q2261 : (Jvm.Cond.fieldLink "ProbeConsoleModel" (45 : Nat) "ProbeConsoleModel" "operands" "[I") ∈ lw_all := lw_g (lw_at lw_m9 226 rfl) rfl
theorem q2262 : (Jvm.Cond.fieldLink "ProbeConsoleModel" (164 : Nat) "ProbeConsoleModel" "operandCount" "I") ∈ lw_all := lw_g (lw_at lw_m9 227 rfl) rfl
theorem q2263 : (Jvm.Cond.fieldLink "ProbeConsoleModel" (195 : Nat) "ProbeConsoleModel" "opened" "I") ∈ lw_all := lw_g (lw_at lw_m9 228 rfl) rfl
theorem q2264 : (Jvm.Cond.fieldLink "ProbeConsoleModel" (137 : Nat) "ProbeConsoleModel" "rowName" "J") ∈ lw_all := lw_g (lw_at lw_m9 229 rfl) rfl
theorem q2265 : (Jvm.Cond.fieldLink "ProbeConsoleModel" (48 : Nat) "ProbeConsoleModel" "kinds" "[I") ∈ lw_all := lw_g (lw_at lw_m9 230 rfl) rfl
theorem q2266 : (Jvm.Cond.fieldLink "ProbeConsoleModel" (51 : Nat) "ProbeConsoleModel" "points" "[I") ∈ lw_all := lw_g (lw_at lw_m9 231 rfl) rfl
theorem q2267 : (Jvm.Cond.fieldLink "ProbeConsoleModel" (54 : Nat) "ProbeConsoleModel" "limits" "[I") ∈ lw_all := lw_g (lw_at lw_m9 232 rfl) rfl
theorem q2268 : (Jvm.Cond.fieldLink "ProbeConsoleModel" (57 : Nat) "ProbeConsoleModel" "mades" "[I") ∈ lw_all := lw_g (lw_at lw_m9 233 rfl) rfl
theorem q2269 : (Jvm.Cond.fieldLink "ProbeConsoleModel" (60 : Nat) "ProbeConsoleModel" "conditioned" "[Z") ∈ lw_all := lw_g (lw_at lw_m9 234 rfl) rfl
theorem q2270 : (Jvm.Cond.fieldLink "ProbeConsoleModel" (64 : Nat) "ProbeConsoleModel" "patterns" "[I") ∈ lw_all := lw_g (lw_at lw_m9 235 rfl) rfl
theorem q2271 : (Jvm.Cond.fieldLink "ProbeConsoleModel" (67 : Nat) "ProbeConsoleModel" "patternSizes" "[I") ∈ lw_all := lw_g (lw_at lw_m9 236 rfl) rfl
theorem q2272 : (Jvm.Cond.fieldLink "ProbeConsoleModel" (70 : Nat) "ProbeConsoleModel" "newPattern" "[I") ∈ lw_all := lw_g (lw_at lw_m9 237 rfl) rfl
theorem q2273 : (Jvm.Cond.fieldLink "ProbeConsoleModel" (284 : Nat) "ProbeConsoleModel" "newPatternSize" "I") ∈ lw_all := lw_g (lw_at lw_m9 238 rfl) rfl
theorem q2274 : (Jvm.Cond.fieldLink "ProbeConsoleModel" (73 : Nat) "ProbeConsoleModel" "counts" "[I") ∈ lw_all := lw_g (lw_at lw_m9 239 rfl) rfl
theorem q2275 : (Jvm.Cond.fieldLink "ProbeConsoleModel" (356 : Nat) "ProbeConsoleModel" "recordCount" "I") ∈ lw_all := lw_g (lw_at lw_m10 0 rfl) rfl
theorem q2276 : (Jvm.Cond.fieldLink "ProbeConsoleModel" (76 : Nat) "ProbeConsoleModel" "records" "[I") ∈ lw_all := lw_g (lw_at lw_m10 1 rfl) rfl
theorem q2277 : (Jvm.Cond.fieldLink "ProbeConsoleModel" (365 : Nat) "ProbeConsoleModel" "keepCount" "I") ∈ lw_all := lw_g (lw_at lw_m10 2 rfl) rfl
theorem q2278 : (Jvm.Cond.fieldLink "ProbeConsoleModel" (79 : Nat) "ProbeConsoleModel" "keptOnes" "[I") ∈ lw_all := lw_g (lw_at lw_m10 3 rfl) rfl
theorem q2279 : (Jvm.Cond.fieldLink "ProbeConsoleModel" (381 : Nat) "ProbeConsoleModel" "depth" "I") ∈ lw_all := lw_g (lw_at lw_m10 4 rfl) rfl
theorem q2280 : (Jvm.Cond.fieldLink "ProbeConsoleModel" (384 : Nat) "ProbeConsoleModel" "invoked" "I") ∈ lw_all := lw_g (lw_at lw_m10 5 rfl) rfl
theorem q2281 : (Jvm.Cond.fieldLink "ProbeConsoleModel" (426 : Nat) "ProbeConsoleModel" "value" "I") ∈ lw_all := lw_g (lw_at lw_m10 6 rfl) rfl
theorem q2282 : (Jvm.Cond.fieldLink "ProbeConsoleModel" (368 : Nat) "ProbeConsoleModel" "quiet" "Z") ∈ lw_all := lw_g (lw_at lw_m10 7 rfl) rfl
theorem q2283 : (Jvm.Cond.fieldLink "ProbeConsoleModel" (82 : Nat) "ProbeConsoleModel" "runMethods" "[I") ∈ lw_all := lw_g (lw_at lw_m10 8 rfl) rfl
theorem q2284 : (Jvm.Cond.fieldLink "ProbeConsoleModel" (85 : Nat) "ProbeConsoleModel" "runParameters" "[I") ∈ lw_all := lw_g (lw_at lw_m10 9 rfl) rfl
theorem q2285 : (Jvm.Cond.fieldLink "ProbeConsoleModel" (88 : Nat) "ProbeConsoleModel" "runPlaces" "[I") ∈ lw_all := lw_g (lw_at lw_m10 10 rfl) rfl
theorem q2286 : (Jvm.Cond.fieldLink "ProbeConsoleModel" (91 : Nat) "ProbeConsoleModel" "stack" "[I") ∈ lw_all := lw_g (lw_at lw_m10 11 rfl) rfl
theorem q2287 : (Jvm.Cond.fieldLink "ProbeConsoleModel" (399 : Nat) "ProbeConsoleModel" "height" "I") ∈ lw_all := lw_g (lw_at lw_m10 12 rfl) rfl
theorem q2288 : (Jvm.Cond.fieldLink "ProbeConsoleModel" (94 : Nat) "ProbeConsoleModel" "tryPlaces" "[I") ∈ lw_all := lw_g (lw_at lw_m10 13 rfl) rfl
theorem q2289 : (Jvm.Cond.fieldLink "ProbeConsoleModel" (97 : Nat) "ProbeConsoleModel" "tryHeights" "[I") ∈ lw_all := lw_g (lw_at lw_m10 14 rfl) rfl
theorem q2290 : (Jvm.Cond.fieldLink "ProbeConsoleModel" (100 : Nat) "ProbeConsoleModel" "tryDepths" "[I") ∈ lw_all := lw_g (lw_at lw_m10 15 rfl) rfl
theorem q2291 : (Jvm.Cond.fieldLink "ProbeConsoleModel" (396 : Nat) "ProbeConsoleModel" "tries" "I") ∈ lw_all := lw_g (lw_at lw_m10 16 rfl) rfl
theorem q2292 : (Jvm.Cond.fieldLink "ProbeConsoleModel" (390 : Nat) "ProbeConsoleModel" "threw" "Z") ∈ lw_all := lw_g (lw_at lw_m10 17 rfl) rfl
theorem q2293 : (Jvm.Cond.fieldLink "ProbeConsoleModel" (393 : Nat) "ProbeConsoleModel" "answer" "I") ∈ lw_all := lw_g (lw_at lw_m10 18 rfl) rfl
theorem q2294 : (Jvm.Cond.fieldLink "ProbeConsoleModel" (103 : Nat) "ProbeConsoleModel" "seen" "[I") ∈ lw_all := lw_g (lw_at lw_m10 19 rfl) rfl
theorem q2295 : (Jvm.Cond.fieldLink "ProbeConsoleModel" (106 : Nat) "ProbeConsoleModel" "probeStack" "[I") ∈ lw_all := lw_g (lw_at lw_m10 20 rfl) rfl
theorem q2296 : (Jvm.Cond.fieldLink "ProbeConsoleModel" (109 : Nat) "ProbeConsoleModel" "probeTries" "[I") ∈ lw_all := lw_g (lw_at lw_m10 21 rfl) rfl
theorem q2297 : (Jvm.Cond.fieldLink "ProbeConsoleModel" (112 : Nat) "ProbeConsoleModel" "probeHeights" "[I") ∈ lw_all := lw_g (lw_at lw_m10 22 rfl) rfl
theorem q2298 : (Jvm.Cond.fieldLink "ProbeConsoleModel" (347 : Nat) "ProbeConsoleModel" "probeValue" "I") ∈ lw_all := lw_g (lw_at lw_m10 23 rfl) rfl
theorem q2299 : (Jvm.Cond.fieldLink "ProbeConsoleModel" (344 : Nat) "ProbeConsoleModel" "probeThrew" "Z") ∈ lw_all := lw_g (lw_at lw_m10 24 rfl) rfl
theorem q2300 : (Jvm.Cond.lays "ProbeConsoleModel" "ProbeConsoleModel" "thrown" "I") ∈ lw_all := lw_g (lw_at lw_m10 25 rfl) rfl
theorem q2301 : (Jvm.Cond.soleField "ProbeConsoleModel" "thrown") ∈ lw_all := lw_g (lw_at lw_m10 26 rfl) rfl
theorem q2302 : (Jvm.Cond.laysFinal "ProbeConsoleModel" "ProbeConsoleModel" "tape" "[I") ∈ lw_all := lw_g (lw_at lw_m10 27 rfl) rfl
theorem q2303 : (Jvm.Cond.soleField "ProbeConsoleModel" "tape") ∈ lw_all := lw_g (lw_at lw_m10 28 rfl) rfl
theorem q2304 : (Jvm.Cond.lays "ProbeConsoleModel" "ProbeConsoleModel" "size" "I") ∈ lw_all := lw_g (lw_at lw_m10 29 rfl) rfl
theorem q2305 : (Jvm.Cond.soleField "ProbeConsoleModel" "size") ∈ lw_all := lw_g (lw_at lw_m10 30 rfl) rfl
theorem q2306 : (Jvm.Cond.lays "ProbeConsoleModel" "ProbeConsoleModel" "fault" "I") ∈ lw_all := lw_g (lw_at lw_m10 31 rfl) rfl
theorem q2307 : (Jvm.Cond.soleField "ProbeConsoleModel" "fault") ∈ lw_all := lw_g (lw_at lw_m10 32 rfl) rfl
theorem q2308 : (Jvm.Cond.lays "ProbeConsoleModel" "ProbeConsoleModel" "place" "I") ∈ lw_all := lw_g (lw_at lw_m10 33 rfl) rfl
theorem q2309 : (Jvm.Cond.soleField "ProbeConsoleModel" "place") ∈ lw_all := lw_g (lw_at lw_m10 34 rfl) rfl
theorem q2310 : (Jvm.Cond.lays "ProbeConsoleModel" "ProbeConsoleModel" "at" "I") ∈ lw_all := lw_g (lw_at lw_m10 35 rfl) rfl
theorem q2311 : (Jvm.Cond.soleField "ProbeConsoleModel" "at") ∈ lw_all := lw_g (lw_at lw_m10 36 rfl) rfl
theorem q2312 : (Jvm.Cond.laysFinal "ProbeConsoleModel" "ProbeConsoleModel" "steps" "[I") ∈ lw_all := lw_g (lw_at lw_m10 37 rfl) rfl
theorem q2313 : (Jvm.Cond.soleField "ProbeConsoleModel" "steps") ∈ lw_all := lw_g (lw_at lw_m10 38 rfl) rfl
theorem q2314 : (Jvm.Cond.laysFinal "ProbeConsoleModel" "ProbeConsoleModel" "values" "[J") ∈ lw_all := lw_g (lw_at lw_m10 39 rfl) rfl
theorem q2315 : (Jvm.Cond.soleField "ProbeConsoleModel" "values") ∈ lw_all := lw_g (lw_at lw_m10 40 rfl) rfl
theorem q2316 : (Jvm.Cond.laysFinal "ProbeConsoleModel" "ProbeConsoleModel" "lengths" "[I") ∈ lw_all := lw_g (lw_at lw_m10 41 rfl) rfl
theorem q2317 : (Jvm.Cond.soleField "ProbeConsoleModel" "lengths") ∈ lw_all := lw_g (lw_at lw_m10 42 rfl) rfl
theorem q2318 : (Jvm.Cond.lays "ProbeConsoleModel" "ProbeConsoleModel" "methods" "I") ∈ lw_all := lw_g (lw_at lw_m10 43 rfl) rfl
theorem q2319 : (Jvm.Cond.soleField "ProbeConsoleModel" "methods") ∈ lw_all := lw_g (lw_at lw_m10 44 rfl) rfl
theorem q2320 : (Jvm.Cond.laysFinal "ProbeConsoleModel" "ProbeConsoleModel" "names" "[J") ∈ lw_all := lw_g (lw_at lw_m10 45 rfl) rfl
theorem q2321 : (Jvm.Cond.soleField "ProbeConsoleModel" "names") ∈ lw_all := lw_g (lw_at lw_m10 46 rfl) rfl
theorem q2322 : (Jvm.Cond.laysFinal "ProbeConsoleModel" "ProbeConsoleModel" "parameters" "[I") ∈ lw_all := lw_g (lw_at lw_m10 47 rfl) rfl
theorem q2323 : (Jvm.Cond.soleField "ProbeConsoleModel" "parameters") ∈ lw_all := lw_g (lw_at lw_m10 48 rfl) rfl
theorem q2324 : (Jvm.Cond.lays "ProbeConsoleModel" "ProbeConsoleModel" "length" "I") ∈ lw_all := lw_g (lw_at lw_m10 49 rfl) rfl
theorem q2325 : (Jvm.Cond.soleField "ProbeConsoleModel" "length") ∈ lw_all := lw_g (lw_at lw_m10 50 rfl) rfl
theorem q2326 : (Jvm.Cond.lays "ProbeConsoleModel" "ProbeConsoleModel" "nodes" "I") ∈ lw_all := lw_g (lw_at lw_m10 51 rfl) rfl
theorem q2327 : (Jvm.Cond.soleField "ProbeConsoleModel" "nodes") ∈ lw_all := lw_g (lw_at lw_m10 52 rfl) rfl
theorem q2328 : (Jvm.Cond.lays "ProbeConsoleModel" "ProbeConsoleModel" "inCommand" "Z") ∈ lw_all := lw_g (lw_at lw_m10 53 rfl) rfl
theorem q2329 : (Jvm.Cond.soleField "ProbeConsoleModel" "inCommand") ∈ lw_all := lw_g (lw_at lw_m10 54 rfl) rfl
theorem q2330 : (Jvm.Cond.lays "ProbeConsoleModel" "ProbeConsoleModel" "variables" "I") ∈ lw_all := lw_g (lw_at lw_m10 55 rfl) rfl
theorem q2331 : (Jvm.Cond.soleField "ProbeConsoleModel" "variables") ∈ lw_all := lw_g (lw_at lw_m10 56 rfl) rfl
theorem q2332 : (Jvm.Cond.laysFinal "ProbeConsoleModel" "ProbeConsoleModel" "waits" "[I") ∈ lw_all := lw_g (lw_at lw_m10 57 rfl) rfl
theorem q2333 : (Jvm.Cond.soleField "ProbeConsoleModel" "waits") ∈ lw_all := lw_g (lw_at lw_m10 58 rfl) rfl
theorem q2334 : (Jvm.Cond.laysFinal "ProbeConsoleModel" "ProbeConsoleModel" "waitPlaces" "[I") ∈ lw_all := lw_g (lw_at lw_m10 59 rfl) rfl
theorem q2335 : (Jvm.Cond.soleField "ProbeConsoleModel" "waitPlaces") ∈ lw_all := lw_g (lw_at lw_m10 60 rfl) rfl
theorem q2336 : (Jvm.Cond.laysFinal "ProbeConsoleModel" "ProbeConsoleModel" "waitValues" "[I") ∈ lw_all := lw_g (lw_at lw_m10 61 rfl) rfl
theorem q2337 : (Jvm.Cond.soleField "ProbeConsoleModel" "waitValues") ∈ lw_all := lw_g (lw_at lw_m10 62 rfl) rfl
theorem q2338 : (Jvm.Cond.laysFinal "ProbeConsoleModel" "ProbeConsoleModel" "waitNames" "[J") ∈ lw_all := lw_g (lw_at lw_m10 63 rfl) rfl
theorem q2339 : (Jvm.Cond.soleField "ProbeConsoleModel" "waitNames") ∈ lw_all := lw_g (lw_at lw_m10 64 rfl) rfl
theorem q2340 : (Jvm.Cond.lays "ProbeConsoleModel" "ProbeConsoleModel" "waiting" "I") ∈ lw_all := lw_g (lw_at lw_m10 65 rfl) rfl
theorem q2341 : (Jvm.Cond.soleField "ProbeConsoleModel" "waiting") ∈ lw_all := lw_g (lw_at lw_m10 66 rfl) rfl
theorem q2342 : (Jvm.Cond.laysFinal "ProbeConsoleModel" "ProbeConsoleModel" "operands" "[I") ∈ lw_all := lw_g (lw_at lw_m10 67 rfl) rfl
theorem q2343 : (Jvm.Cond.soleField "ProbeConsoleModel" "operands") ∈ lw_all := lw_g (lw_at lw_m10 68 rfl) rfl
theorem q2344 : (Jvm.Cond.lays "ProbeConsoleModel" "ProbeConsoleModel" "operandCount" "I") ∈ lw_all := lw_g (lw_at lw_m10 69 rfl) rfl
theorem q2345 : (Jvm.Cond.soleField "ProbeConsoleModel" "operandCount") ∈ lw_all := lw_g (lw_at lw_m10 70 rfl) rfl
theorem q2346 : (Jvm.Cond.lays "ProbeConsoleModel" "ProbeConsoleModel" "opened" "I") ∈ lw_all := lw_g (lw_at lw_m10 71 rfl) rfl
theorem q2347 : (Jvm.Cond.soleField "ProbeConsoleModel" "opened") ∈ lw_all := lw_g (lw_at lw_m10 72 rfl) rfl
theorem q2348 : (Jvm.Cond.lays "ProbeConsoleModel" "ProbeConsoleModel" "rowName" "J") ∈ lw_all := lw_g (lw_at lw_m10 73 rfl) rfl
theorem q2349 : (Jvm.Cond.soleField "ProbeConsoleModel" "rowName") ∈ lw_all := lw_g (lw_at lw_m10 74 rfl) rfl
theorem q2350 : (Jvm.Cond.laysFinal "ProbeConsoleModel" "ProbeConsoleModel" "kinds" "[I") ∈ lw_all := lw_g (lw_at lw_m10 75 rfl) rfl
theorem q2351 : (Jvm.Cond.soleField "ProbeConsoleModel" "kinds") ∈ lw_all := lw_g (lw_at lw_m10 76 rfl) rfl
theorem q2352 : (Jvm.Cond.laysFinal "ProbeConsoleModel" "ProbeConsoleModel" "points" "[I") ∈ lw_all := lw_g (lw_at lw_m10 77 rfl) rfl
theorem q2353 : (Jvm.Cond.soleField "ProbeConsoleModel" "points") ∈ lw_all := lw_g (lw_at lw_m10 78 rfl) rfl
theorem q2354 : (Jvm.Cond.laysFinal "ProbeConsoleModel" "ProbeConsoleModel" "limits" "[I") ∈ lw_all := lw_g (lw_at lw_m10 79 rfl) rfl
theorem q2355 : (Jvm.Cond.soleField "ProbeConsoleModel" "limits") ∈ lw_all := lw_g (lw_at lw_m10 80 rfl) rfl
theorem q2356 : (Jvm.Cond.laysFinal "ProbeConsoleModel" "ProbeConsoleModel" "mades" "[I") ∈ lw_all := lw_g (lw_at lw_m10 81 rfl) rfl
theorem q2357 : (Jvm.Cond.soleField "ProbeConsoleModel" "mades") ∈ lw_all := lw_g (lw_at lw_m10 82 rfl) rfl
theorem q2358 : (Jvm.Cond.laysFinal "ProbeConsoleModel" "ProbeConsoleModel" "conditioned" "[Z") ∈ lw_all := lw_g (lw_at lw_m10 83 rfl) rfl
theorem q2359 : (Jvm.Cond.soleField "ProbeConsoleModel" "conditioned") ∈ lw_all := lw_g (lw_at lw_m10 84 rfl) rfl
theorem q2360 : (Jvm.Cond.laysFinal "ProbeConsoleModel" "ProbeConsoleModel" "patterns" "[I") ∈ lw_all := lw_g (lw_at lw_m10 85 rfl) rfl
theorem q2361 : (Jvm.Cond.soleField "ProbeConsoleModel" "patterns") ∈ lw_all := lw_g (lw_at lw_m10 86 rfl) rfl
theorem q2362 : (Jvm.Cond.laysFinal "ProbeConsoleModel" "ProbeConsoleModel" "patternSizes" "[I") ∈ lw_all := lw_g (lw_at lw_m10 87 rfl) rfl
theorem q2363 : (Jvm.Cond.soleField "ProbeConsoleModel" "patternSizes") ∈ lw_all := lw_g (lw_at lw_m10 88 rfl) rfl
theorem q2364 : (Jvm.Cond.laysFinal "ProbeConsoleModel" "ProbeConsoleModel" "newPattern" "[I") ∈ lw_all := lw_g (lw_at lw_m10 89 rfl) rfl
theorem q2365 : (Jvm.Cond.soleField "ProbeConsoleModel" "newPattern") ∈ lw_all := lw_g (lw_at lw_m10 90 rfl) rfl
theorem q2366 : (Jvm.Cond.lays "ProbeConsoleModel" "ProbeConsoleModel" "newPatternSize" "I") ∈ lw_all := lw_g (lw_at lw_m10 91 rfl) rfl
theorem q2367 : (Jvm.Cond.soleField "ProbeConsoleModel" "newPatternSize") ∈ lw_all := lw_g (lw_at lw_m10 92 rfl) rfl
theorem q2368 : (Jvm.Cond.laysFinal "ProbeConsoleModel" "ProbeConsoleModel" "counts" "[I") ∈ lw_all := lw_g (lw_at lw_m10 93 rfl) rfl
theorem q2369 : (Jvm.Cond.soleField "ProbeConsoleModel" "counts") ∈ lw_all := lw_g (lw_at lw_m10 94 rfl) rfl
theorem q2370 : (Jvm.Cond.lays "ProbeConsoleModel" "ProbeConsoleModel" "recordCount" "I") ∈ lw_all := lw_g (lw_at lw_m10 95 rfl) rfl
theorem q2371 : (Jvm.Cond.soleField "ProbeConsoleModel" "recordCount") ∈ lw_all := lw_g (lw_at lw_m10 96 rfl) rfl
theorem q2372 : (Jvm.Cond.laysFinal "ProbeConsoleModel" "ProbeConsoleModel" "records" "[I") ∈ lw_all := lw_g (lw_at lw_m10 97 rfl) rfl
theorem q2373 : (Jvm.Cond.soleField "ProbeConsoleModel" "records") ∈ lw_all := lw_g (lw_at lw_m10 98 rfl) rfl
theorem q2374 : (Jvm.Cond.lays "ProbeConsoleModel" "ProbeConsoleModel" "keepCount" "I") ∈ lw_all := lw_g (lw_at lw_m10 99 rfl) rfl
theorem q2375 : (Jvm.Cond.soleField "ProbeConsoleModel" "keepCount") ∈ lw_all := lw_g (lw_at lw_m10 100 rfl) rfl
theorem q2376 : (Jvm.Cond.laysFinal "ProbeConsoleModel" "ProbeConsoleModel" "keptOnes" "[I") ∈ lw_all := lw_g (lw_at lw_m10 101 rfl) rfl
theorem q2377 : (Jvm.Cond.soleField "ProbeConsoleModel" "keptOnes") ∈ lw_all := lw_g (lw_at lw_m10 102 rfl) rfl
theorem q2378 : (Jvm.Cond.lays "ProbeConsoleModel" "ProbeConsoleModel" "depth" "I") ∈ lw_all := lw_g (lw_at lw_m10 103 rfl) rfl
theorem q2379 : (Jvm.Cond.soleField "ProbeConsoleModel" "depth") ∈ lw_all := lw_g (lw_at lw_m10 104 rfl) rfl
theorem q2380 : (Jvm.Cond.lays "ProbeConsoleModel" "ProbeConsoleModel" "invoked" "I") ∈ lw_all := lw_g (lw_at lw_m10 105 rfl) rfl
theorem q2381 : (Jvm.Cond.soleField "ProbeConsoleModel" "invoked") ∈ lw_all := lw_g (lw_at lw_m10 106 rfl) rfl
theorem q2382 : (Jvm.Cond.lays "ProbeConsoleModel" "ProbeConsoleModel" "value" "I") ∈ lw_all := lw_g (lw_at lw_m10 107 rfl) rfl
theorem q2383 : (Jvm.Cond.soleField "ProbeConsoleModel" "value") ∈ lw_all := lw_g (lw_at lw_m10 108 rfl) rfl
theorem q2384 : (Jvm.Cond.lays "ProbeConsoleModel" "ProbeConsoleModel" "quiet" "Z") ∈ lw_all := lw_g (lw_at lw_m10 109 rfl) rfl
theorem q2385 : (Jvm.Cond.soleField "ProbeConsoleModel" "quiet") ∈ lw_all := lw_g (lw_at lw_m10 110 rfl) rfl
theorem q2386 : (Jvm.Cond.laysFinal "ProbeConsoleModel" "ProbeConsoleModel" "runMethods" "[I") ∈ lw_all := lw_g (lw_at lw_m10 111 rfl) rfl
theorem q2387 : (Jvm.Cond.soleField "ProbeConsoleModel" "runMethods") ∈ lw_all := lw_g (lw_at lw_m10 112 rfl) rfl
theorem q2388 : (Jvm.Cond.laysFinal "ProbeConsoleModel" "ProbeConsoleModel" "runParameters" "[I") ∈ lw_all := lw_g (lw_at lw_m10 113 rfl) rfl
theorem q2389 : (Jvm.Cond.soleField "ProbeConsoleModel" "runParameters") ∈ lw_all := lw_g (lw_at lw_m10 114 rfl) rfl
theorem q2390 : (Jvm.Cond.laysFinal "ProbeConsoleModel" "ProbeConsoleModel" "runPlaces" "[I") ∈ lw_all := lw_g (lw_at lw_m10 115 rfl) rfl
theorem q2391 : (Jvm.Cond.soleField "ProbeConsoleModel" "runPlaces") ∈ lw_all := lw_g (lw_at lw_m10 116 rfl) rfl
theorem q2392 : (Jvm.Cond.laysFinal "ProbeConsoleModel" "ProbeConsoleModel" "stack" "[I") ∈ lw_all := lw_g (lw_at lw_m10 117 rfl) rfl
theorem q2393 : (Jvm.Cond.soleField "ProbeConsoleModel" "stack") ∈ lw_all := lw_g (lw_at lw_m10 118 rfl) rfl
theorem q2394 : (Jvm.Cond.lays "ProbeConsoleModel" "ProbeConsoleModel" "height" "I") ∈ lw_all := lw_g (lw_at lw_m10 119 rfl) rfl
theorem q2395 : (Jvm.Cond.soleField "ProbeConsoleModel" "height") ∈ lw_all := lw_g (lw_at lw_m10 120 rfl) rfl
theorem q2396 : (Jvm.Cond.laysFinal "ProbeConsoleModel" "ProbeConsoleModel" "tryPlaces" "[I") ∈ lw_all := lw_g (lw_at lw_m10 121 rfl) rfl
theorem q2397 : (Jvm.Cond.soleField "ProbeConsoleModel" "tryPlaces") ∈ lw_all := lw_g (lw_at lw_m10 122 rfl) rfl
theorem q2398 : (Jvm.Cond.laysFinal "ProbeConsoleModel" "ProbeConsoleModel" "tryHeights" "[I") ∈ lw_all := lw_g (lw_at lw_m10 123 rfl) rfl
theorem q2399 : (Jvm.Cond.soleField "ProbeConsoleModel" "tryHeights") ∈ lw_all := lw_g (lw_at lw_m10 124 rfl) rfl
theorem q2400 : (Jvm.Cond.laysFinal "ProbeConsoleModel" "ProbeConsoleModel" "tryDepths" "[I") ∈ lw_all := lw_g (lw_at lw_m10 125 rfl) rfl
theorem q2401 : (Jvm.Cond.soleField "ProbeConsoleModel" "tryDepths") ∈ lw_all := lw_g (lw_at lw_m10 126 rfl) rfl
theorem q2402 : (Jvm.Cond.lays "ProbeConsoleModel" "ProbeConsoleModel" "tries" "I") ∈ lw_all := lw_g (lw_at lw_m10 127 rfl) rfl
theorem q2403 : (Jvm.Cond.soleField "ProbeConsoleModel" "tries") ∈ lw_all := lw_g (lw_at lw_m10 128 rfl) rfl
theorem q2404 : (Jvm.Cond.lays "ProbeConsoleModel" "ProbeConsoleModel" "threw" "Z") ∈ lw_all := lw_g (lw_at lw_m10 129 rfl) rfl
theorem q2405 : (Jvm.Cond.soleField "ProbeConsoleModel" "threw") ∈ lw_all := lw_g (lw_at lw_m10 130 rfl) rfl
theorem q2406 : (Jvm.Cond.lays "ProbeConsoleModel" "ProbeConsoleModel" "answer" "I") ∈ lw_all := lw_g (lw_at lw_m10 131 rfl) rfl
theorem q2407 : (Jvm.Cond.soleField "ProbeConsoleModel" "answer") ∈ lw_all := lw_g (lw_at lw_m10 132 rfl) rfl
theorem q2408 : (Jvm.Cond.laysFinal "ProbeConsoleModel" "ProbeConsoleModel" "seen" "[I") ∈ lw_all := lw_g (lw_at lw_m10 133 rfl) rfl
theorem q2409 : (Jvm.Cond.soleField "ProbeConsoleModel" "seen") ∈ lw_all := lw_g (lw_at lw_m10 134 rfl) rfl
theorem q2410 : (Jvm.Cond.laysFinal "ProbeConsoleModel" "ProbeConsoleModel" "probeStack" "[I") ∈ lw_all := lw_g (lw_at lw_m10 135 rfl) rfl
theorem q2411 : (Jvm.Cond.soleField "ProbeConsoleModel" "probeStack") ∈ lw_all := lw_g (lw_at lw_m10 136 rfl) rfl
theorem q2412 : (Jvm.Cond.laysFinal "ProbeConsoleModel" "ProbeConsoleModel" "probeTries" "[I") ∈ lw_all := lw_g (lw_at lw_m10 137 rfl) rfl
theorem q2413 : (Jvm.Cond.soleField "ProbeConsoleModel" "probeTries") ∈ lw_all := lw_g (lw_at lw_m10 138 rfl) rfl
theorem q2414 : (Jvm.Cond.laysFinal "ProbeConsoleModel" "ProbeConsoleModel" "probeHeights" "[I") ∈ lw_all := lw_g (lw_at lw_m10 139 rfl) rfl
theorem q2415 : (Jvm.Cond.soleField "ProbeConsoleModel" "probeHeights") ∈ lw_all := lw_g (lw_at lw_m10 140 rfl) rfl
theorem q2416 : (Jvm.Cond.lays "ProbeConsoleModel" "ProbeConsoleModel" "probeValue" "I") ∈ lw_all := lw_g (lw_at lw_m10 141 rfl) rfl
theorem q2417 : (Jvm.Cond.soleField "ProbeConsoleModel" "probeValue") ∈ lw_all := lw_g (lw_at lw_m10 142 rfl) rfl
theorem q2418 : (Jvm.Cond.lays "ProbeConsoleModel" "ProbeConsoleModel" "probeThrew" "Z") ∈ lw_all := lw_g (lw_at lw_m10 143 rfl) rfl
theorem q2419 : (Jvm.Cond.soleField "ProbeConsoleModel" "probeThrew") ∈ lw_all := lw_g (lw_at lw_m10 144 rfl) rfl
theorem q2420 : (Jvm.Cond.superclass "ProbeConsoleModel" "java/lang/Object") ∈ lw_all := lw_g (lw_at lw_m10 145 rfl) rfl
theorem q2424 : (Jvm.Cond.instanceMethod ({ cls := "ProbeConsoleModel", name := "thrown", desc := "()I" } : Jvm.MethodName)) ∈ lw_all := lw_g (lw_at lw_m10 149 rfl) rfl
theorem q2425 : (Jvm.Cond.selects "ProbeConsoleModel" ({ cls := "ProbeConsoleModel", name := "thrown", desc := "()I" } : Jvm.MethodName) ({ cls := "ProbeConsoleModel", name := "thrown", desc := "()I" } : Jvm.MethodName)) ∈ lw_all := lw_g (lw_at lw_m10 150 rfl) rfl
theorem q2426 : (Jvm.Cond.code ({ cls := "ProbeConsoleModel", name := "thrown", desc := "()I" } : Jvm.MethodName) prog_12_method_2_code (1 : Nat) (Option.some Jvm.ClassFile.FieldType.int)) ∈ lw_all := lw_g (lw_at lw_m10 151 rfl) rfl
theorem q2428 : (Jvm.Cond.instanceMethod ({ cls := "ProbeConsoleModel", name := "feed", desc := "(IJ)I" } : Jvm.MethodName)) ∈ lw_all := lw_g (lw_at lw_m10 153 rfl) rfl
theorem q2429 : (Jvm.Cond.selects "ProbeConsoleModel" ({ cls := "ProbeConsoleModel", name := "feed", desc := "(IJ)I" } : Jvm.MethodName) ({ cls := "ProbeConsoleModel", name := "feed", desc := "(IJ)I" } : Jvm.MethodName)) ∈ lw_all := lw_g (lw_at lw_m10 154 rfl) rfl
theorem q2430 : (Jvm.Cond.code ({ cls := "ProbeConsoleModel", name := "feed", desc := "(IJ)I" } : Jvm.MethodName) prog_12_method_3_code (5 : Nat) (Option.some Jvm.ClassFile.FieldType.int)) ∈ lw_all := lw_g (lw_at lw_m10 155 rfl) rfl
theorem q2431 : (Jvm.Cond.constantLong "ProbeConsoleModel" (121 : Nat) (255 : Int64)) ∈ lw_all := lw_g (lw_at lw_m10 156 rfl) rfl
theorem q2433 : (Jvm.Cond.instanceMethod ({ cls := "ProbeConsoleModel", name := "wipe", desc := "()I" } : Jvm.MethodName)) ∈ lw_all := lw_g (lw_at lw_m10 158 rfl) rfl
theorem q2434 : (Jvm.Cond.selects "ProbeConsoleModel" ({ cls := "ProbeConsoleModel", name := "wipe", desc := "()I" } : Jvm.MethodName) ({ cls := "ProbeConsoleModel", name := "wipe", desc := "()I" } : Jvm.MethodName)) ∈ lw_all := lw_g (lw_at lw_m10 159 rfl) rfl
theorem q2435 : (Jvm.Cond.code ({ cls := "ProbeConsoleModel", name := "wipe", desc := "()I" } : Jvm.MethodName) prog_12_method_4_code (2 : Nat) (Option.some Jvm.ClassFile.FieldType.int)) ∈ lw_all := lw_g (lw_at lw_m10 160 rfl) rfl
theorem q2437 : (Jvm.Cond.instanceMethod ({ cls := "ProbeConsoleModel", name := "method", desc := "()I" } : Jvm.MethodName)) ∈ lw_all := lw_g (lw_at lw_m10 162 rfl) rfl
theorem q2438 : (Jvm.Cond.selects "ProbeConsoleModel" ({ cls := "ProbeConsoleModel", name := "method", desc := "()I" } : Jvm.MethodName) ({ cls := "ProbeConsoleModel", name := "method", desc := "()I" } : Jvm.MethodName)) ∈ lw_all := lw_g (lw_at lw_m10 163 rfl) rfl
theorem q2439 : (Jvm.Cond.code ({ cls := "ProbeConsoleModel", name := "method", desc := "()I" } : Jvm.MethodName) prog_12_method_39_code (5 : Nat) (Option.some Jvm.ClassFile.FieldType.int)) ∈ lw_all := lw_g (lw_at lw_m10 164 rfl) rfl
theorem q2440 : (Jvm.Cond.methodLink "ProbeConsoleModel" (263 : Nat) ({ cls := "ProbeConsoleModel", name := "begin", desc := "()V" } : Jvm.MethodName)) ∈ lw_all := lw_g (lw_at lw_m10 165 rfl) rfl
theorem q2441 : (Jvm.Cond.privateMethod ({ cls := "ProbeConsoleModel", name := "begin", desc := "()V" } : Jvm.MethodName)) ∈ lw_tbl := lw_at lw_m10 166 rfl
theorem q2442 : (Jvm.Cond.instanceMethod ({ cls := "ProbeConsoleModel", name := "begin", desc := "()V" } : Jvm.MethodName)) ∈ lw_all := lw_g (lw_at lw_m10 167 rfl) rfl
theorem q2443 : (Jvm.Cond.code ({ cls := "ProbeConsoleModel", name := "begin", desc := "()V" } : Jvm.MethodName) prog_12_method_36_code (1 : Nat) (Option.none : Option Jvm.ClassFile.FieldType)) ∈ lw_all := lw_g (lw_at lw_m10 168 rfl) rfl
theorem q2444 : (Jvm.Cond.methodLink "ProbeConsoleModel" (205 : Nat) ({ cls := "ProbeConsoleModel", name := "rowSize", desc := "(I)I" } : Jvm.MethodName)) ∈ lw_all := lw_g (lw_at lw_m10 169 rfl) rfl
theorem q2445 : (Jvm.Cond.privateMethod ({ cls := "ProbeConsoleModel", name := "rowSize", desc := "(I)I" } : Jvm.MethodName)) ∈ lw_tbl := lw_at lw_m10 170 rfl
theorem q2446 : (Jvm.Cond.instanceMethod ({ cls := "ProbeConsoleModel", name := "rowSize", desc := "(I)I" } : Jvm.MethodName)) ∈ lw_all := lw_g (lw_at lw_m10 171 rfl) rfl
theorem q2447 : (Jvm.Cond.code ({ cls := "ProbeConsoleModel", name := "rowSize", desc := "(I)I" } : Jvm.MethodName) prog_12_method_10_code (3 : Nat) (Option.some Jvm.ClassFile.FieldType.int)) ∈ lw_all := lw_g (lw_at lw_m10 172 rfl) rfl
theorem q2448 : (Jvm.Cond.methodLink "ProbeConsoleModel" (130 : Nat) ({ cls := "ProbeConsoleModel", name := "byteAt", desc := "(I)I" } : Jvm.MethodName)) ∈ lw_all := lw_g (lw_at lw_m10 173 rfl) rfl
theorem q2449 : (Jvm.Cond.privateMethod ({ cls := "ProbeConsoleModel", name := "byteAt", desc := "(I)I" } : Jvm.MethodName)) ∈ lw_tbl := lw_at lw_m10 174 rfl
theorem q2450 : (Jvm.Cond.instanceMethod ({ cls := "ProbeConsoleModel", name := "byteAt", desc := "(I)I" } : Jvm.MethodName)) ∈ lw_all := lw_g (lw_at lw_m10 175 rfl) rfl
theorem q2451 : (Jvm.Cond.code ({ cls := "ProbeConsoleModel", name := "byteAt", desc := "(I)I" } : Jvm.MethodName) prog_12_method_6_code (2 : Nat) (Option.some Jvm.ClassFile.FieldType.int)) ∈ lw_all := lw_g (lw_at lw_m10 176 rfl) rfl
theorem q2452 : (Jvm.Cond.methodLink "ProbeConsoleModel" (134 : Nat) ({ cls := "ProbeConsoleModel", name := "isOfRow", desc := "(I)Z" } : Jvm.MethodName)) ∈ lw_all := lw_g (lw_at lw_m10 177 rfl) rfl
theorem q2453 : (Jvm.Cond.static ({ cls := "ProbeConsoleModel", name := "isOfRow", desc := "(I)Z" } : Jvm.MethodName)) ∈ lw_all := lw_g (lw_at lw_m10 178 rfl) rfl
theorem q2454 : (Jvm.Cond.code ({ cls := "ProbeConsoleModel", name := "isOfRow", desc := "(I)Z" } : Jvm.MethodName) prog_12_method_9_code (1 : Nat) (Option.some Jvm.ClassFile.FieldType.boolean)) ∈ lw_all := lw_g (lw_at lw_m10 179 rfl) rfl
theorem q2455 : (Jvm.Cond.methodLink "ProbeConsoleModel" (126 : Nat) ({ cls := "ProbeConsoleModel", name := "isLetter", desc := "(I)Z" } : Jvm.MethodName)) ∈ lw_all := lw_g (lw_at lw_m10 180 rfl) rfl
theorem q2456 : (Jvm.Cond.static ({ cls := "ProbeConsoleModel", name := "isLetter", desc := "(I)Z" } : Jvm.MethodName)) ∈ lw_all := lw_g (lw_at lw_m10 181 rfl) rfl
theorem q2457 : (Jvm.Cond.code ({ cls := "ProbeConsoleModel", name := "isLetter", desc := "(I)Z" } : Jvm.MethodName) prog_12_method_7_code (1 : Nat) (Option.some Jvm.ClassFile.FieldType.boolean)) ∈ lw_all := lw_g (lw_at lw_m10 182 rfl) rfl
theorem q2458 : (Jvm.Cond.methodLink "ProbeConsoleModel" (157 : Nat) ({ cls := "ProbeConsoleModel", name := "fail", desc := "(II)V" } : Jvm.MethodName)) ∈ lw_all := lw_g (lw_at lw_m10 183 rfl) rfl
theorem q2459 : (Jvm.Cond.privateMethod ({ cls := "ProbeConsoleModel", name := "fail", desc := "(II)V" } : Jvm.MethodName)) ∈ lw_tbl := lw_at lw_m10 184 rfl
theorem q2460 : (Jvm.Cond.instanceMethod ({ cls := "ProbeConsoleModel", name := "fail", desc := "(II)V" } : Jvm.MethodName)) ∈ lw_all := lw_g (lw_at lw_m10 185 rfl) rfl
theorem q2461 : (Jvm.Cond.code ({ cls := "ProbeConsoleModel", name := "fail", desc := "(II)V" } : Jvm.MethodName) prog_12_method_5_code (3 : Nat) (Option.none : Option Jvm.ClassFile.FieldType)) ∈ lw_all := lw_g (lw_at lw_m10 186 rfl) rfl
theorem q2462 : (Jvm.Cond.methodLink "ProbeConsoleModel" (211 : Nat) ({ cls := "ProbeConsoleModel", name := "isName", desc := "(II)Z" } : Jvm.MethodName)) ∈ lw_all := lw_g (lw_at lw_m10 187 rfl) rfl
theorem q2463 : (Jvm.Cond.privateMethod ({ cls := "ProbeConsoleModel", name := "isName", desc := "(II)Z" } : Jvm.MethodName)) ∈ lw_tbl := lw_at lw_m10 188 rfl
theorem q2464 : (Jvm.Cond.instanceMethod ({ cls := "ProbeConsoleModel", name := "isName", desc := "(II)Z" } : Jvm.MethodName)) ∈ lw_all := lw_g (lw_at lw_m10 189 rfl) rfl
theorem q2465 : (Jvm.Cond.code ({ cls := "ProbeConsoleModel", name := "isName", desc := "(II)Z" } : Jvm.MethodName) prog_12_method_11_code (6 : Nat) (Option.some Jvm.ClassFile.FieldType.boolean)) ∈ lw_all := lw_g (lw_at lw_m10 190 rfl) rfl
theorem q2466 : (Jvm.Cond.methodLink "ProbeConsoleModel" (266 : Nat) ({ cls := "ProbeConsoleModel", name := "want", desc := "(I)V" } : Jvm.MethodName)) ∈ lw_all := lw_g (lw_at lw_m10 191 rfl) rfl
theorem q2467 : (Jvm.Cond.privateMethod ({ cls := "ProbeConsoleModel", name := "want", desc := "(I)V" } : Jvm.MethodName)) ∈ lw_tbl := lw_at lw_m10 192 rfl
theorem q2468 : (Jvm.Cond.instanceMethod ({ cls := "ProbeConsoleModel", name := "want", desc := "(I)V" } : Jvm.MethodName)) ∈ lw_all := lw_g (lw_at lw_m10 193 rfl) rfl
theorem q2469 : (Jvm.Cond.code ({ cls := "ProbeConsoleModel", name := "want", desc := "(I)V" } : Jvm.MethodName) prog_12_method_37_code (2 : Nat) (Option.none : Option Jvm.ClassFile.FieldType)) ∈ lw_all := lw_g (lw_at lw_m10 194 rfl) rfl
theorem q2470 : (Jvm.Cond.methodLink "ProbeConsoleModel" (269 : Nat) ({ cls := "ProbeConsoleModel", name := "readExpression", desc := "()V" } : Jvm.MethodName)) ∈ lw_all := lw_g (lw_at lw_m10 195 rfl) rfl
theorem q2471 : (Jvm.Cond.privateMethod ({ cls := "ProbeConsoleModel", name := "readExpression", desc := "()V" } : Jvm.MethodName)) ∈ lw_tbl := lw_at lw_m10 196 rfl
theorem q2472 : (Jvm.Cond.instanceMethod ({ cls := "ProbeConsoleModel", name := "readExpression", desc := "()V" } : Jvm.MethodName)) ∈ lw_all := lw_g (lw_at lw_m10 197 rfl) rfl
theorem q2473 : (Jvm.Cond.code ({ cls := "ProbeConsoleModel", name := "readExpression", desc := "()V" } : Jvm.MethodName) prog_12_method_34_code (4 : Nat) (Option.none : Option Jvm.ClassFile.FieldType)) ∈ lw_all := lw_g (lw_at lw_m10 198 rfl) rfl
theorem q2474 : (Jvm.Cond.methodLink "ProbeConsoleModel" (222 : Nat) ({ cls := "ProbeConsoleModel", name := "ended", desc := "()Z" } : Jvm.MethodName)) ∈ lw_all := lw_g (lw_at lw_m10 199 rfl) rfl
theorem q2475 : (Jvm.Cond.privateMethod ({ cls := "ProbeConsoleModel", name := "ended", desc := "()Z" } : Jvm.MethodName)) ∈ lw_tbl := lw_at lw_m10 200 rfl
theorem q2476 : (Jvm.Cond.instanceMethod ({ cls := "ProbeConsoleModel", name := "ended", desc := "()Z" } : Jvm.MethodName)) ∈ lw_all := lw_g (lw_at lw_m10 201 rfl) rfl
theorem q2477 : (Jvm.Cond.code ({ cls := "ProbeConsoleModel", name := "ended", desc := "()Z" } : Jvm.MethodName) prog_12_method_14_code (2 : Nat) (Option.some Jvm.ClassFile.FieldType.boolean)) ∈ lw_all := lw_g (lw_at lw_m10 202 rfl) rfl
theorem q2478 : (Jvm.Cond.methodLink "ProbeConsoleModel" (218 : Nat) ({ cls := "ProbeConsoleModel", name := "last", desc := "()I" } : Jvm.MethodName)) ∈ lw_all := lw_g (lw_at lw_m10 203 rfl) rfl
theorem q2479 : (Jvm.Cond.privateMethod ({ cls := "ProbeConsoleModel", name := "last", desc := "()I" } : Jvm.MethodName)) ∈ lw_tbl := lw_at lw_m10 204 rfl
theorem q2480 : (Jvm.Cond.instanceMethod ({ cls := "ProbeConsoleModel", name := "last", desc := "()I" } : Jvm.MethodName)) ∈ lw_all := lw_g (lw_at lw_m10 205 rfl) rfl
theorem q2481 : (Jvm.Cond.code ({ cls := "ProbeConsoleModel", name := "last", desc := "()I" } : Jvm.MethodName) prog_12_method_21_code (1 : Nat) (Option.some Jvm.ClassFile.FieldType.int)) ∈ lw_all := lw_g (lw_at lw_m10 206 rfl) rfl
theorem q2482 : (Jvm.Cond.methodLink "ProbeConsoleModel" (253 : Nat) ({ cls := "ProbeConsoleModel", name := "readOperand", desc := "(Z)Z" } : Jvm.MethodName)) ∈ lw_all := lw_g (lw_at lw_m10 207 rfl) rfl
theorem q2483 : (Jvm.Cond.privateMethod ({ cls := "ProbeConsoleModel", name := "readOperand", desc := "(Z)Z" } : Jvm.MethodName)) ∈ lw_tbl := lw_at lw_m10 208 rfl
theorem q2484 : (Jvm.Cond.instanceMethod ({ cls := "ProbeConsoleModel", name := "readOperand", desc := "(Z)Z" } : Jvm.MethodName)) ∈ lw_all := lw_g (lw_at lw_m10 209 rfl) rfl
theorem q2485 : (Jvm.Cond.code ({ cls := "ProbeConsoleModel", name := "readOperand", desc := "(Z)Z" } : Jvm.MethodName) prog_12_method_26_code (4 : Nat) (Option.some Jvm.ClassFile.FieldType.boolean)) ∈ lw_all := lw_g (lw_at lw_m10 210 rfl) rfl
theorem q2486 : (Jvm.Cond.methodLink "ProbeConsoleModel" (226 : Nat) ({ cls := "ProbeConsoleModel", name := "close", desc := "()V" } : Jvm.MethodName)) ∈ lw_all := lw_g (lw_at lw_m10 211 rfl) rfl
theorem q2487 : (Jvm.Cond.privateMethod ({ cls := "ProbeConsoleModel", name := "close", desc := "()V" } : Jvm.MethodName)) ∈ lw_tbl := lw_at lw_m10 212 rfl
theorem q2488 : (Jvm.Cond.instanceMethod ({ cls := "ProbeConsoleModel", name := "close", desc := "()V" } : Jvm.MethodName)) ∈ lw_all := lw_g (lw_at lw_m10 213 rfl) rfl
theorem q2489 : (Jvm.Cond.code ({ cls := "ProbeConsoleModel", name := "close", desc := "()V" } : Jvm.MethodName) prog_12_method_27_code (3 : Nat) (Option.none : Option Jvm.ClassFile.FieldType)) ∈ lw_all := lw_g (lw_at lw_m10 214 rfl) rfl
theorem q2490 : (Jvm.Cond.methodLink "ProbeConsoleModel" (235 : Nat) ({ cls := "ProbeConsoleModel", name := "reduceAll", desc := "()V" } : Jvm.MethodName)) ∈ lw_all := lw_g (lw_at lw_m10 215 rfl) rfl
theorem q2491 : (Jvm.Cond.privateMethod ({ cls := "ProbeConsoleModel", name := "reduceAll", desc := "()V" } : Jvm.MethodName)) ∈ lw_tbl := lw_at lw_m10 216 rfl
theorem q2492 : (Jvm.Cond.instanceMethod ({ cls := "ProbeConsoleModel", name := "reduceAll", desc := "()V" } : Jvm.MethodName)) ∈ lw_all := lw_g (lw_at lw_m10 217 rfl) rfl
theorem q2493 : (Jvm.Cond.code ({ cls := "ProbeConsoleModel", name := "reduceAll", desc := "()V" } : Jvm.MethodName) prog_12_method_20_code (1 : Nat) (Option.none : Option Jvm.ClassFile.FieldType)) ∈ lw_all := lw_g (lw_at lw_m10 218 rfl) rfl
theorem q2494 : (Jvm.Cond.methodLink "ProbeConsoleModel" (174 : Nat) ({ cls := "ProbeConsoleModel", name := "reduceTo", desc := "(I)V" } : Jvm.MethodName)) ∈ lw_all := lw_g (lw_at lw_m10 219 rfl) rfl
theorem q2495 : (Jvm.Cond.privateMethod ({ cls := "ProbeConsoleModel", name := "reduceTo", desc := "(I)V" } : Jvm.MethodName)) ∈ lw_tbl := lw_at lw_m10 220 rfl
theorem q2496 : (Jvm.Cond.instanceMethod ({ cls := "ProbeConsoleModel", name := "reduceTo", desc := "(I)V" } : Jvm.MethodName)) ∈ lw_all := lw_g (lw_at lw_m10 221 rfl) rfl
theorem q2497 : (Jvm.Cond.code ({ cls := "ProbeConsoleModel", name := "reduceTo", desc := "(I)V" } : Jvm.MethodName) prog_12_method_19_code (2 : Nat) (Option.none : Option Jvm.ClassFile.FieldType)) ∈ lw_all := lw_g (lw_at lw_m10 222 rfl) rfl
theorem q2498 : (Jvm.Cond.methodLink "ProbeConsoleModel" (171 : Nat) ({ cls := "ProbeConsoleModel", name := "reduce", desc := "()V" } : Jvm.MethodName)) ∈ lw_all := lw_g (lw_at lw_m10 223 rfl) rfl
theorem q2499 : (Jvm.Cond.privateMethod ({ cls := "ProbeConsoleModel", name := "reduce", desc := "()V" } : Jvm.MethodName)) ∈ lw_tbl := lw_at lw_m10 224 rfl
theorem q2500 : (Jvm.Cond.instanceMethod ({ cls := "ProbeConsoleModel", name := "reduce", desc := "()V" } : Jvm.MethodName)) ∈ lw_all := lw_g (lw_at lw_m10 225 rfl) rfl
theorem q2501 : (Jvm.Cond.code ({ cls := "ProbeConsoleModel", name := "reduce", desc := "()V" } : Jvm.MethodName) prog_12_method_18_code (4 : Nat) (Option.none : Option Jvm.ClassFile.FieldType)) ∈ lw_all := lw_g (lw_at lw_m10 226 rfl) rfl
theorem q2502 : (Jvm.Cond.methodLink "ProbeConsoleModel" (141 : Nat) ({ cls := "ProbeConsoleModel", name := "rowOf", desc := "(I)I" } : Jvm.MethodName)) ∈ lw_all := lw_g (lw_at lw_m10 227 rfl) rfl
theorem q2503 : (Jvm.Cond.static ({ cls := "ProbeConsoleModel", name := "rowOf", desc := "(I)I" } : Jvm.MethodName)) ∈ lw_all := lw_g (lw_at lw_m10 228 rfl) rfl
theorem q2504 : (Jvm.Cond.code ({ cls := "ProbeConsoleModel", name := "rowOf", desc := "(I)I" } : Jvm.MethodName) prog_12_method_12_code (1 : Nat) (Option.some Jvm.ClassFile.FieldType.int)) ∈ lw_all := lw_g (lw_at lw_m10 229 rfl) rfl
theorem q2505 : (Jvm.Cond.methodLink "ProbeConsoleModel" (167 : Nat) ({ cls := "ProbeConsoleModel", name := "put", desc := "(IJ)V" } : Jvm.MethodName)) ∈ lw_all := lw_g (lw_at lw_m10 230 rfl) rfl
theorem q2506 : (Jvm.Cond.privateMethod ({ cls := "ProbeConsoleModel", name := "put", desc := "(IJ)V" } : Jvm.MethodName)) ∈ lw_tbl := lw_at lw_m10 231 rfl
theorem q2507 : (Jvm.Cond.instanceMethod ({ cls := "ProbeConsoleModel", name := "put", desc := "(IJ)V" } : Jvm.MethodName)) ∈ lw_all := lw_g (lw_at lw_m10 232 rfl) rfl
theorem q2508 : (Jvm.Cond.code ({ cls := "ProbeConsoleModel", name := "put", desc := "(IJ)V" } : Jvm.MethodName) prog_12_method_13_code (4 : Nat) (Option.none : Option Jvm.ClassFile.FieldType)) ∈ lw_all := lw_g (lw_at lw_m10 233 rfl) rfl
theorem q2509 : (Jvm.Cond.methodLink "ProbeConsoleModel" (192 : Nat) ({ cls := "ProbeConsoleModel", name := "operand", desc := "(I)V" } : Jvm.MethodName)) ∈ lw_all := lw_g (lw_at lw_m10 234 rfl) rfl
theorem q2510 : (Jvm.Cond.privateMethod ({ cls := "ProbeConsoleModel", name := "operand", desc := "(I)V" } : Jvm.MethodName)) ∈ lw_tbl := lw_at lw_m10 235 rfl
theorem q2511 : (Jvm.Cond.instanceMethod ({ cls := "ProbeConsoleModel", name := "operand", desc := "(I)V" } : Jvm.MethodName)) ∈ lw_all := lw_g (lw_at lw_m10 236 rfl) rfl
theorem q2512 : (Jvm.Cond.code ({ cls := "ProbeConsoleModel", name := "operand", desc := "(I)V" } : Jvm.MethodName) prog_12_method_17_code (2 : Nat) (Option.none : Option Jvm.ClassFile.FieldType)) ∈ lw_all := lw_g (lw_at lw_m10 237 rfl) rfl
theorem q2513 : (Jvm.Cond.methodLink "ProbeConsoleModel" (181 : Nat) ({ cls := "ProbeConsoleModel", name := "isFigure", desc := "(I)Z" } : Jvm.MethodName)) ∈ lw_all := lw_g (lw_at lw_m10 238 rfl) rfl
theorem q2514 : (Jvm.Cond.static ({ cls := "ProbeConsoleModel", name := "isFigure", desc := "(I)Z" } : Jvm.MethodName)) ∈ lw_all := lw_g (lw_at lw_m10 239 rfl) rfl
theorem q2515 : (Jvm.Cond.code ({ cls := "ProbeConsoleModel", name := "isFigure", desc := "(I)Z" } : Jvm.MethodName) prog_12_method_8_code (1 : Nat) (Option.some Jvm.ClassFile.FieldType.boolean)) ∈ lw_all := lw_g (lw_at lw_m11 0 rfl) rfl
theorem q2516 : (Jvm.Cond.methodLink "ProbeConsoleModel" (229 : Nat) ({ cls := "ProbeConsoleModel", name := "readNumber", desc := "()V" } : Jvm.MethodName)) ∈ lw_all := lw_g (lw_at lw_m11 1 rfl) rfl
theorem q2517 : (Jvm.Cond.privateMethod ({ cls := "ProbeConsoleModel", name := "readNumber", desc := "()V" } : Jvm.MethodName)) ∈ lw_tbl := lw_at lw_m11 2 rfl
theorem q2518 : (Jvm.Cond.instanceMethod ({ cls := "ProbeConsoleModel", name := "readNumber", desc := "()V" } : Jvm.MethodName)) ∈ lw_all := lw_g (lw_at lw_m11 3 rfl) rfl
theorem q2519 : (Jvm.Cond.code ({ cls := "ProbeConsoleModel", name := "readNumber", desc := "()V" } : Jvm.MethodName) prog_12_method_22_code (4 : Nat) (Option.none : Option Jvm.ClassFile.FieldType)) ∈ lw_all := lw_g (lw_at lw_m11 4 rfl) rfl
theorem q2520 : (Jvm.Cond.methodLink "ProbeConsoleModel" (178 : Nat) ({ cls := "ProbeConsoleModel", name := "count", desc := "(I)Z" } : Jvm.MethodName)) ∈ lw_all := lw_g (lw_at lw_m11 5 rfl) rfl
theorem q2521 : (Jvm.Cond.privateMethod ({ cls := "ProbeConsoleModel", name := "count", desc := "(I)Z" } : Jvm.MethodName)) ∈ lw_tbl := lw_at lw_m11 6 rfl
theorem q2522 : (Jvm.Cond.instanceMethod ({ cls := "ProbeConsoleModel", name := "count", desc := "(I)Z" } : Jvm.MethodName)) ∈ lw_all := lw_g (lw_at lw_m11 7 rfl) rfl
theorem q2523 : (Jvm.Cond.code ({ cls := "ProbeConsoleModel", name := "count", desc := "(I)Z" } : Jvm.MethodName) prog_12_method_15_code (2 : Nat) (Option.some Jvm.ClassFile.FieldType.boolean)) ∈ lw_all := lw_g (lw_at lw_m11 8 rfl) rfl
theorem q2524 : (Jvm.Cond.constantLong "ProbeConsoleModel" (184 : Nat) (10 : Int64)) ∈ lw_all := lw_g (lw_at lw_m11 9 rfl) rfl
theorem q2525 : (Jvm.Cond.constantLong "ProbeConsoleModel" (186 : Nat) (48 : Int64)) ∈ lw_all := lw_g (lw_at lw_m11 10 rfl) rfl
theorem q2526 : (Jvm.Cond.constantLong "ProbeConsoleModel" (188 : Nat) (9999999999 : Int64)) ∈ lw_all := lw_g (lw_at lw_m11 11 rfl) rfl
theorem q2527 : (Jvm.Cond.constantLong "ProbeConsoleModel" (190 : Nat) (2147483647 : Int64)) ∈ lw_all := lw_g (lw_at lw_m11 12 rfl) rfl
theorem q2528 : (Jvm.Cond.methodLink "ProbeConsoleModel" (198 : Nat) ({ cls := "ProbeConsoleModel", name := "wait", desc := "(III)V" } : Jvm.MethodName)) ∈ lw_all := lw_g (lw_at lw_m11 13 rfl) rfl
theorem q2529 : (Jvm.Cond.privateMethod ({ cls := "ProbeConsoleModel", name := "wait", desc := "(III)V" } : Jvm.MethodName)) ∈ lw_tbl := lw_at lw_m11 14 rfl
theorem q2530 : (Jvm.Cond.instanceMethod ({ cls := "ProbeConsoleModel", name := "wait", desc := "(III)V" } : Jvm.MethodName)) ∈ lw_all := lw_g (lw_at lw_m11 15 rfl) rfl
theorem q2531 : (Jvm.Cond.code ({ cls := "ProbeConsoleModel", name := "wait", desc := "(III)V" } : Jvm.MethodName) prog_12_method_16_code (4 : Nat) (Option.none : Option Jvm.ClassFile.FieldType)) ∈ lw_all := lw_g (lw_at lw_m11 16 rfl) rfl
theorem q2532 : (Jvm.Cond.methodLink "ProbeConsoleModel" (215 : Nat) ({ cls := "ProbeConsoleModel", name := "open", desc := "(II)V" } : Jvm.MethodName)) ∈ lw_all := lw_g (lw_at lw_m11 17 rfl) rfl
theorem q2533 : (Jvm.Cond.privateMethod ({ cls := "ProbeConsoleModel", name := "open", desc := "(II)V" } : Jvm.MethodName)) ∈ lw_tbl := lw_at lw_m11 18 rfl
theorem q2534 : (Jvm.Cond.instanceMethod ({ cls := "ProbeConsoleModel", name := "open", desc := "(II)V" } : Jvm.MethodName)) ∈ lw_all := lw_g (lw_at lw_m11 19 rfl) rfl
theorem q2535 : (Jvm.Cond.code ({ cls := "ProbeConsoleModel", name := "open", desc := "(II)V" } : Jvm.MethodName) prog_12_method_23_code (3 : Nat) (Option.none : Option Jvm.ClassFile.FieldType)) ∈ lw_all := lw_g (lw_at lw_m11 20 rfl) rfl
theorem q2536 : (Jvm.Cond.methodLink "ProbeConsoleModel" (232 : Nat) ({ cls := "ProbeConsoleModel", name := "readRow", desc := "()Z" } : Jvm.MethodName)) ∈ lw_all := lw_g (lw_at lw_m11 21 rfl) rfl
theorem q2537 : (Jvm.Cond.privateMethod ({ cls := "ProbeConsoleModel", name := "readRow", desc := "()Z" } : Jvm.MethodName)) ∈ lw_tbl := lw_at lw_m11 22 rfl
theorem q2538 : (Jvm.Cond.instanceMethod ({ cls := "ProbeConsoleModel", name := "readRow", desc := "()Z" } : Jvm.MethodName)) ∈ lw_all := lw_g (lw_at lw_m11 23 rfl) rfl
theorem q2539 : (Jvm.Cond.code ({ cls := "ProbeConsoleModel", name := "readRow", desc := "()Z" } : Jvm.MethodName) prog_12_method_25_code (4 : Nat) (Option.some Jvm.ClassFile.FieldType.boolean)) ∈ lw_all := lw_g (lw_at lw_m11 24 rfl) rfl
theorem q2540 : (Jvm.Cond.methodLink "ProbeConsoleModel" (208 : Nat) ({ cls := "ProbeConsoleModel", name := "variableOf", desc := "(I)I" } : Jvm.MethodName)) ∈ lw_all := lw_g (lw_at lw_m11 25 rfl) rfl
theorem q2541 : (Jvm.Cond.privateMethod ({ cls := "ProbeConsoleModel", name := "variableOf", desc := "(I)I" } : Jvm.MethodName)) ∈ lw_tbl := lw_at lw_m11 26 rfl
theorem q2542 : (Jvm.Cond.instanceMethod ({ cls := "ProbeConsoleModel", name := "variableOf", desc := "(I)I" } : Jvm.MethodName)) ∈ lw_all := lw_g (lw_at lw_m11 27 rfl) rfl
theorem q2543 : (Jvm.Cond.code ({ cls := "ProbeConsoleModel", name := "variableOf", desc := "(I)I" } : Jvm.MethodName) prog_12_method_24_code (4 : Nat) (Option.some Jvm.ClassFile.FieldType.int)) ∈ lw_all := lw_g (lw_at lw_m11 28 rfl) rfl
theorem q2544 : (Jvm.Cond.methodLink "ProbeConsoleModel" (257 : Nat) ({ cls := "ProbeConsoleModel", name := "readSign", desc := "()Z" } : Jvm.MethodName)) ∈ lw_all := lw_g (lw_at lw_m11 29 rfl) rfl
theorem q2545 : (Jvm.Cond.privateMethod ({ cls := "ProbeConsoleModel", name := "readSign", desc := "()Z" } : Jvm.MethodName)) ∈ lw_tbl := lw_at lw_m11 30 rfl
theorem q2546 : (Jvm.Cond.instanceMethod ({ cls := "ProbeConsoleModel", name := "readSign", desc := "()Z" } : Jvm.MethodName)) ∈ lw_all := lw_g (lw_at lw_m11 31 rfl) rfl
theorem q2547 : (Jvm.Cond.code ({ cls := "ProbeConsoleModel", name := "readSign", desc := "()Z" } : Jvm.MethodName) prog_12_method_33_code (2 : Nat) (Option.some Jvm.ClassFile.FieldType.boolean)) ∈ lw_all := lw_g (lw_at lw_m11 32 rfl) rfl
theorem q2548 : (Jvm.Cond.methodLink "ProbeConsoleModel" (238 : Nat) ({ cls := "ProbeConsoleModel", name := "hash", desc := "()V" } : Jvm.MethodName)) ∈ lw_all := lw_g (lw_at lw_m11 33 rfl) rfl
theorem q2549 : (Jvm.Cond.privateMethod ({ cls := "ProbeConsoleModel", name := "hash", desc := "()V" } : Jvm.MethodName)) ∈ lw_tbl := lw_at lw_m11 34 rfl
theorem q2550 : (Jvm.Cond.instanceMethod ({ cls := "ProbeConsoleModel", name := "hash", desc := "()V" } : Jvm.MethodName)) ∈ lw_all := lw_g (lw_at lw_m11 35 rfl) rfl
theorem q2551 : (Jvm.Cond.code ({ cls := "ProbeConsoleModel", name := "hash", desc := "()V" } : Jvm.MethodName) prog_12_method_29_code (4 : Nat) (Option.none : Option Jvm.ClassFile.FieldType)) ∈ lw_all := lw_g (lw_at lw_m11 36 rfl) rfl
theorem q2552 : (Jvm.Cond.methodLink "ProbeConsoleModel" (241 : Nat) ({ cls := "ProbeConsoleModel", name := "question", desc := "()V" } : Jvm.MethodName)) ∈ lw_all := lw_g (lw_at lw_m11 37 rfl) rfl
theorem q2553 : (Jvm.Cond.privateMethod ({ cls := "ProbeConsoleModel", name := "question", desc := "()V" } : Jvm.MethodName)) ∈ lw_tbl := lw_at lw_m11 38 rfl
theorem q2554 : (Jvm.Cond.instanceMethod ({ cls := "ProbeConsoleModel", name := "question", desc := "()V" } : Jvm.MethodName)) ∈ lw_all := lw_g (lw_at lw_m11 39 rfl) rfl
theorem q2555 : (Jvm.Cond.code ({ cls := "ProbeConsoleModel", name := "question", desc := "()V" } : Jvm.MethodName) prog_12_method_30_code (1 : Nat) (Option.none : Option Jvm.ClassFile.FieldType)) ∈ lw_all := lw_g (lw_at lw_m11 40 rfl) rfl
theorem q2556 : (Jvm.Cond.methodLink "ProbeConsoleModel" (244 : Nat) ({ cls := "ProbeConsoleModel", name := "colon", desc := "()V" } : Jvm.MethodName)) ∈ lw_all := lw_g (lw_at lw_m11 41 rfl) rfl
theorem q2557 : (Jvm.Cond.privateMethod ({ cls := "ProbeConsoleModel", name := "colon", desc := "()V" } : Jvm.MethodName)) ∈ lw_tbl := lw_at lw_m11 42 rfl
theorem q2558 : (Jvm.Cond.instanceMethod ({ cls := "ProbeConsoleModel", name := "colon", desc := "()V" } : Jvm.MethodName)) ∈ lw_all := lw_g (lw_at lw_m11 43 rfl) rfl
theorem q2559 : (Jvm.Cond.code ({ cls := "ProbeConsoleModel", name := "colon", desc := "()V" } : Jvm.MethodName) prog_12_method_31_code (3 : Nat) (Option.none : Option Jvm.ClassFile.FieldType)) ∈ lw_all := lw_g (lw_at lw_m11 44 rfl) rfl
theorem q2560 : (Jvm.Cond.methodLink "ProbeConsoleModel" (247 : Nat) ({ cls := "ProbeConsoleModel", name := "between", desc := "(II)V" } : Jvm.MethodName)) ∈ lw_all := lw_g (lw_at lw_m11 45 rfl) rfl
theorem q2561 : (Jvm.Cond.privateMethod ({ cls := "ProbeConsoleModel", name := "between", desc := "(II)V" } : Jvm.MethodName)) ∈ lw_tbl := lw_at lw_m11 46 rfl
theorem q2562 : (Jvm.Cond.instanceMethod ({ cls := "ProbeConsoleModel", name := "between", desc := "(II)V" } : Jvm.MethodName)) ∈ lw_all := lw_g (lw_at lw_m11 47 rfl) rfl
theorem q2563 : (Jvm.Cond.code ({ cls := "ProbeConsoleModel", name := "between", desc := "(II)V" } : Jvm.MethodName) prog_12_method_28_code (3 : Nat) (Option.none : Option Jvm.ClassFile.FieldType)) ∈ lw_all := lw_g (lw_at lw_m11 48 rfl) rfl
theorem q2564 : (Jvm.Cond.methodLink "ProbeConsoleModel" (250 : Nat) ({ cls := "ProbeConsoleModel", name := "comma", desc := "()V" } : Jvm.MethodName)) ∈ lw_all := lw_g (lw_at lw_m11 49 rfl) rfl
theorem q2565 : (Jvm.Cond.privateMethod ({ cls := "ProbeConsoleModel", name := "comma", desc := "()V" } : Jvm.MethodName)) ∈ lw_tbl := lw_at lw_m11 50 rfl
theorem q2566 : (Jvm.Cond.instanceMethod ({ cls := "ProbeConsoleModel", name := "comma", desc := "()V" } : Jvm.MethodName)) ∈ lw_all := lw_g (lw_at lw_m11 51 rfl) rfl
theorem q2567 : (Jvm.Cond.code ({ cls := "ProbeConsoleModel", name := "comma", desc := "()V" } : Jvm.MethodName) prog_12_method_32_code (1 : Nat) (Option.none : Option Jvm.ClassFile.FieldType)) ∈ lw_all := lw_g (lw_at lw_m11 52 rfl) rfl
theorem q2568 : (Jvm.Cond.methodLink "ProbeConsoleModel" (272 : Nat) ({ cls := "ProbeConsoleModel", name := "findMethod", desc := "(JI)I" } : Jvm.MethodName)) ∈ lw_all := lw_g (lw_at lw_m11 53 rfl) rfl
theorem q2569 : (Jvm.Cond.privateMethod ({ cls := "ProbeConsoleModel", name := "findMethod", desc := "(JI)I" } : Jvm.MethodName)) ∈ lw_tbl := lw_at lw_m11 54 rfl
theorem q2570 : (Jvm.Cond.instanceMethod ({ cls := "ProbeConsoleModel", name := "findMethod", desc := "(JI)I" } : Jvm.MethodName)) ∈ lw_all := lw_g (lw_at lw_m11 55 rfl) rfl
theorem q2571 : (Jvm.Cond.code ({ cls := "ProbeConsoleModel", name := "findMethod", desc := "(JI)I" } : Jvm.MethodName) prog_12_method_38_code (5 : Nat) (Option.some Jvm.ClassFile.FieldType.int)) ∈ lw_all := lw_g (lw_at lw_m11 56 rfl) rfl
theorem q2572 : (Jvm.Cond.methodLink "ProbeConsoleModel" (276 : Nat) ({ cls := "ProbeConsoleModel", name := "keepExpression", desc := "(I)V" } : Jvm.MethodName)) ∈ lw_all := lw_g (lw_at lw_m11 57 rfl) rfl
theorem q2573 : (Jvm.Cond.privateMethod ({ cls := "ProbeConsoleModel", name := "keepExpression", desc := "(I)V" } : Jvm.MethodName)) ∈ lw_tbl := lw_at lw_m11 58 rfl
theorem q2574 : (Jvm.Cond.instanceMethod ({ cls := "ProbeConsoleModel", name := "keepExpression", desc := "(I)V" } : Jvm.MethodName)) ∈ lw_all := lw_g (lw_at lw_m11 59 rfl) rfl
theorem q2575 : (Jvm.Cond.code ({ cls := "ProbeConsoleModel", name := "keepExpression", desc := "(I)V" } : Jvm.MethodName) prog_12_method_35_code (3 : Nat) (Option.none : Option Jvm.ClassFile.FieldType)) ∈ lw_all := lw_g (lw_at lw_m11 60 rfl) rfl
theorem q2577 : (Jvm.Cond.instanceMethod ({ cls := "ProbeConsoleModel", name := "command", desc := "()I" } : Jvm.MethodName)) ∈ lw_all := lw_g (lw_at lw_m11 62 rfl) rfl
theorem q2578 : (Jvm.Cond.selects "ProbeConsoleModel" ({ cls := "ProbeConsoleModel", name := "command", desc := "()I" } : Jvm.MethodName) ({ cls := "ProbeConsoleModel", name := "command", desc := "()I" } : Jvm.MethodName)) ∈ lw_all := lw_g (lw_at lw_m11 63 rfl) rfl
theorem q2579 : (Jvm.Cond.code ({ cls := "ProbeConsoleModel", name := "command", desc := "()I" } : Jvm.MethodName) prog_12_method_55_code (16 : Nat) (Option.some Jvm.ClassFile.FieldType.int)) ∈ lw_all := lw_g (lw_at lw_m11 64 rfl) rfl
theorem q2580 : (Jvm.Cond.methodLink "ProbeConsoleModel" (281 : Nat) ({ cls := "ProbeConsoleModel", name := "skip", desc := "()V" } : Jvm.MethodName)) ∈ lw_all := lw_g (lw_at lw_m11 65 rfl) rfl
theorem q2581 : (Jvm.Cond.privateMethod ({ cls := "ProbeConsoleModel", name := "skip", desc := "()V" } : Jvm.MethodName)) ∈ lw_tbl := lw_at lw_m11 66 rfl
theorem q2582 : (Jvm.Cond.instanceMethod ({ cls := "ProbeConsoleModel", name := "skip", desc := "()V" } : Jvm.MethodName)) ∈ lw_all := lw_g (lw_at lw_m11 67 rfl) rfl
theorem q2583 : (Jvm.Cond.code ({ cls := "ProbeConsoleModel", name := "skip", desc := "()V" } : Jvm.MethodName) prog_12_method_40_code (1 : Nat) (Option.none : Option Jvm.ClassFile.FieldType)) ∈ lw_all := lw_g (lw_at lw_m11 68 rfl) rfl
theorem q2584 : (Jvm.Cond.methodLink "ProbeConsoleModel" (290 : Nat) ({ cls := "ProbeConsoleModel", name := "rowAt", desc := "(I)J" } : Jvm.MethodName)) ∈ lw_all := lw_g (lw_at lw_m11 69 rfl) rfl
theorem q2585 : (Jvm.Cond.privateMethod ({ cls := "ProbeConsoleModel", name := "rowAt", desc := "(I)J" } : Jvm.MethodName)) ∈ lw_tbl := lw_at lw_m11 70 rfl
theorem q2586 : (Jvm.Cond.instanceMethod ({ cls := "ProbeConsoleModel", name := "rowAt", desc := "(I)J" } : Jvm.MethodName)) ∈ lw_all := lw_g (lw_at lw_m11 71 rfl) rfl
theorem q2587 : (Jvm.Cond.code ({ cls := "ProbeConsoleModel", name := "rowAt", desc := "(I)J" } : Jvm.MethodName) prog_12_method_42_code (4 : Nat) (Option.some Jvm.ClassFile.FieldType.long)) ∈ lw_all := lw_g (lw_at lw_m11 72 rfl) rfl
theorem q2588 : (Jvm.Cond.methodLink "ProbeConsoleModel" (294 : Nat) ({ cls := "ProbeConsoleModel", name := "word", desc := "(IIII)J" } : Jvm.MethodName)) ∈ lw_all := lw_g (lw_at lw_m11 73 rfl) rfl
theorem q2589 : (Jvm.Cond.static ({ cls := "ProbeConsoleModel", name := "word", desc := "(IIII)J" } : Jvm.MethodName)) ∈ lw_all := lw_g (lw_at lw_m11 74 rfl) rfl
theorem q2590 : (Jvm.Cond.code ({ cls := "ProbeConsoleModel", name := "word", desc := "(IIII)J" } : Jvm.MethodName) prog_12_method_41_code (4 : Nat) (Option.some Jvm.ClassFile.FieldType.long)) ∈ lw_all := lw_g (lw_at lw_m11 75 rfl) rfl
theorem q2591 : (Jvm.Cond.constantLong "ProbeConsoleModel" (279 : Nat) (1048575 : Int64)) ∈ lw_all := lw_g (lw_at lw_m11 76 rfl) rfl
theorem q2592 : (Jvm.Cond.methodLink "ProbeConsoleModel" (298 : Nat) ({ cls := "ProbeConsoleModel", name := "endsAt", desc := "(I)Z" } : Jvm.MethodName)) ∈ lw_all := lw_g (lw_at lw_m11 77 rfl) rfl
theorem q2593 : (Jvm.Cond.privateMethod ({ cls := "ProbeConsoleModel", name := "endsAt", desc := "(I)Z" } : Jvm.MethodName)) ∈ lw_tbl := lw_at lw_m11 78 rfl
theorem q2594 : (Jvm.Cond.instanceMethod ({ cls := "ProbeConsoleModel", name := "endsAt", desc := "(I)Z" } : Jvm.MethodName)) ∈ lw_all := lw_g (lw_at lw_m11 79 rfl) rfl
theorem q2595 : (Jvm.Cond.code ({ cls := "ProbeConsoleModel", name := "endsAt", desc := "(I)Z" } : Jvm.MethodName) prog_12_method_43_code (2 : Nat) (Option.some Jvm.ClassFile.FieldType.boolean)) ∈ lw_all := lw_g (lw_at lw_m11 80 rfl) rfl
theorem q2596 : (Jvm.Cond.methodLink "ProbeConsoleModel" (320 : Nat) ({ cls := "ProbeConsoleModel", name := "watch", desc := "()I" } : Jvm.MethodName)) ∈ lw_all := lw_g (lw_at lw_m11 81 rfl) rfl
theorem q2597 : (Jvm.Cond.privateMethod ({ cls := "ProbeConsoleModel", name := "watch", desc := "()I" } : Jvm.MethodName)) ∈ lw_tbl := lw_at lw_m11 82 rfl
theorem q2598 : (Jvm.Cond.instanceMethod ({ cls := "ProbeConsoleModel", name := "watch", desc := "()I" } : Jvm.MethodName)) ∈ lw_all := lw_g (lw_at lw_m11 83 rfl) rfl
theorem q2599 : (Jvm.Cond.code ({ cls := "ProbeConsoleModel", name := "watch", desc := "()I" } : Jvm.MethodName) prog_12_method_51_code (5 : Nat) (Option.some Jvm.ClassFile.FieldType.int)) ∈ lw_all := lw_g (lw_at lw_m11 84 rfl) rfl
theorem q2600 : (Jvm.Cond.methodLink "ProbeConsoleModel" (301 : Nat) ({ cls := "ProbeConsoleModel", name := "readPoint", desc := "()I" } : Jvm.MethodName)) ∈ lw_all := lw_g (lw_at lw_m11 85 rfl) rfl
theorem q2601 : (Jvm.Cond.privateMethod ({ cls := "ProbeConsoleModel", name := "readPoint", desc := "()I" } : Jvm.MethodName)) ∈ lw_tbl := lw_at lw_m11 86 rfl
theorem q2602 : (Jvm.Cond.instanceMethod ({ cls := "ProbeConsoleModel", name := "readPoint", desc := "()I" } : Jvm.MethodName)) ∈ lw_all := lw_g (lw_at lw_m11 87 rfl) rfl
theorem q2603 : (Jvm.Cond.code ({ cls := "ProbeConsoleModel", name := "readPoint", desc := "()I" } : Jvm.MethodName) prog_12_method_50_code (6 : Nat) (Option.some Jvm.ClassFile.FieldType.int)) ∈ lw_all := lw_g (lw_at lw_m11 88 rfl) rfl
theorem q2604 : (Jvm.Cond.methodLink "ProbeConsoleModel" (304 : Nat) ({ cls := "ProbeConsoleModel", name := "readPattern", desc := "()V" } : Jvm.MethodName)) ∈ lw_all := lw_g (lw_at lw_m11 89 rfl) rfl
theorem q2605 : (Jvm.Cond.privateMethod ({ cls := "ProbeConsoleModel", name := "readPattern", desc := "()V" } : Jvm.MethodName)) ∈ lw_tbl := lw_at lw_m11 90 rfl
theorem q2606 : (Jvm.Cond.instanceMethod ({ cls := "ProbeConsoleModel", name := "readPattern", desc := "()V" } : Jvm.MethodName)) ∈ lw_all := lw_g (lw_at lw_m11 91 rfl) rfl
theorem q2607 : (Jvm.Cond.code ({ cls := "ProbeConsoleModel", name := "readPattern", desc := "()V" } : Jvm.MethodName) prog_12_method_46_code (2 : Nat) (Option.none : Option Jvm.ClassFile.FieldType)) ∈ lw_all := lw_g (lw_at lw_m11 92 rfl) rfl
theorem q2608 : (Jvm.Cond.methodLink "ProbeConsoleModel" (307 : Nat) ({ cls := "ProbeConsoleModel", name := "freeJob", desc := "()I" } : Jvm.MethodName)) ∈ lw_all := lw_g (lw_at lw_m11 93 rfl) rfl
theorem q2609 : (Jvm.Cond.privateMethod ({ cls := "ProbeConsoleModel", name := "freeJob", desc := "()I" } : Jvm.MethodName)) ∈ lw_tbl := lw_at lw_m11 94 rfl
theorem q2610 : (Jvm.Cond.instanceMethod ({ cls := "ProbeConsoleModel", name := "freeJob", desc := "()I" } : Jvm.MethodName)) ∈ lw_all := lw_g (lw_at lw_m11 95 rfl) rfl
theorem q2611 : (Jvm.Cond.code ({ cls := "ProbeConsoleModel", name := "freeJob", desc := "()I" } : Jvm.MethodName) prog_12_method_48_code (2 : Nat) (Option.some Jvm.ClassFile.FieldType.int)) ∈ lw_all := lw_g (lw_at lw_m11 96 rfl) rfl
theorem q2612 : (Jvm.Cond.methodLink "ProbeConsoleModel" (310 : Nat) ({ cls := "ProbeConsoleModel", name := "smallNumber", desc := "(I)I" } : Jvm.MethodName)) ∈ lw_all := lw_g (lw_at lw_m11 97 rfl) rfl
theorem q2613 : (Jvm.Cond.privateMethod ({ cls := "ProbeConsoleModel", name := "smallNumber", desc := "(I)I" } : Jvm.MethodName)) ∈ lw_tbl := lw_at lw_m11 98 rfl
theorem q2614 : (Jvm.Cond.instanceMethod ({ cls := "ProbeConsoleModel", name := "smallNumber", desc := "(I)I" } : Jvm.MethodName)) ∈ lw_all := lw_g (lw_at lw_m11 99 rfl) rfl
theorem q2615 : (Jvm.Cond.code ({ cls := "ProbeConsoleModel", name := "smallNumber", desc := "(I)I" } : Jvm.MethodName) prog_12_method_47_code (4 : Nat) (Option.some Jvm.ClassFile.FieldType.int)) ∈ lw_all := lw_g (lw_at lw_m11 100 rfl) rfl
theorem q2616 : (Jvm.Cond.methodLink "ProbeConsoleModel" (287 : Nat) ({ cls := "ProbeConsoleModel", name := "wantBlank", desc := "()V" } : Jvm.MethodName)) ∈ lw_all := lw_g (lw_at lw_m11 101 rfl) rfl
theorem q2617 : (Jvm.Cond.privateMethod ({ cls := "ProbeConsoleModel", name := "wantBlank", desc := "()V" } : Jvm.MethodName)) ∈ lw_tbl := lw_at lw_m11 102 rfl
theorem q2618 : (Jvm.Cond.instanceMethod ({ cls := "ProbeConsoleModel", name := "wantBlank", desc := "()V" } : Jvm.MethodName)) ∈ lw_all := lw_g (lw_at lw_m11 103 rfl) rfl
theorem q2619 : (Jvm.Cond.code ({ cls := "ProbeConsoleModel", name := "wantBlank", desc := "()V" } : Jvm.MethodName) prog_12_method_44_code (1 : Nat) (Option.none : Option Jvm.ClassFile.FieldType)) ∈ lw_all := lw_g (lw_at lw_m11 104 rfl) rfl
theorem q2620 : (Jvm.Cond.methodLink "ProbeConsoleModel" (313 : Nat) ({ cls := "ProbeConsoleModel", name := "wantEnd", desc := "()V" } : Jvm.MethodName)) ∈ lw_all := lw_g (lw_at lw_m11 105 rfl) rfl
theorem q2621 : (Jvm.Cond.privateMethod ({ cls := "ProbeConsoleModel", name := "wantEnd", desc := "()V" } : Jvm.MethodName)) ∈ lw_tbl := lw_at lw_m11 106 rfl
theorem q2622 : (Jvm.Cond.instanceMethod ({ cls := "ProbeConsoleModel", name := "wantEnd", desc := "()V" } : Jvm.MethodName)) ∈ lw_all := lw_g (lw_at lw_m11 107 rfl) rfl
theorem q2623 : (Jvm.Cond.code ({ cls := "ProbeConsoleModel", name := "wantEnd", desc := "()V" } : Jvm.MethodName) prog_12_method_45_code (1 : Nat) (Option.none : Option Jvm.ClassFile.FieldType)) ∈ lw_all := lw_g (lw_at lw_m11 108 rfl) rfl
theorem q2624 : (Jvm.Cond.methodLink "ProbeConsoleModel" (316 : Nat) ({ cls := "ProbeConsoleModel", name := "newJob", desc := "(II)I" } : Jvm.MethodName)) ∈ lw_all := lw_g (lw_at lw_m11 109 rfl) rfl
theorem q2625 : (Jvm.Cond.privateMethod ({ cls := "ProbeConsoleModel", name := "newJob", desc := "(II)I" } : Jvm.MethodName)) ∈ lw_tbl := lw_at lw_m11 110 rfl
theorem q2626 : (Jvm.Cond.instanceMethod ({ cls := "ProbeConsoleModel", name := "newJob", desc := "(II)I" } : Jvm.MethodName)) ∈ lw_all := lw_g (lw_at lw_m11 111 rfl) rfl
theorem q2627 : (Jvm.Cond.code ({ cls := "ProbeConsoleModel", name := "newJob", desc := "(II)I" } : Jvm.MethodName) prog_12_method_49_code (4 : Nat) (Option.some Jvm.ClassFile.FieldType.int)) ∈ lw_all := lw_g (lw_at lw_m11 112 rfl) rfl
theorem q2628 : (Jvm.Cond.methodLink "ProbeConsoleModel" (323 : Nat) ({ cls := "ProbeConsoleModel", name := "simple", desc := "(I)I" } : Jvm.MethodName)) ∈ lw_all := lw_g (lw_at lw_m11 113 rfl) rfl
theorem q2629 : (Jvm.Cond.privateMethod ({ cls := "ProbeConsoleModel", name := "simple", desc := "(I)I" } : Jvm.MethodName)) ∈ lw_tbl := lw_at lw_m11 114 rfl
theorem q2630 : (Jvm.Cond.instanceMethod ({ cls := "ProbeConsoleModel", name := "simple", desc := "(I)I" } : Jvm.MethodName)) ∈ lw_all := lw_g (lw_at lw_m11 115 rfl) rfl
theorem q2631 : (Jvm.Cond.code ({ cls := "ProbeConsoleModel", name := "simple", desc := "(I)I" } : Jvm.MethodName) prog_12_method_52_code (3 : Nat) (Option.some Jvm.ClassFile.FieldType.int)) ∈ lw_all := lw_g (lw_at lw_m11 116 rfl) rfl
theorem q2632 : (Jvm.Cond.methodLink "ProbeConsoleModel" (326 : Nat) ({ cls := "ProbeConsoleModel", name := "kill", desc := "()I" } : Jvm.MethodName)) ∈ lw_all := lw_g (lw_at lw_m11 117 rfl) rfl
theorem q2633 : (Jvm.Cond.privateMethod ({ cls := "ProbeConsoleModel", name := "kill", desc := "()I" } : Jvm.MethodName)) ∈ lw_tbl := lw_at lw_m11 118 rfl
theorem q2634 : (Jvm.Cond.instanceMethod ({ cls := "ProbeConsoleModel", name := "kill", desc := "()I" } : Jvm.MethodName)) ∈ lw_all := lw_g (lw_at lw_m11 119 rfl) rfl
theorem q2635 : (Jvm.Cond.code ({ cls := "ProbeConsoleModel", name := "kill", desc := "()I" } : Jvm.MethodName) prog_12_method_53_code (2 : Nat) (Option.some Jvm.ClassFile.FieldType.int)) ∈ lw_all := lw_g (lw_at lw_m11 120 rfl) rfl
theorem q2636 : (Jvm.Cond.methodLink "ProbeConsoleModel" (329 : Nat) ({ cls := "ProbeConsoleModel", name := "reset", desc := "()I" } : Jvm.MethodName)) ∈ lw_all := lw_g (lw_at lw_m11 121 rfl) rfl
theorem q2637 : (Jvm.Cond.privateMethod ({ cls := "ProbeConsoleModel", name := "reset", desc := "()I" } : Jvm.MethodName)) ∈ lw_tbl := lw_at lw_m11 122 rfl
theorem q2638 : (Jvm.Cond.instanceMethod ({ cls := "ProbeConsoleModel", name := "reset", desc := "()I" } : Jvm.MethodName)) ∈ lw_all := lw_g (lw_at lw_m11 123 rfl) rfl
theorem q2639 : (Jvm.Cond.code ({ cls := "ProbeConsoleModel", name := "reset", desc := "()I" } : Jvm.MethodName) prog_12_method_54_code (3 : Nat) (Option.some Jvm.ClassFile.FieldType.int)) ∈ lw_all := lw_g (lw_at lw_m11 124 rfl) rfl
theorem q2641 : (Jvm.Cond.instanceMethod ({ cls := "ProbeConsoleModel", name := "fault", desc := "()I" } : Jvm.MethodName)) ∈ lw_all := lw_g (lw_at lw_m11 126 rfl) rfl
theorem q2642 : (Jvm.Cond.selects "ProbeConsoleModel" ({ cls := "ProbeConsoleModel", name := "fault", desc := "()I" } : Jvm.MethodName) ({ cls := "ProbeConsoleModel", name := "fault", desc := "()I" } : Jvm.MethodName)) ∈ lw_all := lw_g (lw_at lw_m11 127 rfl) rfl
theorem q2643 : (Jvm.Cond.code ({ cls := "ProbeConsoleModel", name := "fault", desc := "()I" } : Jvm.MethodName) prog_12_method_56_code (1 : Nat) (Option.some Jvm.ClassFile.FieldType.int)) ∈ lw_all := lw_g (lw_at lw_m11 128 rfl) rfl
theorem q2645 : (Jvm.Cond.instanceMethod ({ cls := "ProbeConsoleModel", name := "place", desc := "()I" } : Jvm.MethodName)) ∈ lw_all := lw_g (lw_at lw_m11 130 rfl) rfl
theorem q2646 : (Jvm.Cond.selects "ProbeConsoleModel" ({ cls := "ProbeConsoleModel", name := "place", desc := "()I" } : Jvm.MethodName) ({ cls := "ProbeConsoleModel", name := "place", desc := "()I" } : Jvm.MethodName)) ∈ lw_all := lw_g (lw_at lw_m11 131 rfl) rfl
theorem q2647 : (Jvm.Cond.code ({ cls := "ProbeConsoleModel", name := "place", desc := "()I" } : Jvm.MethodName) prog_12_method_57_code (1 : Nat) (Option.some Jvm.ClassFile.FieldType.int)) ∈ lw_all := lw_g (lw_at lw_m11 132 rfl) rfl
theorem q2649 : (Jvm.Cond.instanceMethod ({ cls := "ProbeConsoleModel", name := "call", desc := "(IIII)I" } : Jvm.MethodName)) ∈ lw_all := lw_g (lw_at lw_m11 134 rfl) rfl
theorem q2650 : (Jvm.Cond.selects "ProbeConsoleModel" ({ cls := "ProbeConsoleModel", name := "call", desc := "(IIII)I" } : Jvm.MethodName) ({ cls := "ProbeConsoleModel", name := "call", desc := "(IIII)I" } : Jvm.MethodName)) ∈ lw_all := lw_g (lw_at lw_m11 135 rfl) rfl
theorem q2651 : (Jvm.Cond.code ({ cls := "ProbeConsoleModel", name := "call", desc := "(IIII)I" } : Jvm.MethodName) prog_12_method_77_code (5 : Nat) (Option.some Jvm.ClassFile.FieldType.int)) ∈ lw_all := lw_g (lw_at lw_m11 136 rfl) rfl
theorem q2652 : (Jvm.Cond.methodLink "ProbeConsoleModel" (429 : Nat) ({ cls := "ProbeConsoleModel", name := "play", desc := "(IIIIZ)I" } : Jvm.MethodName)) ∈ lw_all := lw_g (lw_at lw_m11 137 rfl) rfl
theorem q2653 : (Jvm.Cond.privateMethod ({ cls := "ProbeConsoleModel", name := "play", desc := "(IIIIZ)I" } : Jvm.MethodName)) ∈ lw_tbl := lw_at lw_m11 138 rfl
theorem q2654 : (Jvm.Cond.instanceMethod ({ cls := "ProbeConsoleModel", name := "play", desc := "(IIIIZ)I" } : Jvm.MethodName)) ∈ lw_all := lw_g (lw_at lw_m11 139 rfl) rfl
theorem q2655 : (Jvm.Cond.code ({ cls := "ProbeConsoleModel", name := "play", desc := "(IIIIZ)I" } : Jvm.MethodName) prog_12_method_76_code (6 : Nat) (Option.some Jvm.ClassFile.FieldType.int)) ∈ lw_all := lw_g (lw_at lw_m11 140 rfl) rfl
theorem q2656 : (Jvm.Cond.methodLink "ProbeConsoleModel" (413 : Nat) ({ cls := "ProbeConsoleModel", name := "enter", desc := "(I)V" } : Jvm.MethodName)) ∈ lw_all := lw_g (lw_at lw_m11 141 rfl) rfl
theorem q2657 : (Jvm.Cond.privateMethod ({ cls := "ProbeConsoleModel", name := "enter", desc := "(I)V" } : Jvm.MethodName)) ∈ lw_tbl := lw_at lw_m11 142 rfl
theorem q2658 : (Jvm.Cond.instanceMethod ({ cls := "ProbeConsoleModel", name := "enter", desc := "(I)V" } : Jvm.MethodName)) ∈ lw_all := lw_g (lw_at lw_m11 143 rfl) rfl
theorem q2659 : (Jvm.Cond.code ({ cls := "ProbeConsoleModel", name := "enter", desc := "(I)V" } : Jvm.MethodName) prog_12_method_69_code (3 : Nat) (Option.none : Option Jvm.ClassFile.FieldType)) ∈ lw_all := lw_g (lw_at lw_m11 144 rfl) rfl
theorem q2660 : (Jvm.Cond.methodLink "ProbeConsoleModel" (387 : Nat) ({ cls := "ProbeConsoleModel", name := "probe", desc := "(III)V" } : Jvm.MethodName)) ∈ lw_all := lw_g (lw_at lw_m11 145 rfl) rfl
theorem q2661 : (Jvm.Cond.privateMethod ({ cls := "ProbeConsoleModel", name := "probe", desc := "(III)V" } : Jvm.MethodName)) ∈ lw_tbl := lw_at lw_m11 146 rfl
theorem q2662 : (Jvm.Cond.instanceMethod ({ cls := "ProbeConsoleModel", name := "probe", desc := "(III)V" } : Jvm.MethodName)) ∈ lw_all := lw_g (lw_at lw_m11 147 rfl) rfl
theorem q2663 : (Jvm.Cond.code ({ cls := "ProbeConsoleModel", name := "probe", desc := "(III)V" } : Jvm.MethodName) prog_12_method_68_code (6 : Nat) (Option.none : Option Jvm.ClassFile.FieldType)) ∈ lw_all := lw_g (lw_at lw_m11 148 rfl) rfl
theorem q2664 : (Jvm.Cond.methodLink "ProbeConsoleModel" (371 : Nat) ({ cls := "ProbeConsoleModel", name := "fits", desc := "(II)Z" } : Jvm.MethodName)) ∈ lw_all := lw_g (lw_at lw_m11 149 rfl) rfl
theorem q2665 : (Jvm.Cond.privateMethod ({ cls := "ProbeConsoleModel", name := "fits", desc := "(II)Z" } : Jvm.MethodName)) ∈ lw_tbl := lw_at lw_m11 150 rfl
theorem q2666 : (Jvm.Cond.instanceMethod ({ cls := "ProbeConsoleModel", name := "fits", desc := "(II)Z" } : Jvm.MethodName)) ∈ lw_all := lw_g (lw_at lw_m11 151 rfl) rfl
theorem q2667 : (Jvm.Cond.code ({ cls := "ProbeConsoleModel", name := "fits", desc := "(II)Z" } : Jvm.MethodName) prog_12_method_60_code (10 : Nat) (Option.some Jvm.ClassFile.FieldType.boolean)) ∈ lw_all := lw_g (lw_at lw_m11 152 rfl) rfl
theorem q2668 : (Jvm.Cond.methodLink "ProbeConsoleModel" (334 : Nat) ({ cls := "ProbeConsoleModel", name := "nameSize", desc := "(I)I" } : Jvm.MethodName)) ∈ lw_all := lw_g (lw_at lw_m11 153 rfl) rfl
theorem q2669 : (Jvm.Cond.privateMethod ({ cls := "ProbeConsoleModel", name := "nameSize", desc := "(I)I" } : Jvm.MethodName)) ∈ lw_tbl := lw_at lw_m11 154 rfl
theorem q2670 : (Jvm.Cond.instanceMethod ({ cls := "ProbeConsoleModel", name := "nameSize", desc := "(I)I" } : Jvm.MethodName)) ∈ lw_all := lw_g (lw_at lw_m11 155 rfl) rfl
theorem q2671 : (Jvm.Cond.code ({ cls := "ProbeConsoleModel", name := "nameSize", desc := "(I)I" } : Jvm.MethodName) prog_12_method_59_code (3 : Nat) (Option.some Jvm.ClassFile.FieldType.int)) ∈ lw_all := lw_g (lw_at lw_m11 156 rfl) rfl
theorem q2672 : (Jvm.Cond.methodLink "ProbeConsoleModel" (337 : Nat) ({ cls := "ProbeConsoleModel", name := "starred", desc := "(II)I" } : Jvm.MethodName)) ∈ lw_all := lw_g (lw_at lw_m11 157 rfl) rfl
theorem q2673 : (Jvm.Cond.privateMethod ({ cls := "ProbeConsoleModel", name := "starred", desc := "(II)I" } : Jvm.MethodName)) ∈ lw_tbl := lw_at lw_m11 158 rfl
theorem q2674 : (Jvm.Cond.instanceMethod ({ cls := "ProbeConsoleModel", name := "starred", desc := "(II)I" } : Jvm.MethodName)) ∈ lw_all := lw_g (lw_at lw_m11 159 rfl) rfl
theorem q2675 : (Jvm.Cond.code ({ cls := "ProbeConsoleModel", name := "starred", desc := "(II)I" } : Jvm.MethodName) prog_12_method_61_code (5 : Nat) (Option.some Jvm.ClassFile.FieldType.int)) ∈ lw_all := lw_g (lw_at lw_m11 160 rfl) rfl
theorem q2676 : (Jvm.Cond.methodLink "ProbeConsoleModel" (340 : Nat) ({ cls := "ProbeConsoleModel", name := "nameByte", desc := "(III)I" } : Jvm.MethodName)) ∈ lw_all := lw_g (lw_at lw_m11 161 rfl) rfl
theorem q2677 : (Jvm.Cond.privateMethod ({ cls := "ProbeConsoleModel", name := "nameByte", desc := "(III)I" } : Jvm.MethodName)) ∈ lw_tbl := lw_at lw_m11 162 rfl
theorem q2678 : (Jvm.Cond.instanceMethod ({ cls := "ProbeConsoleModel", name := "nameByte", desc := "(III)I" } : Jvm.MethodName)) ∈ lw_all := lw_g (lw_at lw_m11 163 rfl) rfl
theorem q2679 : (Jvm.Cond.code ({ cls := "ProbeConsoleModel", name := "nameByte", desc := "(III)I" } : Jvm.MethodName) prog_12_method_58_code (5 : Nat) (Option.some Jvm.ClassFile.FieldType.int)) ∈ lw_all := lw_g (lw_at lw_m11 164 rfl) rfl
theorem q2680 : (Jvm.Cond.constantLong "ProbeConsoleModel" (332 : Nat) (31 : Int64)) ∈ lw_all := lw_g (lw_at lw_m11 165 rfl) rfl
theorem q2681 : (Jvm.Cond.methodLink "ProbeConsoleModel" (374 : Nat) ({ cls := "ProbeConsoleModel", name := "watchOne", desc := "(II)V" } : Jvm.MethodName)) ∈ lw_all := lw_g (lw_at lw_m11 166 rfl) rfl
theorem q2682 : (Jvm.Cond.privateMethod ({ cls := "ProbeConsoleModel", name := "watchOne", desc := "(II)V" } : Jvm.MethodName)) ∈ lw_tbl := lw_at lw_m11 167 rfl
theorem q2683 : (Jvm.Cond.instanceMethod ({ cls := "ProbeConsoleModel", name := "watchOne", desc := "(II)V" } : Jvm.MethodName)) ∈ lw_all := lw_g (lw_at lw_m11 168 rfl) rfl
theorem q2684 : (Jvm.Cond.code ({ cls := "ProbeConsoleModel", name := "watchOne", desc := "(II)V" } : Jvm.MethodName) prog_12_method_66_code (3 : Nat) (Option.none : Option Jvm.ClassFile.FieldType)) ∈ lw_all := lw_g (lw_at lw_m11 169 rfl) rfl
theorem q2685 : (Jvm.Cond.methodLink "ProbeConsoleModel" (359 : Nat) ({ cls := "ProbeConsoleModel", name := "probeExpression", desc := "(I)V" } : Jvm.MethodName)) ∈ lw_all := lw_g (lw_at lw_m11 170 rfl) rfl
theorem q2686 : (Jvm.Cond.privateMethod ({ cls := "ProbeConsoleModel", name := "probeExpression", desc := "(I)V" } : Jvm.MethodName)) ∈ lw_tbl := lw_at lw_m11 171 rfl
theorem q2687 : (Jvm.Cond.instanceMethod ({ cls := "ProbeConsoleModel", name := "probeExpression", desc := "(I)V" } : Jvm.MethodName)) ∈ lw_all := lw_g (lw_at lw_m11 172 rfl) rfl
theorem q2688 : (Jvm.Cond.code ({ cls := "ProbeConsoleModel", name := "probeExpression", desc := "(I)V" } : Jvm.MethodName) prog_12_method_64_code (9 : Nat) (Option.none : Option Jvm.ClassFile.FieldType)) ∈ lw_all := lw_g (lw_at lw_m11 173 rfl) rfl
theorem q2689 : (Jvm.Cond.methodLink "ProbeConsoleModel" (350 : Nat) ({ cls := "ProbeConsoleModel", name := "isOver", desc := "(II)Z" } : Jvm.MethodName)) ∈ lw_all := lw_g (lw_at lw_m11 174 rfl) rfl
theorem q2690 : (Jvm.Cond.static ({ cls := "ProbeConsoleModel", name := "isOver", desc := "(II)Z" } : Jvm.MethodName)) ∈ lw_all := lw_g (lw_at lw_m11 175 rfl) rfl
theorem q2691 : (Jvm.Cond.code ({ cls := "ProbeConsoleModel", name := "isOver", desc := "(II)Z" } : Jvm.MethodName) prog_12_method_62_code (2 : Nat) (Option.some Jvm.ClassFile.FieldType.boolean)) ∈ lw_all := lw_g (lw_at lw_m11 176 rfl) rfl
theorem q2692 : (Jvm.Cond.methodLink "ProbeConsoleModel" (353 : Nat) ({ cls := "ProbeConsoleModel", name := "result", desc := "(III)I" } : Jvm.MethodName)) ∈ lw_all := lw_g (lw_at lw_m11 177 rfl) rfl
theorem q2693 : (Jvm.Cond.static ({ cls := "ProbeConsoleModel", name := "result", desc := "(III)I" } : Jvm.MethodName)) ∈ lw_all := lw_g (lw_at lw_m11 178 rfl) rfl
theorem q2694 : (Jvm.Cond.code ({ cls := "ProbeConsoleModel", name := "result", desc := "(III)I" } : Jvm.MethodName) prog_12_method_63_code (3 : Nat) (Option.some Jvm.ClassFile.FieldType.int)) ∈ lw_all := lw_g (lw_at lw_m11 179 rfl) rfl
theorem q2695 : (Jvm.Cond.methodLink "ProbeConsoleModel" (362 : Nat) ({ cls := "ProbeConsoleModel", name := "record", desc := "(III)V" } : Jvm.MethodName)) ∈ lw_all := lw_g (lw_at lw_m11 180 rfl) rfl
theorem q2696 : (Jvm.Cond.privateMethod ({ cls := "ProbeConsoleModel", name := "record", desc := "(III)V" } : Jvm.MethodName)) ∈ lw_tbl := lw_at lw_m11 181 rfl
theorem q2697 : (Jvm.Cond.instanceMethod ({ cls := "ProbeConsoleModel", name := "record", desc := "(III)V" } : Jvm.MethodName)) ∈ lw_all := lw_g (lw_at lw_m11 182 rfl) rfl
theorem q2698 : (Jvm.Cond.code ({ cls := "ProbeConsoleModel", name := "record", desc := "(III)V" } : Jvm.MethodName) prog_12_method_65_code (5 : Nat) (Option.none : Option Jvm.ClassFile.FieldType)) ∈ lw_all := lw_g (lw_at lw_m11 183 rfl) rfl
theorem q2699 : (Jvm.Cond.methodLink "ProbeConsoleModel" (377 : Nat) ({ cls := "ProbeConsoleModel", name := "keepOne", desc := "(IIII)V" } : Jvm.MethodName)) ∈ lw_all := lw_g (lw_at lw_m11 184 rfl) rfl
theorem q2700 : (Jvm.Cond.privateMethod ({ cls := "ProbeConsoleModel", name := "keepOne", desc := "(IIII)V" } : Jvm.MethodName)) ∈ lw_tbl := lw_at lw_m11 185 rfl
theorem q2701 : (Jvm.Cond.instanceMethod ({ cls := "ProbeConsoleModel", name := "keepOne", desc := "(IIII)V" } : Jvm.MethodName)) ∈ lw_all := lw_g (lw_at lw_m11 186 rfl) rfl
theorem q2702 : (Jvm.Cond.code ({ cls := "ProbeConsoleModel", name := "keepOne", desc := "(IIII)V" } : Jvm.MethodName) prog_12_method_67_code (7 : Nat) (Option.none : Option Jvm.ClassFile.FieldType)) ∈ lw_all := lw_g (lw_at lw_m11 187 rfl) rfl
theorem q2703 : (Jvm.Cond.methodLink "ProbeConsoleModel" (423 : Nat) ({ cls := "ProbeConsoleModel", name := "step", desc := "()V" } : Jvm.MethodName)) ∈ lw_all := lw_g (lw_at lw_m11 188 rfl) rfl
theorem q2704 : (Jvm.Cond.privateMethod ({ cls := "ProbeConsoleModel", name := "step", desc := "()V" } : Jvm.MethodName)) ∈ lw_tbl := lw_at lw_m11 189 rfl
theorem q2705 : (Jvm.Cond.instanceMethod ({ cls := "ProbeConsoleModel", name := "step", desc := "()V" } : Jvm.MethodName)) ∈ lw_all := lw_g (lw_at lw_m11 190 rfl) rfl
theorem q2706 : (Jvm.Cond.code ({ cls := "ProbeConsoleModel", name := "step", desc := "()V" } : Jvm.MethodName) prog_12_method_75_code (7 : Nat) (Option.none : Option Jvm.ClassFile.FieldType)) ∈ lw_all := lw_g (lw_at lw_m11 191 rfl) rfl
theorem q2707 : (Jvm.Cond.methodLink "ProbeConsoleModel" (416 : Nat) ({ cls := "ProbeConsoleModel", name := "leave", desc := "()V" } : Jvm.MethodName)) ∈ lw_all := lw_g (lw_at lw_m11 192 rfl) rfl
theorem q2708 : (Jvm.Cond.privateMethod ({ cls := "ProbeConsoleModel", name := "leave", desc := "()V" } : Jvm.MethodName)) ∈ lw_tbl := lw_at lw_m11 193 rfl
theorem q2709 : (Jvm.Cond.instanceMethod ({ cls := "ProbeConsoleModel", name := "leave", desc := "()V" } : Jvm.MethodName)) ∈ lw_all := lw_g (lw_at lw_m11 194 rfl) rfl
theorem q2710 : (Jvm.Cond.code ({ cls := "ProbeConsoleModel", name := "leave", desc := "()V" } : Jvm.MethodName) prog_12_method_73_code (2 : Nat) (Option.none : Option Jvm.ClassFile.FieldType)) ∈ lw_all := lw_g (lw_at lw_m11 195 rfl) rfl
theorem q2711 : (Jvm.Cond.methodLink "ProbeConsoleModel" (402 : Nat) ({ cls := "ProbeConsoleModel", name := "push", desc := "(I)V" } : Jvm.MethodName)) ∈ lw_all := lw_g (lw_at lw_m11 196 rfl) rfl
theorem q2712 : (Jvm.Cond.privateMethod ({ cls := "ProbeConsoleModel", name := "push", desc := "(I)V" } : Jvm.MethodName)) ∈ lw_tbl := lw_at lw_m11 197 rfl
theorem q2713 : (Jvm.Cond.instanceMethod ({ cls := "ProbeConsoleModel", name := "push", desc := "(I)V" } : Jvm.MethodName)) ∈ lw_all := lw_g (lw_at lw_m11 198 rfl) rfl
theorem q2714 : (Jvm.Cond.code ({ cls := "ProbeConsoleModel", name := "push", desc := "(I)V" } : Jvm.MethodName) prog_12_method_72_code (2 : Nat) (Option.none : Option Jvm.ClassFile.FieldType)) ∈ lw_all := lw_g (lw_at lw_m11 199 rfl) rfl
theorem q2715 : (Jvm.Cond.methodLink "ProbeConsoleModel" (407 : Nat) ({ cls := "ProbeConsoleModel", name := "throwUp", desc := "(I)V" } : Jvm.MethodName)) ∈ lw_all := lw_g (lw_at lw_m11 200 rfl) rfl
theorem q2716 : (Jvm.Cond.privateMethod ({ cls := "ProbeConsoleModel", name := "throwUp", desc := "(I)V" } : Jvm.MethodName)) ∈ lw_tbl := lw_at lw_m11 201 rfl
theorem q2717 : (Jvm.Cond.instanceMethod ({ cls := "ProbeConsoleModel", name := "throwUp", desc := "(I)V" } : Jvm.MethodName)) ∈ lw_all := lw_g (lw_at lw_m11 202 rfl) rfl
theorem q2718 : (Jvm.Cond.code ({ cls := "ProbeConsoleModel", name := "throwUp", desc := "(I)V" } : Jvm.MethodName) prog_12_method_71_code (2 : Nat) (Option.none : Option Jvm.ClassFile.FieldType)) ∈ lw_all := lw_g (lw_at lw_m11 203 rfl) rfl
theorem q2719 : (Jvm.Cond.methodLink "ProbeConsoleModel" (419 : Nat) ({ cls := "ProbeConsoleModel", name := "invoke", desc := "(J)V" } : Jvm.MethodName)) ∈ lw_all := lw_g (lw_at lw_m11 204 rfl) rfl
theorem q2720 : (Jvm.Cond.privateMethod ({ cls := "ProbeConsoleModel", name := "invoke", desc := "(J)V" } : Jvm.MethodName)) ∈ lw_tbl := lw_at lw_m11 205 rfl
theorem q2721 : (Jvm.Cond.instanceMethod ({ cls := "ProbeConsoleModel", name := "invoke", desc := "(J)V" } : Jvm.MethodName)) ∈ lw_all := lw_g (lw_at lw_m11 206 rfl) rfl
theorem q2722 : (Jvm.Cond.code ({ cls := "ProbeConsoleModel", name := "invoke", desc := "(J)V" } : Jvm.MethodName) prog_12_method_74_code (6 : Nat) (Option.none : Option Jvm.ClassFile.FieldType)) ∈ lw_all := lw_g (lw_at lw_m11 207 rfl) rfl
theorem q2723 : (Jvm.Cond.constantLong "ProbeConsoleModel" (405 : Nat) (3 : Int64)) ∈ lw_all := lw_g (lw_at lw_m11 208 rfl) rfl
theorem q2724 : (Jvm.Cond.methodLink "ProbeConsoleModel" (410 : Nat) ({ cls := "ProbeConsoleModel", name := "throwAll", desc := "(I)V" } : Jvm.MethodName)) ∈ lw_all := lw_g (lw_at lw_m11 209 rfl) rfl
theorem q2725 : (Jvm.Cond.privateMethod ({ cls := "ProbeConsoleModel", name := "throwAll", desc := "(I)V" } : Jvm.MethodName)) ∈ lw_tbl := lw_at lw_m11 210 rfl
theorem q2726 : (Jvm.Cond.instanceMethod ({ cls := "ProbeConsoleModel", name := "throwAll", desc := "(I)V" } : Jvm.MethodName)) ∈ lw_all := lw_g (lw_at lw_m11 211 rfl) rfl
theorem q2727 : (Jvm.Cond.code ({ cls := "ProbeConsoleModel", name := "throwAll", desc := "(I)V" } : Jvm.MethodName) prog_12_method_70_code (2 : Nat) (Option.none : Option Jvm.ClassFile.FieldType)) ∈ lw_all := lw_g (lw_at lw_m11 212 rfl) rfl
theorem q2729 : (Jvm.Cond.instanceMethod ({ cls := "ProbeConsoleModel", name := "value", desc := "()I" } : Jvm.MethodName)) ∈ lw_all := lw_g (lw_at lw_m11 214 rfl) rfl
theorem q2730 : (Jvm.Cond.selects "ProbeConsoleModel" ({ cls := "ProbeConsoleModel", name := "value", desc := "()I" } : Jvm.MethodName) ({ cls := "ProbeConsoleModel", name := "value", desc := "()I" } : Jvm.MethodName)) ∈ lw_all := lw_g (lw_at lw_m11 215 rfl) rfl
theorem q2731 : (Jvm.Cond.code ({ cls := "ProbeConsoleModel", name := "value", desc := "()I" } : Jvm.MethodName) prog_12_method_78_code (1 : Nat) (Option.some Jvm.ClassFile.FieldType.int)) ∈ lw_all := lw_g (lw_at lw_m11 216 rfl) rfl
theorem q2733 : (Jvm.Cond.instanceMethod ({ cls := "ProbeConsoleModel", name := "invoked", desc := "()I" } : Jvm.MethodName)) ∈ lw_all := lw_g (lw_at lw_m11 218 rfl) rfl
theorem q2734 : (Jvm.Cond.selects "ProbeConsoleModel" ({ cls := "ProbeConsoleModel", name := "invoked", desc := "()I" } : Jvm.MethodName) ({ cls := "ProbeConsoleModel", name := "invoked", desc := "()I" } : Jvm.MethodName)) ∈ lw_all := lw_g (lw_at lw_m11 219 rfl) rfl
theorem q2735 : (Jvm.Cond.code ({ cls := "ProbeConsoleModel", name := "invoked", desc := "()I" } : Jvm.MethodName) prog_12_method_79_code (1 : Nat) (Option.some Jvm.ClassFile.FieldType.int)) ∈ lw_all := lw_g (lw_at lw_m11 220 rfl) rfl
theorem q2737 : (Jvm.Cond.instanceMethod ({ cls := "ProbeConsoleModel", name := "records", desc := "()I" } : Jvm.MethodName)) ∈ lw_all := lw_g (lw_at lw_m11 222 rfl) rfl
theorem q2738 : (Jvm.Cond.selects "ProbeConsoleModel" ({ cls := "ProbeConsoleModel", name := "records", desc := "()I" } : Jvm.MethodName) ({ cls := "ProbeConsoleModel", name := "records", desc := "()I" } : Jvm.MethodName)) ∈ lw_all := lw_g (lw_at lw_m11 223 rfl) rfl
theorem q2739 : (Jvm.Cond.code ({ cls := "ProbeConsoleModel", name := "records", desc := "()I" } : Jvm.MethodName) prog_12_method_80_code (1 : Nat) (Option.some Jvm.ClassFile.FieldType.int)) ∈ lw_all := lw_g (lw_at lw_m11 224 rfl) rfl
theorem q2741 : (Jvm.Cond.instanceMethod ({ cls := "ProbeConsoleModel", name := "record", desc := "(II)I" } : Jvm.MethodName)) ∈ lw_all := lw_g (lw_at lw_m11 226 rfl) rfl
theorem q2742 : (Jvm.Cond.selects "ProbeConsoleModel" ({ cls := "ProbeConsoleModel", name := "record", desc := "(II)I" } : Jvm.MethodName) ({ cls := "ProbeConsoleModel", name := "record", desc := "(II)I" } : Jvm.MethodName)) ∈ lw_all := lw_g (lw_at lw_m11 227 rfl) rfl
theorem q2743 : (Jvm.Cond.code ({ cls := "ProbeConsoleModel", name := "record", desc := "(II)I" } : Jvm.MethodName) prog_12_method_81_code (3 : Nat) (Option.some Jvm.ClassFile.FieldType.int)) ∈ lw_all := lw_g (lw_at lw_m11 228 rfl) rfl
theorem q2745 : (Jvm.Cond.instanceMethod ({ cls := "ProbeConsoleModel", name := "clear", desc := "()I" } : Jvm.MethodName)) ∈ lw_all := lw_g (lw_at lw_m11 230 rfl) rfl
theorem q2746 : (Jvm.Cond.selects "ProbeConsoleModel" ({ cls := "ProbeConsoleModel", name := "clear", desc := "()I" } : Jvm.MethodName) ({ cls := "ProbeConsoleModel", name := "clear", desc := "()I" } : Jvm.MethodName)) ∈ lw_all := lw_g (lw_at lw_m11 231 rfl) rfl
theorem q2747 : (Jvm.Cond.code ({ cls := "ProbeConsoleModel", name := "clear", desc := "()I" } : Jvm.MethodName) prog_12_method_82_code (2 : Nat) (Option.some Jvm.ClassFile.FieldType.int)) ∈ lw_all := lw_g (lw_at lw_m11 232 rfl) rfl
theorem q2749 : (Jvm.Cond.instanceMethod ({ cls := "ProbeConsoleModel", name := "job", desc := "(II)I" } : Jvm.MethodName)) ∈ lw_all := lw_g (lw_at lw_m11 234 rfl) rfl
theorem q2750 : (Jvm.Cond.selects "ProbeConsoleModel" ({ cls := "ProbeConsoleModel", name := "job", desc := "(II)I" } : Jvm.MethodName) ({ cls := "ProbeConsoleModel", name := "job", desc := "(II)I" } : Jvm.MethodName)) ∈ lw_all := lw_g (lw_at lw_m11 235 rfl) rfl
theorem q2751 : (Jvm.Cond.code ({ cls := "ProbeConsoleModel", name := "job", desc := "(II)I" } : Jvm.MethodName) prog_12_method_83_code (3 : Nat) (Option.some Jvm.ClassFile.FieldType.int)) ∈ lw_all := lw_g (lw_at lw_m11 236 rfl) rfl
theorem q2753 : (Jvm.Cond.instanceMethod ({ cls := "ProbeConsoleModel", name := "counted", desc := "(III)I" } : Jvm.MethodName)) ∈ lw_all := lw_g (lw_at lw_m11 238 rfl) rfl
theorem q2754 : (Jvm.Cond.selects "ProbeConsoleModel" ({ cls := "ProbeConsoleModel", name := "counted", desc := "(III)I" } : Jvm.MethodName) ({ cls := "ProbeConsoleModel", name := "counted", desc := "(III)I" } : Jvm.MethodName)) ∈ lw_all := lw_g (lw_at lw_m11 239 rfl) rfl
theorem q2755 : (Jvm.Cond.code ({ cls := "ProbeConsoleModel", name := "counted", desc := "(III)I" } : Jvm.MethodName) prog_12_method_84_code (5 : Nat) (Option.some Jvm.ClassFile.FieldType.int)) ∈ lw_all := lw_g (lw_at lw_m12 0 rfl) rfl
theorem q2757 : (Jvm.Cond.instanceMethod ({ cls := "ProbeConsoleModel", name := "keeps", desc := "()I" } : Jvm.MethodName)) ∈ lw_all := lw_g (lw_at lw_m12 2 rfl) rfl
theorem q2758 : (Jvm.Cond.selects "ProbeConsoleModel" ({ cls := "ProbeConsoleModel", name := "keeps", desc := "()I" } : Jvm.MethodName) ({ cls := "ProbeConsoleModel", name := "keeps", desc := "()I" } : Jvm.MethodName)) ∈ lw_all := lw_g (lw_at lw_m12 3 rfl) rfl
theorem q2759 : (Jvm.Cond.code ({ cls := "ProbeConsoleModel", name := "keeps", desc := "()I" } : Jvm.MethodName) prog_12_method_85_code (1 : Nat) (Option.some Jvm.ClassFile.FieldType.int)) ∈ lw_all := lw_g (lw_at lw_m12 4 rfl) rfl
theorem q2761 : (Jvm.Cond.instanceMethod ({ cls := "ProbeConsoleModel", name := "kept", desc := "(II)I" } : Jvm.MethodName)) ∈ lw_all := lw_g (lw_at lw_m12 6 rfl) rfl
theorem q2762 : (Jvm.Cond.selects "ProbeConsoleModel" ({ cls := "ProbeConsoleModel", name := "kept", desc := "(II)I" } : Jvm.MethodName) ({ cls := "ProbeConsoleModel", name := "kept", desc := "(II)I" } : Jvm.MethodName)) ∈ lw_all := lw_g (lw_at lw_m12 7 rfl) rfl
theorem q2763 : (Jvm.Cond.code ({ cls := "ProbeConsoleModel", name := "kept", desc := "(II)I" } : Jvm.MethodName) prog_12_method_86_code (3 : Nat) (Option.some Jvm.ClassFile.FieldType.int)) ∈ lw_all := lw_g (lw_at lw_m12 8 rfl) rfl
theorem q2765 : (Jvm.Cond.instanceMethod ({ cls := "ProbeConsoleModel", name := "replay", desc := "(I)I" } : Jvm.MethodName)) ∈ lw_all := lw_g (lw_at lw_m12 10 rfl) rfl
theorem q2766 : (Jvm.Cond.selects "ProbeConsoleModel" ({ cls := "ProbeConsoleModel", name := "replay", desc := "(I)I" } : Jvm.MethodName) ({ cls := "ProbeConsoleModel", name := "replay", desc := "(I)I" } : Jvm.MethodName)) ∈ lw_all := lw_g (lw_at lw_m12 11 rfl) rfl
theorem q2767 : (Jvm.Cond.code ({ cls := "ProbeConsoleModel", name := "replay", desc := "(I)I" } : Jvm.MethodName) prog_12_method_87_code (2 : Nat) (Option.some Jvm.ClassFile.FieldType.int)) ∈ lw_all := lw_g (lw_at lw_m12 12 rfl) rfl
theorem q2798 : (Jvm.Cond.castable "ProbeConsoleModel" "java/lang/Object") ∈ lw_tbl := lw_at lw_m12 43 rfl
theorem in_X5 : ∀ w ∈ wsX50, w ∈ lw_all := lw_in wsX50 [2300, 2302, 2304, 2306, 2308, 2310, 2312, 2314, 2316, 2318, 2320, 2322, 2324, 2326, 2328, 2330, 2332, 2334, 2336, 2338, 2340, 2342, 2344, 2346, 2348, 2350, 2352, 2354, 2356, 2358, 2360, 2362, 2364, 2366, 2368, 2370, 2372, 2374, 2376, 2378, 2380, 2382, 2384, 2386, 2388, 2390, 2392, 2394, 2396, 2398, 2400, 2402, 2404, 2406, 2408, 2410, 2412, 2414, 2416, 2418] (by decide +kernel) (by decide +kernel)
