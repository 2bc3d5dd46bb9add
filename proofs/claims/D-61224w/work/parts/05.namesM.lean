/-! TemplateEngineModel -/
set_option maxRecDepth 100000
def RX3 : String := "TemplateEngineModel"
def TX3 : u_T := fun k => match k with
  | 0 => ("TemplateEngineModel", "code", "I", false)
  | 1 => ("TemplateEngineModel", "threw", "I", false)
  | 2 => ("TemplateEngineModel", "typed", "I", false)
  | 3 => ("TemplateEngineModel", "error", "I", false)
  | 4 => ("TemplateEngineModel", "data", "I", false)
  | 5 => ("TemplateEngineModel", "seen", "I", false)
  | 6 => ("TemplateEngineModel", "lastSeen", "I", false)
  | 7 => ("TemplateEngineModel", "line", "[C", true)
  | 8 => ("TemplateEngineModel", "kind", "[I", true)
  | 9 => ("TemplateEngineModel", "many", "[I", true)
  | 10 => ("TemplateEngineModel", "texts", "[I", true)
  | 11 => ("TemplateEngineModel", "part", "[I", true)
  | 12 => ("TemplateEngineModel", "name", "[J", true)
  | 13 => ("TemplateEngineModel", "marked", "[Z", true)
  | 14 => ("TemplateEngineModel", "text", "[C", true)
  | 15 => ("TemplateEngineModel", "length", "[I", true)
  | 16 => ("TemplateEngineModel", "tags", "[I", true)
  | 17 => ("TemplateEngineModel", "there", "[Z", true)
  | 18 => ("TemplateEngineModel", "begin", "[I", true)
  | 19 => ("TemplateEngineModel", "end", "[I", true)
  | 20 => ("TemplateEngineModel", "from", "[I", true)
  | 21 => ("TemplateEngineModel", "to", "[I", true)
  | 22 => ("TemplateEngineModel", "sort", "[I", true)
  | 23 => ("TemplateEngineModel", "other", "[I", true)
  | 24 => ("TemplateEngineModel", "last", "[I", true)
  | 25 => ("TemplateEngineModel", "open", "[I", true)
  | 26 => ("TemplateEngineModel", "is", "[I", true)
  | 27 => ("TemplateEngineModel", "num", "[I", true)
  | 28 => ("TemplateEngineModel", "size", "[I", true)
  | 29 => ("TemplateEngineModel", "words", "[C", true)
  | 30 => ("TemplateEngineModel", "raw", "[C", true)
  | 31 => ("TemplateEngineModel", "out", "[C", true)
  | 32 => ("TemplateEngineModel", "result", "[C", true)
  | 33 => ("TemplateEngineModel", "rawSize", "I", false)
  | 34 => ("TemplateEngineModel", "outSize", "I", false)
  | 35 => ("TemplateEngineModel", "resultSize", "I", false)
  | 36 => ("TemplateEngineModel", "contexts", "I", false)
  | 37 => ("TemplateEngineModel", "under", "I", false)
  | 38 => ("TemplateEngineModel", "fail", "I", false)
  | 39 => ("TemplateEngineModel", "rawDeep", "I", false)
  | 40 => ("TemplateEngineModel", "inside", "[I", true)
  | 41 => ("TemplateEngineModel", "tagOf", "[I", true)
  | 42 => ("TemplateEngineModel", "turn", "[I", true)
  | 43 => ("TemplateEngineModel", "over", "[I", true)
  | 44 => ("TemplateEngineModel", "listOf", "[I", true)
  | 45 => ("TemplateEngineModel", "nextOf", "[I", true)
  | 46 => ("TemplateEngineModel", "isOther", "[Z", true)
  | _ => ("TemplateEngineModel", "isPartial", "[Z", true)
def tyX3 : Nat → FieldType := fun k => match k with
  | 0 => .int
  | 1 => .int
  | 2 => .int
  | 3 => .int
  | 4 => .int
  | 5 => .int
  | 6 => .int
  | 7 => .array .char
  | 8 => .array .int
  | 9 => .array .int
  | 10 => .array .int
  | 11 => .array .int
  | 12 => .array .long
  | 13 => .array .boolean
  | 14 => .array .char
  | 15 => .array .int
  | 16 => .array .int
  | 17 => .array .boolean
  | 18 => .array .int
  | 19 => .array .int
  | 20 => .array .int
  | 21 => .array .int
  | 22 => .array .int
  | 23 => .array .int
  | 24 => .array .int
  | 25 => .array .int
  | 26 => .array .int
  | 27 => .array .int
  | 28 => .array .int
  | 29 => .array .char
  | 30 => .array .char
  | 31 => .array .char
  | 32 => .array .char
  | 33 => .int
  | 34 => .int
  | 35 => .int
  | 36 => .int
  | 37 => .int
  | 38 => .int
  | 39 => .int
  | 40 => .array .int
  | 41 => .array .int
  | 42 => .array .int
  | 43 => .array .int
  | 44 => .array .int
  | 45 => .array .int
  | 46 => .array .boolean
  | _ => .array .boolean
abbrev wsX30 : List Cond := u_ws RX3 TX3 48
set_option maxRecDepth 100000 in
theorem nmX3 : ∀ a, a < 48 → ∀ b, b < 48 → a ≠ b → (TX3 a).2.1 ≠ (TX3 b).2.1 := by decide +kernel
set_option maxRecDepth 100000 in
theorem tyX3_ok : ∀ k, k < 48 → parseFieldDescriptor (TX3 k).2.2.1 = some (tyX3 k) := by decide +kernel
abbrev cX3_init : ByteArray := prog_24_method_1_code
def yX3_init : MethodName := ⟨RX3, "<init>", "()V"⟩
def dkwX3_init_15 : List UInt8 := [16, 20, 188, 4, 181, 0, 155, 177]
abbrev dktX3_init_15 : List UInt8 := dkwX3_init_15 ++ []
def dkwX3_init_14 : List UInt8 := [16, 60, 188, 10, 181, 0, 146, 42, 16, 60, 188, 10, 181, 0, 149, 42, 16, 20, 188, 4, 181, 0, 152, 42]
abbrev dktX3_init_14 : List UInt8 := dkwX3_init_14 ++ dktX3_init_15
def dkwX3_init_13 : List UInt8 := [16, 20, 188, 10, 181, 0, 137, 42, 16, 20, 188, 10, 181, 0, 140, 42, 16, 20, 188, 10, 181, 0, 143, 42]
abbrev dktX3_init_13 : List UInt8 := dkwX3_init_13 ++ dktX3_init_14
def dkwX3_init_12 : List UInt8 := [3, 181, 0, 125, 42, 3, 181, 0, 128, 42, 3, 181, 0, 131, 42, 16, 20, 188, 10, 181, 0, 134, 42]
abbrev dktX3_init_12 : List UInt8 := dkwX3_init_12 ++ dktX3_init_13
def dkwX3_init_11 : List UInt8 := [181, 0, 110, 42, 3, 181, 0, 113, 42, 3, 181, 0, 116, 42, 3, 181, 0, 119, 42, 3, 181, 0, 122, 42]
abbrev dktX3_init_11 : List UInt8 := dkwX3_init_11 ++ dktX3_init_12
def dkwX3_init_10 : List UInt8 := [42, 17, 1, 145, 188, 5, 181, 0, 104, 42, 17, 1, 144, 188, 5, 181, 0, 107, 42, 17, 1, 144, 188, 5]
abbrev dktX3_init_10 : List UInt8 := dkwX3_init_10 ++ dktX3_init_11
def dkwX3_init_9 : List UInt8 := [16, 18, 188, 10, 181, 0, 95, 42, 16, 18, 188, 10, 181, 0, 98, 42, 17, 28, 32, 188, 5, 181, 0, 101]
abbrev dktX3_init_9 : List UInt8 := dkwX3_init_9 ++ dktX3_init_10
def dkwX3_init_8 : List UInt8 := [17, 0, 250, 188, 10, 181, 0, 86, 42, 7, 188, 10, 181, 0, 89, 42, 16, 18, 188, 10, 181, 0, 92, 42]
abbrev dktX3_init_8 : List UInt8 := dkwX3_init_8 ++ dktX3_init_9
def dkwX3_init_7 : List UInt8 := [181, 0, 77, 42, 17, 0, 250, 188, 10, 181, 0, 80, 42, 17, 0, 250, 188, 10, 181, 0, 83, 42]
abbrev dktX3_init_7 : List UInt8 := dkwX3_init_7 ++ dktX3_init_8
def dkwX3_init_6 : List UInt8 := [17, 0, 250, 188, 10, 181, 0, 71, 42, 17, 0, 250, 188, 10, 181, 0, 74, 42, 17, 0, 250, 188, 10]
abbrev dktX3_init_6 : List UInt8 := dkwX3_init_6 ++ dktX3_init_7
def dkwX3_init_5 : List UInt8 := [188, 10, 181, 0, 62, 42, 7, 188, 4, 181, 0, 65, 42, 17, 0, 250, 188, 10, 181, 0, 68, 42]
abbrev dktX3_init_5 : List UInt8 := dkwX3_init_5 ++ dktX3_init_6
def dkwX3_init_4 : List UInt8 := [188, 4, 181, 0, 52, 42, 17, 3, 232, 188, 5, 181, 0, 56, 42, 8, 188, 10, 181, 0, 59, 42, 8]
abbrev dktX3_init_4 : List UInt8 := dkwX3_init_4 ++ dktX3_init_5
def dkwX3_init_3 : List UInt8 := [181, 0, 42, 42, 17, 2, 88, 188, 10, 181, 0, 45, 42, 17, 2, 88, 188, 11, 181, 0, 48, 42, 16, 60]
abbrev dktX3_init_3 : List UInt8 := dkwX3_init_3 ++ dktX3_init_4
def dkwX3_init_2 : List UInt8 := [42, 16, 60, 188, 10, 181, 0, 35, 42, 16, 60, 188, 10, 181, 0, 39, 42, 17, 11, 184, 188, 10]
abbrev dktX3_init_2 : List UInt8 := dkwX3_init_2 ++ dktX3_init_3
def dkwX3_init_1 : List UInt8 := [42, 3, 181, 0, 22, 42, 3, 181, 0, 25, 42, 3, 181, 0, 28, 42, 17, 0, 200, 188, 5, 181, 0, 31]
abbrev dktX3_init_1 : List UInt8 := dkwX3_init_1 ++ dktX3_init_2
def dkwX3_init_0 : List UInt8 := [42, 183, 0, 1, 42, 3, 181, 0, 7, 42, 3, 181, 0, 13, 42, 3, 181, 0, 16, 42, 2, 181, 0, 19]
abbrev dktX3_init_0 : List UInt8 := dkwX3_init_0 ++ dktX3_init_1
theorem dksX3_init_0 : cX3_init.data.toList.drop 0 = dktX3_init_0 := by decide +kernel
theorem dksX3_init_1 : cX3_init.data.toList.drop 24 = dktX3_init_1 := dk_seg dksX3_init_0 24 rfl rfl
theorem dksX3_init_2 : cX3_init.data.toList.drop 48 = dktX3_init_2 := dk_seg dksX3_init_1 24 rfl rfl
theorem dksX3_init_3 : cX3_init.data.toList.drop 70 = dktX3_init_3 := dk_seg dksX3_init_2 22 rfl rfl
theorem dksX3_init_4 : cX3_init.data.toList.drop 94 = dktX3_init_4 := dk_seg dksX3_init_3 24 rfl rfl
theorem dksX3_init_5 : cX3_init.data.toList.drop 117 = dktX3_init_5 := dk_seg dksX3_init_4 23 rfl rfl
theorem dksX3_init_6 : cX3_init.data.toList.drop 139 = dktX3_init_6 := dk_seg dksX3_init_5 22 rfl rfl
theorem dksX3_init_7 : cX3_init.data.toList.drop 162 = dktX3_init_7 := dk_seg dksX3_init_6 23 rfl rfl
theorem dksX3_init_8 : cX3_init.data.toList.drop 184 = dktX3_init_8 := dk_seg dksX3_init_7 22 rfl rfl
theorem dksX3_init_9 : cX3_init.data.toList.drop 208 = dktX3_init_9 := dk_seg dksX3_init_8 24 rfl rfl
theorem dksX3_init_10 : cX3_init.data.toList.drop 232 = dktX3_init_10 := dk_seg dksX3_init_9 24 rfl rfl
theorem dksX3_init_11 : cX3_init.data.toList.drop 256 = dktX3_init_11 := dk_seg dksX3_init_10 24 rfl rfl
theorem dksX3_init_12 : cX3_init.data.toList.drop 280 = dktX3_init_12 := dk_seg dksX3_init_11 24 rfl rfl
theorem dksX3_init_13 : cX3_init.data.toList.drop 303 = dktX3_init_13 := dk_seg dksX3_init_12 23 rfl rfl
theorem dksX3_init_14 : cX3_init.data.toList.drop 327 = dktX3_init_14 := dk_seg dksX3_init_13 24 rfl rfl
theorem dksX3_init_15 : cX3_init.data.toList.drop 351 = dktX3_init_15 := dk_seg dksX3_init_14 24 rfl rfl
theorem dX3_init_0 : decode cX3_init 0 = .ok (.aload_n 0, 1) := dk_42 (dk_at dksX3_init_0 0 rfl rfl)
theorem dX3_init_1 : decode cX3_init 1 = .ok (.invokespecial 1, 3) := dk_183 0 1 (dk_at dksX3_init_0 1 rfl rfl)
theorem dX3_init_4 : decode cX3_init 4 = .ok (.aload_n 0, 1) := dk_42 (dk_at dksX3_init_0 4 rfl rfl)
theorem dX3_init_5 : decode cX3_init 5 = .ok (.iconst 0, 1) := dk_3 (dk_at dksX3_init_0 5 rfl rfl)
theorem dX3_init_6 : decode cX3_init 6 = .ok (.putfield 7, 3) := dk_181 0 7 (dk_at dksX3_init_0 6 rfl rfl)
theorem dX3_init_9 : decode cX3_init 9 = .ok (.aload_n 0, 1) := dk_42 (dk_at dksX3_init_0 9 rfl rfl)
theorem dX3_init_10 : decode cX3_init 10 = .ok (.iconst 0, 1) := dk_3 (dk_at dksX3_init_0 10 rfl rfl)
theorem dX3_init_11 : decode cX3_init 11 = .ok (.putfield 13, 3) := dk_181 0 13 (dk_at dksX3_init_0 11 rfl rfl)
theorem dX3_init_14 : decode cX3_init 14 = .ok (.aload_n 0, 1) := dk_42 (dk_at dksX3_init_0 14 rfl rfl)
theorem dX3_init_15 : decode cX3_init 15 = .ok (.iconst 0, 1) := dk_3 (dk_at dksX3_init_0 15 rfl rfl)
theorem dX3_init_16 : decode cX3_init 16 = .ok (.putfield 16, 3) := dk_181 0 16 (dk_at dksX3_init_0 16 rfl rfl)
theorem dX3_init_19 : decode cX3_init 19 = .ok (.aload_n 0, 1) := dk_42 (dk_at dksX3_init_0 19 rfl rfl)
theorem dX3_init_20 : decode cX3_init 20 = .ok (.iconst (-1), 1) := dk_2 (dk_at dksX3_init_0 20 rfl rfl)
theorem dX3_init_21 : decode cX3_init 21 = .ok (.putfield 19, 3) := dk_181 0 19 (dk_at dksX3_init_0 21 rfl rfl)
theorem dX3_init_24 : decode cX3_init 24 = .ok (.aload_n 0, 1) := dk_42 (dk_at dksX3_init_1 0 rfl rfl)
theorem dX3_init_25 : decode cX3_init 25 = .ok (.iconst 0, 1) := dk_3 (dk_at dksX3_init_1 1 rfl rfl)
theorem dX3_init_26 : decode cX3_init 26 = .ok (.putfield 22, 3) := dk_181 0 22 (dk_at dksX3_init_1 2 rfl rfl)
theorem dX3_init_29 : decode cX3_init 29 = .ok (.aload_n 0, 1) := dk_42 (dk_at dksX3_init_1 5 rfl rfl)
theorem dX3_init_30 : decode cX3_init 30 = .ok (.iconst 0, 1) := dk_3 (dk_at dksX3_init_1 6 rfl rfl)
theorem dX3_init_31 : decode cX3_init 31 = .ok (.putfield 25, 3) := dk_181 0 25 (dk_at dksX3_init_1 7 rfl rfl)
theorem dX3_init_34 : decode cX3_init 34 = .ok (.aload_n 0, 1) := dk_42 (dk_at dksX3_init_1 10 rfl rfl)
theorem dX3_init_35 : decode cX3_init 35 = .ok (.iconst 0, 1) := dk_3 (dk_at dksX3_init_1 11 rfl rfl)
theorem dX3_init_36 : decode cX3_init 36 = .ok (.putfield 28, 3) := dk_181 0 28 (dk_at dksX3_init_1 12 rfl rfl)
theorem dX3_init_39 : decode cX3_init 39 = .ok (.aload_n 0, 1) := dk_42 (dk_at dksX3_init_1 15 rfl rfl)
theorem dX3_init_40 : decode cX3_init 40 = .ok (.sipush 200, 3) := dk_17 0 200 (dk_at dksX3_init_1 16 rfl rfl)
theorem dX3_init_43 : decode cX3_init 43 = .ok (.newarray .char, 2) := dk_188_5 (dk_at dksX3_init_1 19 rfl rfl)
theorem dX3_init_45 : decode cX3_init 45 = .ok (.putfield 31, 3) := dk_181 0 31 (dk_at dksX3_init_1 21 rfl rfl)
theorem dX3_init_48 : decode cX3_init 48 = .ok (.aload_n 0, 1) := dk_42 (dk_at dksX3_init_2 0 rfl rfl)
theorem dX3_init_49 : decode cX3_init 49 = .ok (.bipush 60, 2) := dk_16 60 (dk_at dksX3_init_2 1 rfl rfl)
theorem dX3_init_51 : decode cX3_init 51 = .ok (.newarray .int, 2) := dk_188_10 (dk_at dksX3_init_2 3 rfl rfl)
theorem dX3_init_53 : decode cX3_init 53 = .ok (.putfield 35, 3) := dk_181 0 35 (dk_at dksX3_init_2 5 rfl rfl)
theorem dX3_init_56 : decode cX3_init 56 = .ok (.aload_n 0, 1) := dk_42 (dk_at dksX3_init_2 8 rfl rfl)
theorem dX3_init_57 : decode cX3_init 57 = .ok (.bipush 60, 2) := dk_16 60 (dk_at dksX3_init_2 9 rfl rfl)
theorem dX3_init_59 : decode cX3_init 59 = .ok (.newarray .int, 2) := dk_188_10 (dk_at dksX3_init_2 11 rfl rfl)
theorem dX3_init_61 : decode cX3_init 61 = .ok (.putfield 39, 3) := dk_181 0 39 (dk_at dksX3_init_2 13 rfl rfl)
theorem dX3_init_64 : decode cX3_init 64 = .ok (.aload_n 0, 1) := dk_42 (dk_at dksX3_init_2 16 rfl rfl)
theorem dX3_init_65 : decode cX3_init 65 = .ok (.sipush 3000, 3) := dk_17 11 184 (dk_at dksX3_init_2 17 rfl rfl)
theorem dX3_init_68 : decode cX3_init 68 = .ok (.newarray .int, 2) := dk_188_10 (dk_at dksX3_init_2 20 rfl rfl)
theorem dX3_init_70 : decode cX3_init 70 = .ok (.putfield 42, 3) := dk_181 0 42 (dk_at dksX3_init_3 0 rfl rfl)
theorem dX3_init_73 : decode cX3_init 73 = .ok (.aload_n 0, 1) := dk_42 (dk_at dksX3_init_3 3 rfl rfl)
theorem dX3_init_74 : decode cX3_init 74 = .ok (.sipush 600, 3) := dk_17 2 88 (dk_at dksX3_init_3 4 rfl rfl)
theorem dX3_init_77 : decode cX3_init 77 = .ok (.newarray .int, 2) := dk_188_10 (dk_at dksX3_init_3 7 rfl rfl)
theorem dX3_init_79 : decode cX3_init 79 = .ok (.putfield 45, 3) := dk_181 0 45 (dk_at dksX3_init_3 9 rfl rfl)
theorem dX3_init_82 : decode cX3_init 82 = .ok (.aload_n 0, 1) := dk_42 (dk_at dksX3_init_3 12 rfl rfl)
theorem dX3_init_83 : decode cX3_init 83 = .ok (.sipush 600, 3) := dk_17 2 88 (dk_at dksX3_init_3 13 rfl rfl)
theorem dX3_init_86 : decode cX3_init 86 = .ok (.newarray .long, 2) := dk_188_11 (dk_at dksX3_init_3 16 rfl rfl)
theorem dX3_init_88 : decode cX3_init 88 = .ok (.putfield 48, 3) := dk_181 0 48 (dk_at dksX3_init_3 18 rfl rfl)
theorem dX3_init_91 : decode cX3_init 91 = .ok (.aload_n 0, 1) := dk_42 (dk_at dksX3_init_3 21 rfl rfl)
theorem dX3_init_92 : decode cX3_init 92 = .ok (.bipush 60, 2) := dk_16 60 (dk_at dksX3_init_3 22 rfl rfl)
theorem dX3_init_94 : decode cX3_init 94 = .ok (.newarray .boolean, 2) := dk_188_4 (dk_at dksX3_init_4 0 rfl rfl)
theorem dX3_init_96 : decode cX3_init 96 = .ok (.putfield 52, 3) := dk_181 0 52 (dk_at dksX3_init_4 2 rfl rfl)
theorem dX3_init_99 : decode cX3_init 99 = .ok (.aload_n 0, 1) := dk_42 (dk_at dksX3_init_4 5 rfl rfl)
theorem dX3_init_100 : decode cX3_init 100 = .ok (.sipush 1000, 3) := dk_17 3 232 (dk_at dksX3_init_4 6 rfl rfl)
theorem dX3_init_103 : decode cX3_init 103 = .ok (.newarray .char, 2) := dk_188_5 (dk_at dksX3_init_4 9 rfl rfl)
theorem dX3_init_105 : decode cX3_init 105 = .ok (.putfield 56, 3) := dk_181 0 56 (dk_at dksX3_init_4 11 rfl rfl)
theorem dX3_init_108 : decode cX3_init 108 = .ok (.aload_n 0, 1) := dk_42 (dk_at dksX3_init_4 14 rfl rfl)
theorem dX3_init_109 : decode cX3_init 109 = .ok (.iconst 5, 1) := dk_8 (dk_at dksX3_init_4 15 rfl rfl)
theorem dX3_init_110 : decode cX3_init 110 = .ok (.newarray .int, 2) := dk_188_10 (dk_at dksX3_init_4 16 rfl rfl)
theorem dX3_init_112 : decode cX3_init 112 = .ok (.putfield 59, 3) := dk_181 0 59 (dk_at dksX3_init_4 18 rfl rfl)
theorem dX3_init_115 : decode cX3_init 115 = .ok (.aload_n 0, 1) := dk_42 (dk_at dksX3_init_4 21 rfl rfl)
theorem dX3_init_116 : decode cX3_init 116 = .ok (.iconst 5, 1) := dk_8 (dk_at dksX3_init_4 22 rfl rfl)
theorem dX3_init_117 : decode cX3_init 117 = .ok (.newarray .int, 2) := dk_188_10 (dk_at dksX3_init_5 0 rfl rfl)
theorem dX3_init_119 : decode cX3_init 119 = .ok (.putfield 62, 3) := dk_181 0 62 (dk_at dksX3_init_5 2 rfl rfl)
theorem dX3_init_122 : decode cX3_init 122 = .ok (.aload_n 0, 1) := dk_42 (dk_at dksX3_init_5 5 rfl rfl)
theorem dX3_init_123 : decode cX3_init 123 = .ok (.iconst 4, 1) := dk_7 (dk_at dksX3_init_5 6 rfl rfl)
theorem dX3_init_124 : decode cX3_init 124 = .ok (.newarray .boolean, 2) := dk_188_4 (dk_at dksX3_init_5 7 rfl rfl)
theorem dX3_init_126 : decode cX3_init 126 = .ok (.putfield 65, 3) := dk_181 0 65 (dk_at dksX3_init_5 9 rfl rfl)
theorem dX3_init_129 : decode cX3_init 129 = .ok (.aload_n 0, 1) := dk_42 (dk_at dksX3_init_5 12 rfl rfl)
theorem dX3_init_130 : decode cX3_init 130 = .ok (.sipush 250, 3) := dk_17 0 250 (dk_at dksX3_init_5 13 rfl rfl)
theorem dX3_init_133 : decode cX3_init 133 = .ok (.newarray .int, 2) := dk_188_10 (dk_at dksX3_init_5 16 rfl rfl)
theorem dX3_init_135 : decode cX3_init 135 = .ok (.putfield 68, 3) := dk_181 0 68 (dk_at dksX3_init_5 18 rfl rfl)
theorem dX3_init_138 : decode cX3_init 138 = .ok (.aload_n 0, 1) := dk_42 (dk_at dksX3_init_5 21 rfl rfl)
theorem dX3_init_139 : decode cX3_init 139 = .ok (.sipush 250, 3) := dk_17 0 250 (dk_at dksX3_init_6 0 rfl rfl)
theorem dX3_init_142 : decode cX3_init 142 = .ok (.newarray .int, 2) := dk_188_10 (dk_at dksX3_init_6 3 rfl rfl)
theorem dX3_init_144 : decode cX3_init 144 = .ok (.putfield 71, 3) := dk_181 0 71 (dk_at dksX3_init_6 5 rfl rfl)
theorem dX3_init_147 : decode cX3_init 147 = .ok (.aload_n 0, 1) := dk_42 (dk_at dksX3_init_6 8 rfl rfl)
theorem dX3_init_148 : decode cX3_init 148 = .ok (.sipush 250, 3) := dk_17 0 250 (dk_at dksX3_init_6 9 rfl rfl)
theorem dX3_init_151 : decode cX3_init 151 = .ok (.newarray .int, 2) := dk_188_10 (dk_at dksX3_init_6 12 rfl rfl)
theorem dX3_init_153 : decode cX3_init 153 = .ok (.putfield 74, 3) := dk_181 0 74 (dk_at dksX3_init_6 14 rfl rfl)
theorem dX3_init_156 : decode cX3_init 156 = .ok (.aload_n 0, 1) := dk_42 (dk_at dksX3_init_6 17 rfl rfl)
theorem dX3_init_157 : decode cX3_init 157 = .ok (.sipush 250, 3) := dk_17 0 250 (dk_at dksX3_init_6 18 rfl rfl)
theorem dX3_init_160 : decode cX3_init 160 = .ok (.newarray .int, 2) := dk_188_10 (dk_at dksX3_init_6 21 rfl rfl)
theorem dX3_init_162 : decode cX3_init 162 = .ok (.putfield 77, 3) := dk_181 0 77 (dk_at dksX3_init_7 0 rfl rfl)
theorem dX3_init_165 : decode cX3_init 165 = .ok (.aload_n 0, 1) := dk_42 (dk_at dksX3_init_7 3 rfl rfl)
theorem dX3_init_166 : decode cX3_init 166 = .ok (.sipush 250, 3) := dk_17 0 250 (dk_at dksX3_init_7 4 rfl rfl)
theorem dX3_init_169 : decode cX3_init 169 = .ok (.newarray .int, 2) := dk_188_10 (dk_at dksX3_init_7 7 rfl rfl)
theorem dX3_init_171 : decode cX3_init 171 = .ok (.putfield 80, 3) := dk_181 0 80 (dk_at dksX3_init_7 9 rfl rfl)
theorem dX3_init_174 : decode cX3_init 174 = .ok (.aload_n 0, 1) := dk_42 (dk_at dksX3_init_7 12 rfl rfl)
theorem dX3_init_175 : decode cX3_init 175 = .ok (.sipush 250, 3) := dk_17 0 250 (dk_at dksX3_init_7 13 rfl rfl)
theorem dX3_init_178 : decode cX3_init 178 = .ok (.newarray .int, 2) := dk_188_10 (dk_at dksX3_init_7 16 rfl rfl)
theorem dX3_init_180 : decode cX3_init 180 = .ok (.putfield 83, 3) := dk_181 0 83 (dk_at dksX3_init_7 18 rfl rfl)
theorem dX3_init_183 : decode cX3_init 183 = .ok (.aload_n 0, 1) := dk_42 (dk_at dksX3_init_7 21 rfl rfl)
theorem dX3_init_184 : decode cX3_init 184 = .ok (.sipush 250, 3) := dk_17 0 250 (dk_at dksX3_init_8 0 rfl rfl)
theorem dX3_init_187 : decode cX3_init 187 = .ok (.newarray .int, 2) := dk_188_10 (dk_at dksX3_init_8 3 rfl rfl)
theorem dX3_init_189 : decode cX3_init 189 = .ok (.putfield 86, 3) := dk_181 0 86 (dk_at dksX3_init_8 5 rfl rfl)
theorem dX3_init_192 : decode cX3_init 192 = .ok (.aload_n 0, 1) := dk_42 (dk_at dksX3_init_8 8 rfl rfl)
theorem dX3_init_193 : decode cX3_init 193 = .ok (.iconst 4, 1) := dk_7 (dk_at dksX3_init_8 9 rfl rfl)
theorem dX3_init_194 : decode cX3_init 194 = .ok (.newarray .int, 2) := dk_188_10 (dk_at dksX3_init_8 10 rfl rfl)
theorem dX3_init_196 : decode cX3_init 196 = .ok (.putfield 89, 3) := dk_181 0 89 (dk_at dksX3_init_8 12 rfl rfl)
theorem dX3_init_199 : decode cX3_init 199 = .ok (.aload_n 0, 1) := dk_42 (dk_at dksX3_init_8 15 rfl rfl)
theorem dX3_init_200 : decode cX3_init 200 = .ok (.bipush 18, 2) := dk_16 18 (dk_at dksX3_init_8 16 rfl rfl)
theorem dX3_init_202 : decode cX3_init 202 = .ok (.newarray .int, 2) := dk_188_10 (dk_at dksX3_init_8 18 rfl rfl)
theorem dX3_init_204 : decode cX3_init 204 = .ok (.putfield 92, 3) := dk_181 0 92 (dk_at dksX3_init_8 20 rfl rfl)
theorem dX3_init_207 : decode cX3_init 207 = .ok (.aload_n 0, 1) := dk_42 (dk_at dksX3_init_8 23 rfl rfl)
theorem dX3_init_208 : decode cX3_init 208 = .ok (.bipush 18, 2) := dk_16 18 (dk_at dksX3_init_9 0 rfl rfl)
theorem dX3_init_210 : decode cX3_init 210 = .ok (.newarray .int, 2) := dk_188_10 (dk_at dksX3_init_9 2 rfl rfl)
theorem dX3_init_212 : decode cX3_init 212 = .ok (.putfield 95, 3) := dk_181 0 95 (dk_at dksX3_init_9 4 rfl rfl)
theorem dX3_init_215 : decode cX3_init 215 = .ok (.aload_n 0, 1) := dk_42 (dk_at dksX3_init_9 7 rfl rfl)
theorem dX3_init_216 : decode cX3_init 216 = .ok (.bipush 18, 2) := dk_16 18 (dk_at dksX3_init_9 8 rfl rfl)
theorem dX3_init_218 : decode cX3_init 218 = .ok (.newarray .int, 2) := dk_188_10 (dk_at dksX3_init_9 10 rfl rfl)
theorem dX3_init_220 : decode cX3_init 220 = .ok (.putfield 98, 3) := dk_181 0 98 (dk_at dksX3_init_9 12 rfl rfl)
theorem dX3_init_223 : decode cX3_init 223 = .ok (.aload_n 0, 1) := dk_42 (dk_at dksX3_init_9 15 rfl rfl)
theorem dX3_init_224 : decode cX3_init 224 = .ok (.sipush 7200, 3) := dk_17 28 32 (dk_at dksX3_init_9 16 rfl rfl)
theorem dX3_init_227 : decode cX3_init 227 = .ok (.newarray .char, 2) := dk_188_5 (dk_at dksX3_init_9 19 rfl rfl)
theorem dX3_init_229 : decode cX3_init 229 = .ok (.putfield 101, 3) := dk_181 0 101 (dk_at dksX3_init_9 21 rfl rfl)
theorem dX3_init_232 : decode cX3_init 232 = .ok (.aload_n 0, 1) := dk_42 (dk_at dksX3_init_10 0 rfl rfl)
theorem dX3_init_233 : decode cX3_init 233 = .ok (.sipush 401, 3) := dk_17 1 145 (dk_at dksX3_init_10 1 rfl rfl)
theorem dX3_init_236 : decode cX3_init 236 = .ok (.newarray .char, 2) := dk_188_5 (dk_at dksX3_init_10 4 rfl rfl)
theorem dX3_init_238 : decode cX3_init 238 = .ok (.putfield 104, 3) := dk_181 0 104 (dk_at dksX3_init_10 6 rfl rfl)
theorem dX3_init_241 : decode cX3_init 241 = .ok (.aload_n 0, 1) := dk_42 (dk_at dksX3_init_10 9 rfl rfl)
theorem dX3_init_242 : decode cX3_init 242 = .ok (.sipush 400, 3) := dk_17 1 144 (dk_at dksX3_init_10 10 rfl rfl)
theorem dX3_init_245 : decode cX3_init 245 = .ok (.newarray .char, 2) := dk_188_5 (dk_at dksX3_init_10 13 rfl rfl)
theorem dX3_init_247 : decode cX3_init 247 = .ok (.putfield 107, 3) := dk_181 0 107 (dk_at dksX3_init_10 15 rfl rfl)
theorem dX3_init_250 : decode cX3_init 250 = .ok (.aload_n 0, 1) := dk_42 (dk_at dksX3_init_10 18 rfl rfl)
theorem dX3_init_251 : decode cX3_init 251 = .ok (.sipush 400, 3) := dk_17 1 144 (dk_at dksX3_init_10 19 rfl rfl)
theorem dX3_init_254 : decode cX3_init 254 = .ok (.newarray .char, 2) := dk_188_5 (dk_at dksX3_init_10 22 rfl rfl)
theorem dX3_init_256 : decode cX3_init 256 = .ok (.putfield 110, 3) := dk_181 0 110 (dk_at dksX3_init_11 0 rfl rfl)
theorem dX3_init_259 : decode cX3_init 259 = .ok (.aload_n 0, 1) := dk_42 (dk_at dksX3_init_11 3 rfl rfl)
theorem dX3_init_260 : decode cX3_init 260 = .ok (.iconst 0, 1) := dk_3 (dk_at dksX3_init_11 4 rfl rfl)
theorem dX3_init_261 : decode cX3_init 261 = .ok (.putfield 113, 3) := dk_181 0 113 (dk_at dksX3_init_11 5 rfl rfl)
theorem dX3_init_264 : decode cX3_init 264 = .ok (.aload_n 0, 1) := dk_42 (dk_at dksX3_init_11 8 rfl rfl)
theorem dX3_init_265 : decode cX3_init 265 = .ok (.iconst 0, 1) := dk_3 (dk_at dksX3_init_11 9 rfl rfl)
theorem dX3_init_266 : decode cX3_init 266 = .ok (.putfield 116, 3) := dk_181 0 116 (dk_at dksX3_init_11 10 rfl rfl)
theorem dX3_init_269 : decode cX3_init 269 = .ok (.aload_n 0, 1) := dk_42 (dk_at dksX3_init_11 13 rfl rfl)
theorem dX3_init_270 : decode cX3_init 270 = .ok (.iconst 0, 1) := dk_3 (dk_at dksX3_init_11 14 rfl rfl)
theorem dX3_init_271 : decode cX3_init 271 = .ok (.putfield 119, 3) := dk_181 0 119 (dk_at dksX3_init_11 15 rfl rfl)
theorem dX3_init_274 : decode cX3_init 274 = .ok (.aload_n 0, 1) := dk_42 (dk_at dksX3_init_11 18 rfl rfl)
theorem dX3_init_275 : decode cX3_init 275 = .ok (.iconst 0, 1) := dk_3 (dk_at dksX3_init_11 19 rfl rfl)
theorem dX3_init_276 : decode cX3_init 276 = .ok (.putfield 122, 3) := dk_181 0 122 (dk_at dksX3_init_11 20 rfl rfl)
theorem dX3_init_279 : decode cX3_init 279 = .ok (.aload_n 0, 1) := dk_42 (dk_at dksX3_init_11 23 rfl rfl)
theorem dX3_init_280 : decode cX3_init 280 = .ok (.iconst 0, 1) := dk_3 (dk_at dksX3_init_12 0 rfl rfl)
theorem dX3_init_281 : decode cX3_init 281 = .ok (.putfield 125, 3) := dk_181 0 125 (dk_at dksX3_init_12 1 rfl rfl)
theorem dX3_init_284 : decode cX3_init 284 = .ok (.aload_n 0, 1) := dk_42 (dk_at dksX3_init_12 4 rfl rfl)
theorem dX3_init_285 : decode cX3_init 285 = .ok (.iconst 0, 1) := dk_3 (dk_at dksX3_init_12 5 rfl rfl)
theorem dX3_init_286 : decode cX3_init 286 = .ok (.putfield 128, 3) := dk_181 0 128 (dk_at dksX3_init_12 6 rfl rfl)
theorem dX3_init_289 : decode cX3_init 289 = .ok (.aload_n 0, 1) := dk_42 (dk_at dksX3_init_12 9 rfl rfl)
theorem dX3_init_290 : decode cX3_init 290 = .ok (.iconst 0, 1) := dk_3 (dk_at dksX3_init_12 10 rfl rfl)
theorem dX3_init_291 : decode cX3_init 291 = .ok (.putfield 131, 3) := dk_181 0 131 (dk_at dksX3_init_12 11 rfl rfl)
theorem dX3_init_294 : decode cX3_init 294 = .ok (.aload_n 0, 1) := dk_42 (dk_at dksX3_init_12 14 rfl rfl)
theorem dX3_init_295 : decode cX3_init 295 = .ok (.bipush 20, 2) := dk_16 20 (dk_at dksX3_init_12 15 rfl rfl)
theorem dX3_init_297 : decode cX3_init 297 = .ok (.newarray .int, 2) := dk_188_10 (dk_at dksX3_init_12 17 rfl rfl)
theorem dX3_init_299 : decode cX3_init 299 = .ok (.putfield 134, 3) := dk_181 0 134 (dk_at dksX3_init_12 19 rfl rfl)
theorem dX3_init_302 : decode cX3_init 302 = .ok (.aload_n 0, 1) := dk_42 (dk_at dksX3_init_12 22 rfl rfl)
theorem dX3_init_303 : decode cX3_init 303 = .ok (.bipush 20, 2) := dk_16 20 (dk_at dksX3_init_13 0 rfl rfl)
theorem dX3_init_305 : decode cX3_init 305 = .ok (.newarray .int, 2) := dk_188_10 (dk_at dksX3_init_13 2 rfl rfl)
theorem dX3_init_307 : decode cX3_init 307 = .ok (.putfield 137, 3) := dk_181 0 137 (dk_at dksX3_init_13 4 rfl rfl)
theorem dX3_init_310 : decode cX3_init 310 = .ok (.aload_n 0, 1) := dk_42 (dk_at dksX3_init_13 7 rfl rfl)
theorem dX3_init_311 : decode cX3_init 311 = .ok (.bipush 20, 2) := dk_16 20 (dk_at dksX3_init_13 8 rfl rfl)
theorem dX3_init_313 : decode cX3_init 313 = .ok (.newarray .int, 2) := dk_188_10 (dk_at dksX3_init_13 10 rfl rfl)
theorem dX3_init_315 : decode cX3_init 315 = .ok (.putfield 140, 3) := dk_181 0 140 (dk_at dksX3_init_13 12 rfl rfl)
theorem dX3_init_318 : decode cX3_init 318 = .ok (.aload_n 0, 1) := dk_42 (dk_at dksX3_init_13 15 rfl rfl)
theorem dX3_init_319 : decode cX3_init 319 = .ok (.bipush 20, 2) := dk_16 20 (dk_at dksX3_init_13 16 rfl rfl)
theorem dX3_init_321 : decode cX3_init 321 = .ok (.newarray .int, 2) := dk_188_10 (dk_at dksX3_init_13 18 rfl rfl)
theorem dX3_init_323 : decode cX3_init 323 = .ok (.putfield 143, 3) := dk_181 0 143 (dk_at dksX3_init_13 20 rfl rfl)
theorem dX3_init_326 : decode cX3_init 326 = .ok (.aload_n 0, 1) := dk_42 (dk_at dksX3_init_13 23 rfl rfl)
theorem dX3_init_327 : decode cX3_init 327 = .ok (.bipush 60, 2) := dk_16 60 (dk_at dksX3_init_14 0 rfl rfl)
theorem dX3_init_329 : decode cX3_init 329 = .ok (.newarray .int, 2) := dk_188_10 (dk_at dksX3_init_14 2 rfl rfl)
theorem dX3_init_331 : decode cX3_init 331 = .ok (.putfield 146, 3) := dk_181 0 146 (dk_at dksX3_init_14 4 rfl rfl)
theorem dX3_init_334 : decode cX3_init 334 = .ok (.aload_n 0, 1) := dk_42 (dk_at dksX3_init_14 7 rfl rfl)
theorem dX3_init_335 : decode cX3_init 335 = .ok (.bipush 60, 2) := dk_16 60 (dk_at dksX3_init_14 8 rfl rfl)
theorem dX3_init_337 : decode cX3_init 337 = .ok (.newarray .int, 2) := dk_188_10 (dk_at dksX3_init_14 10 rfl rfl)
theorem dX3_init_339 : decode cX3_init 339 = .ok (.putfield 149, 3) := dk_181 0 149 (dk_at dksX3_init_14 12 rfl rfl)
theorem dX3_init_342 : decode cX3_init 342 = .ok (.aload_n 0, 1) := dk_42 (dk_at dksX3_init_14 15 rfl rfl)
theorem dX3_init_343 : decode cX3_init 343 = .ok (.bipush 20, 2) := dk_16 20 (dk_at dksX3_init_14 16 rfl rfl)
theorem dX3_init_345 : decode cX3_init 345 = .ok (.newarray .boolean, 2) := dk_188_4 (dk_at dksX3_init_14 18 rfl rfl)
theorem dX3_init_347 : decode cX3_init 347 = .ok (.putfield 152, 3) := dk_181 0 152 (dk_at dksX3_init_14 20 rfl rfl)
theorem dX3_init_350 : decode cX3_init 350 = .ok (.aload_n 0, 1) := dk_42 (dk_at dksX3_init_14 23 rfl rfl)
theorem dX3_init_351 : decode cX3_init 351 = .ok (.bipush 20, 2) := dk_16 20 (dk_at dksX3_init_15 0 rfl rfl)
theorem dX3_init_353 : decode cX3_init 353 = .ok (.newarray .boolean, 2) := dk_188_4 (dk_at dksX3_init_15 2 rfl rfl)
theorem dX3_init_355 : decode cX3_init 355 = .ok (.putfield 155, 3) := dk_181 0 155 (dk_at dksX3_init_15 4 rfl rfl)
theorem dX3_init_358 : decode cX3_init 358 = .ok (.return_, 1) := dk_177 (dk_at dksX3_init_15 7 rfl rfl)
abbrev cX3_thrown : ByteArray := prog_24_method_2_code
def yX3_thrown : MethodName := ⟨RX3, "thrown", "()I"⟩
theorem dX3_thrown_0 : decode cX3_thrown 0 = .ok (.aload_n 0, 1) := by decide +kernel
theorem dX3_thrown_1 : decode cX3_thrown 1 = .ok (.getfield 7, 3) := by decide +kernel
theorem dX3_thrown_4 : decode cX3_thrown 4 = .ok (.ireturn, 1) := by decide +kernel
abbrev cX3_type : ByteArray := prog_24_method_5_code
def yX3_type : MethodName := ⟨RX3, "type", "(I)I"⟩
def dkwX3_type_2 : List UInt8 := [180, 0, 16, 4, 96, 181, 0, 16, 42, 42, 180, 0, 16, 182, 0, 162, 172]
abbrev dktX3_type_2 : List UInt8 := dkwX3_type_2 ++ []
def dkwX3_type_1 : List UInt8 := [160, 0, 9, 42, 5, 182, 0, 158, 172, 42, 180, 0, 31, 42, 180, 0, 16, 27, 146, 85, 42, 89]
abbrev dktX3_type_1 : List UInt8 := dkwX3_type_1 ++ dktX3_type_2
def dkwX3_type_0 : List UInt8 := [27, 155, 0, 9, 27, 16, 127, 164, 0, 9, 42, 4, 182, 0, 158, 172, 42, 180, 0, 16, 17, 0, 200]
abbrev dktX3_type_0 : List UInt8 := dkwX3_type_0 ++ dktX3_type_1
theorem dksX3_type_0 : cX3_type.data.toList.drop 0 = dktX3_type_0 := by decide +kernel
theorem dksX3_type_1 : cX3_type.data.toList.drop 23 = dktX3_type_1 := dk_seg dksX3_type_0 23 rfl rfl
theorem dksX3_type_2 : cX3_type.data.toList.drop 45 = dktX3_type_2 := dk_seg dksX3_type_1 22 rfl rfl
theorem dX3_type_0 : decode cX3_type 0 = .ok (.iload_n 1, 1) := dk_27 (dk_at dksX3_type_0 0 rfl rfl)
theorem dX3_type_1 : decode cX3_type 1 = .ok (.ifCond .lt 9, 3) := dk_155 0 9 (dk_at dksX3_type_0 1 rfl rfl)
theorem dX3_type_4 : decode cX3_type 4 = .ok (.iload_n 1, 1) := dk_27 (dk_at dksX3_type_0 4 rfl rfl)
theorem dX3_type_5 : decode cX3_type 5 = .ok (.bipush 127, 2) := dk_16 127 (dk_at dksX3_type_0 5 rfl rfl)
theorem dX3_type_7 : decode cX3_type 7 = .ok (.if_icmp .le 9, 3) := dk_164 0 9 (dk_at dksX3_type_0 7 rfl rfl)
theorem dX3_type_10 : decode cX3_type 10 = .ok (.aload_n 0, 1) := dk_42 (dk_at dksX3_type_0 10 rfl rfl)
theorem dX3_type_11 : decode cX3_type 11 = .ok (.iconst 1, 1) := dk_4 (dk_at dksX3_type_0 11 rfl rfl)
theorem dX3_type_12 : decode cX3_type 12 = .ok (.invokevirtual 158, 3) := dk_182 0 158 (dk_at dksX3_type_0 12 rfl rfl)
theorem dX3_type_15 : decode cX3_type 15 = .ok (.ireturn, 1) := dk_172 (dk_at dksX3_type_0 15 rfl rfl)
theorem dX3_type_16 : decode cX3_type 16 = .ok (.aload_n 0, 1) := dk_42 (dk_at dksX3_type_0 16 rfl rfl)
theorem dX3_type_17 : decode cX3_type 17 = .ok (.getfield 16, 3) := dk_180 0 16 (dk_at dksX3_type_0 17 rfl rfl)
theorem dX3_type_20 : decode cX3_type 20 = .ok (.sipush 200, 3) := dk_17 0 200 (dk_at dksX3_type_0 20 rfl rfl)
theorem dX3_type_23 : decode cX3_type 23 = .ok (.if_icmp .ne 9, 3) := dk_160 0 9 (dk_at dksX3_type_1 0 rfl rfl)
theorem dX3_type_26 : decode cX3_type 26 = .ok (.aload_n 0, 1) := dk_42 (dk_at dksX3_type_1 3 rfl rfl)
theorem dX3_type_27 : decode cX3_type 27 = .ok (.iconst 2, 1) := dk_5 (dk_at dksX3_type_1 4 rfl rfl)
theorem dX3_type_28 : decode cX3_type 28 = .ok (.invokevirtual 158, 3) := dk_182 0 158 (dk_at dksX3_type_1 5 rfl rfl)
theorem dX3_type_31 : decode cX3_type 31 = .ok (.ireturn, 1) := dk_172 (dk_at dksX3_type_1 8 rfl rfl)
theorem dX3_type_32 : decode cX3_type 32 = .ok (.aload_n 0, 1) := dk_42 (dk_at dksX3_type_1 9 rfl rfl)
theorem dX3_type_33 : decode cX3_type 33 = .ok (.getfield 31, 3) := dk_180 0 31 (dk_at dksX3_type_1 10 rfl rfl)
theorem dX3_type_36 : decode cX3_type 36 = .ok (.aload_n 0, 1) := dk_42 (dk_at dksX3_type_1 13 rfl rfl)
theorem dX3_type_37 : decode cX3_type 37 = .ok (.getfield 16, 3) := dk_180 0 16 (dk_at dksX3_type_1 14 rfl rfl)
theorem dX3_type_40 : decode cX3_type 40 = .ok (.iload_n 1, 1) := dk_27 (dk_at dksX3_type_1 17 rfl rfl)
theorem dX3_type_41 : decode cX3_type 41 = .ok (.i2c, 1) := dk_146 (dk_at dksX3_type_1 18 rfl rfl)
theorem dX3_type_42 : decode cX3_type 42 = .ok (.castore, 1) := dk_85 (dk_at dksX3_type_1 19 rfl rfl)
theorem dX3_type_43 : decode cX3_type 43 = .ok (.aload_n 0, 1) := dk_42 (dk_at dksX3_type_1 20 rfl rfl)
theorem dX3_type_44 : decode cX3_type 44 = .ok (.dup, 1) := dk_89 (dk_at dksX3_type_1 21 rfl rfl)
theorem dX3_type_45 : decode cX3_type 45 = .ok (.getfield 16, 3) := dk_180 0 16 (dk_at dksX3_type_2 0 rfl rfl)
theorem dX3_type_48 : decode cX3_type 48 = .ok (.iconst 1, 1) := dk_4 (dk_at dksX3_type_2 3 rfl rfl)
theorem dX3_type_49 : decode cX3_type 49 = .ok (.iadd, 1) := dk_96 (dk_at dksX3_type_2 4 rfl rfl)
theorem dX3_type_50 : decode cX3_type 50 = .ok (.putfield 16, 3) := dk_181 0 16 (dk_at dksX3_type_2 5 rfl rfl)
theorem dX3_type_53 : decode cX3_type 53 = .ok (.aload_n 0, 1) := dk_42 (dk_at dksX3_type_2 8 rfl rfl)
theorem dX3_type_54 : decode cX3_type 54 = .ok (.aload_n 0, 1) := dk_42 (dk_at dksX3_type_2 9 rfl rfl)
theorem dX3_type_55 : decode cX3_type 55 = .ok (.getfield 16, 3) := dk_180 0 16 (dk_at dksX3_type_2 10 rfl rfl)
theorem dX3_type_58 : decode cX3_type 58 = .ok (.invokevirtual 162, 3) := dk_182 0 162 (dk_at dksX3_type_2 13 rfl rfl)
theorem dX3_type_61 : decode cX3_type 61 = .ok (.ireturn, 1) := dk_172 (dk_at dksX3_type_2 16 rfl rfl)
abbrev cX3_refuse : ByteArray := prog_24_method_3_code
def yX3_refuse : MethodName := ⟨RX3, "refuse", "(I)I"⟩
def dkwX3_refuse_0 : List UInt8 := [42, 27, 181, 0, 7, 42, 89, 180, 0, 13, 4, 96, 181, 0, 13, 3, 172]
abbrev dktX3_refuse_0 : List UInt8 := dkwX3_refuse_0 ++ []
theorem dksX3_refuse_0 : cX3_refuse.data.toList.drop 0 = dktX3_refuse_0 := by decide +kernel
theorem dX3_refuse_0 : decode cX3_refuse 0 = .ok (.aload_n 0, 1) := dk_42 (dk_at dksX3_refuse_0 0 rfl rfl)
theorem dX3_refuse_1 : decode cX3_refuse 1 = .ok (.iload_n 1, 1) := dk_27 (dk_at dksX3_refuse_0 1 rfl rfl)
theorem dX3_refuse_2 : decode cX3_refuse 2 = .ok (.putfield 7, 3) := dk_181 0 7 (dk_at dksX3_refuse_0 2 rfl rfl)
theorem dX3_refuse_5 : decode cX3_refuse 5 = .ok (.aload_n 0, 1) := dk_42 (dk_at dksX3_refuse_0 5 rfl rfl)
theorem dX3_refuse_6 : decode cX3_refuse 6 = .ok (.dup, 1) := dk_89 (dk_at dksX3_refuse_0 6 rfl rfl)
theorem dX3_refuse_7 : decode cX3_refuse 7 = .ok (.getfield 13, 3) := dk_180 0 13 (dk_at dksX3_refuse_0 7 rfl rfl)
theorem dX3_refuse_10 : decode cX3_refuse 10 = .ok (.iconst 1, 1) := dk_4 (dk_at dksX3_refuse_0 10 rfl rfl)
theorem dX3_refuse_11 : decode cX3_refuse 11 = .ok (.iadd, 1) := dk_96 (dk_at dksX3_refuse_0 11 rfl rfl)
theorem dX3_refuse_12 : decode cX3_refuse 12 = .ok (.putfield 13, 3) := dk_181 0 13 (dk_at dksX3_refuse_0 12 rfl rfl)
theorem dX3_refuse_15 : decode cX3_refuse 15 = .ok (.iconst 0, 1) := dk_3 (dk_at dksX3_refuse_0 15 rfl rfl)
theorem dX3_refuse_16 : decode cX3_refuse 16 = .ok (.ireturn, 1) := dk_172 (dk_at dksX3_refuse_0 16 rfl rfl)
abbrev cX3_fine : ByteArray := prog_24_method_4_code
def yX3_fine : MethodName := ⟨RX3, "fine", "(I)I"⟩
def dkwX3_fine_0 : List UInt8 := [42, 3, 181, 0, 7, 27, 172]
abbrev dktX3_fine_0 : List UInt8 := dkwX3_fine_0 ++ []
theorem dksX3_fine_0 : cX3_fine.data.toList.drop 0 = dktX3_fine_0 := by decide +kernel
theorem dX3_fine_0 : decode cX3_fine 0 = .ok (.aload_n 0, 1) := dk_42 (dk_at dksX3_fine_0 0 rfl rfl)
theorem dX3_fine_1 : decode cX3_fine 1 = .ok (.iconst 0, 1) := dk_3 (dk_at dksX3_fine_0 1 rfl rfl)
theorem dX3_fine_2 : decode cX3_fine 2 = .ok (.putfield 7, 3) := dk_181 0 7 (dk_at dksX3_fine_0 2 rfl rfl)
theorem dX3_fine_5 : decode cX3_fine 5 = .ok (.iload_n 1, 1) := dk_27 (dk_at dksX3_fine_0 5 rfl rfl)
theorem dX3_fine_6 : decode cX3_fine 6 = .ok (.ireturn, 1) := dk_172 (dk_at dksX3_fine_0 6 rfl rfl)
abbrev cX3_number : ByteArray := prog_24_method_7_code
def yX3_number : MethodName := ⟨RX3, "number", "(I)I"⟩
def dkwX3_number_0 : List UInt8 := [42, 3, 27, 182, 0, 165, 172]
abbrev dktX3_number_0 : List UInt8 := dkwX3_number_0 ++ []
theorem dksX3_number_0 : cX3_number.data.toList.drop 0 = dktX3_number_0 := by decide +kernel
theorem dX3_number_0 : decode cX3_number 0 = .ok (.aload_n 0, 1) := dk_42 (dk_at dksX3_number_0 0 rfl rfl)
theorem dX3_number_1 : decode cX3_number 1 = .ok (.iconst 0, 1) := dk_3 (dk_at dksX3_number_0 1 rfl rfl)
theorem dX3_number_2 : decode cX3_number 2 = .ok (.iload_n 1, 1) := dk_27 (dk_at dksX3_number_0 2 rfl rfl)
theorem dX3_number_3 : decode cX3_number 3 = .ok (.invokevirtual 165, 3) := dk_182 0 165 (dk_at dksX3_number_0 3 rfl rfl)
theorem dX3_number_6 : decode cX3_number 6 = .ok (.ireturn, 1) := dk_172 (dk_at dksX3_number_0 6 rfl rfl)
abbrev cX3_make : ByteArray := prog_24_method_6_code
def yX3_make : MethodName := ⟨RX3, "make", "(II)I"⟩
def dkwX3_make_2 : List UInt8 := [180, 0, 22, 4, 100, 182, 0, 162, 172]
abbrev dktX3_make_2 : List UInt8 := dkwX3_make_2 ++ []
def dkwX3_make_1 : List UInt8 := [79, 42, 180, 0, 39, 42, 180, 0, 22, 28, 79, 42, 89, 180, 0, 22, 4, 96, 181, 0, 22, 42, 42]
abbrev dktX3_make_1 : List UInt8 := dkwX3_make_1 ++ dktX3_make_2
def dkwX3_make_0 : List UInt8 := [42, 180, 0, 22, 16, 60, 160, 0, 9, 42, 4, 182, 0, 158, 172, 42, 180, 0, 35, 42, 180, 0, 22, 27]
abbrev dktX3_make_0 : List UInt8 := dkwX3_make_0 ++ dktX3_make_1
theorem dksX3_make_0 : cX3_make.data.toList.drop 0 = dktX3_make_0 := by decide +kernel
theorem dksX3_make_1 : cX3_make.data.toList.drop 24 = dktX3_make_1 := dk_seg dksX3_make_0 24 rfl rfl
theorem dksX3_make_2 : cX3_make.data.toList.drop 47 = dktX3_make_2 := dk_seg dksX3_make_1 23 rfl rfl
theorem dX3_make_0 : decode cX3_make 0 = .ok (.aload_n 0, 1) := dk_42 (dk_at dksX3_make_0 0 rfl rfl)
theorem dX3_make_1 : decode cX3_make 1 = .ok (.getfield 22, 3) := dk_180 0 22 (dk_at dksX3_make_0 1 rfl rfl)
theorem dX3_make_4 : decode cX3_make 4 = .ok (.bipush 60, 2) := dk_16 60 (dk_at dksX3_make_0 4 rfl rfl)
theorem dX3_make_6 : decode cX3_make 6 = .ok (.if_icmp .ne 9, 3) := dk_160 0 9 (dk_at dksX3_make_0 6 rfl rfl)
theorem dX3_make_9 : decode cX3_make 9 = .ok (.aload_n 0, 1) := dk_42 (dk_at dksX3_make_0 9 rfl rfl)
theorem dX3_make_10 : decode cX3_make 10 = .ok (.iconst 1, 1) := dk_4 (dk_at dksX3_make_0 10 rfl rfl)
theorem dX3_make_11 : decode cX3_make 11 = .ok (.invokevirtual 158, 3) := dk_182 0 158 (dk_at dksX3_make_0 11 rfl rfl)
theorem dX3_make_14 : decode cX3_make 14 = .ok (.ireturn, 1) := dk_172 (dk_at dksX3_make_0 14 rfl rfl)
theorem dX3_make_15 : decode cX3_make 15 = .ok (.aload_n 0, 1) := dk_42 (dk_at dksX3_make_0 15 rfl rfl)
theorem dX3_make_16 : decode cX3_make 16 = .ok (.getfield 35, 3) := dk_180 0 35 (dk_at dksX3_make_0 16 rfl rfl)
theorem dX3_make_19 : decode cX3_make 19 = .ok (.aload_n 0, 1) := dk_42 (dk_at dksX3_make_0 19 rfl rfl)
theorem dX3_make_20 : decode cX3_make 20 = .ok (.getfield 22, 3) := dk_180 0 22 (dk_at dksX3_make_0 20 rfl rfl)
theorem dX3_make_23 : decode cX3_make 23 = .ok (.iload_n 1, 1) := dk_27 (dk_at dksX3_make_0 23 rfl rfl)
theorem dX3_make_24 : decode cX3_make 24 = .ok (.iastore, 1) := dk_79 (dk_at dksX3_make_1 0 rfl rfl)
theorem dX3_make_25 : decode cX3_make 25 = .ok (.aload_n 0, 1) := dk_42 (dk_at dksX3_make_1 1 rfl rfl)
theorem dX3_make_26 : decode cX3_make 26 = .ok (.getfield 39, 3) := dk_180 0 39 (dk_at dksX3_make_1 2 rfl rfl)
theorem dX3_make_29 : decode cX3_make 29 = .ok (.aload_n 0, 1) := dk_42 (dk_at dksX3_make_1 5 rfl rfl)
theorem dX3_make_30 : decode cX3_make 30 = .ok (.getfield 22, 3) := dk_180 0 22 (dk_at dksX3_make_1 6 rfl rfl)
theorem dX3_make_33 : decode cX3_make 33 = .ok (.iload_n 2, 1) := dk_28 (dk_at dksX3_make_1 9 rfl rfl)
theorem dX3_make_34 : decode cX3_make 34 = .ok (.iastore, 1) := dk_79 (dk_at dksX3_make_1 10 rfl rfl)
theorem dX3_make_35 : decode cX3_make 35 = .ok (.aload_n 0, 1) := dk_42 (dk_at dksX3_make_1 11 rfl rfl)
theorem dX3_make_36 : decode cX3_make 36 = .ok (.dup, 1) := dk_89 (dk_at dksX3_make_1 12 rfl rfl)
theorem dX3_make_37 : decode cX3_make 37 = .ok (.getfield 22, 3) := dk_180 0 22 (dk_at dksX3_make_1 13 rfl rfl)
theorem dX3_make_40 : decode cX3_make 40 = .ok (.iconst 1, 1) := dk_4 (dk_at dksX3_make_1 16 rfl rfl)
theorem dX3_make_41 : decode cX3_make 41 = .ok (.iadd, 1) := dk_96 (dk_at dksX3_make_1 17 rfl rfl)
theorem dX3_make_42 : decode cX3_make 42 = .ok (.putfield 22, 3) := dk_181 0 22 (dk_at dksX3_make_1 18 rfl rfl)
theorem dX3_make_45 : decode cX3_make 45 = .ok (.aload_n 0, 1) := dk_42 (dk_at dksX3_make_1 21 rfl rfl)
theorem dX3_make_46 : decode cX3_make 46 = .ok (.aload_n 0, 1) := dk_42 (dk_at dksX3_make_1 22 rfl rfl)
theorem dX3_make_47 : decode cX3_make 47 = .ok (.getfield 22, 3) := dk_180 0 22 (dk_at dksX3_make_2 0 rfl rfl)
theorem dX3_make_50 : decode cX3_make 50 = .ok (.iconst 1, 1) := dk_4 (dk_at dksX3_make_2 3 rfl rfl)
theorem dX3_make_51 : decode cX3_make 51 = .ok (.isub, 1) := dk_100 (dk_at dksX3_make_2 4 rfl rfl)
theorem dX3_make_52 : decode cX3_make 52 = .ok (.invokevirtual 162, 3) := dk_182 0 162 (dk_at dksX3_make_2 5 rfl rfl)
theorem dX3_make_55 : decode cX3_make 55 = .ok (.ireturn, 1) := dk_172 (dk_at dksX3_make_2 8 rfl rfl)
abbrev cX3_text : ByteArray := prog_24_method_8_code
def yX3_text : MethodName := ⟨RX3, "text", "()I"⟩
def dkwX3_text_4 : List UInt8 := [60, 42, 3, 181, 0, 16, 42, 4, 27, 182, 0, 165, 172]
abbrev dktX3_text_4 : List UInt8 := dkwX3_text_4 ++ []
def dkwX3_text_3 : List UInt8 := [180, 0, 31, 27, 52, 16, 8, 27, 7, 112, 104, 120, 128, 79, 132, 1, 1, 167, 255, 213, 42, 180, 0, 16]
abbrev dktX3_text_3 : List UInt8 := dkwX3_text_3 ++ dktX3_text_4
def dkwX3_text_2 : List UInt8 := [180, 0, 16, 162, 0, 41, 42, 180, 0, 42, 42, 180, 0, 22, 16, 50, 104, 27, 7, 108, 96, 92, 46, 42]
abbrev dktX3_text_2 : List UInt8 := dkwX3_text_2 ++ dktX3_text_3
def dkwX3_text_1 : List UInt8 := [180, 0, 42, 42, 180, 0, 22, 16, 50, 104, 27, 96, 3, 79, 132, 1, 1, 167, 255, 232, 3, 60, 27, 42]
abbrev dktX3_text_1 : List UInt8 := dkwX3_text_1 ++ dktX3_text_2
def dkwX3_text_0 : List UInt8 := [42, 180, 0, 22, 16, 60, 160, 0, 9, 42, 4, 182, 0, 158, 172, 3, 60, 27, 16, 50, 162, 0, 24, 42]
abbrev dktX3_text_0 : List UInt8 := dkwX3_text_0 ++ dktX3_text_1
theorem dksX3_text_0 : cX3_text.data.toList.drop 0 = dktX3_text_0 := by decide +kernel
theorem dksX3_text_1 : cX3_text.data.toList.drop 24 = dktX3_text_1 := dk_seg dksX3_text_0 24 rfl rfl
theorem dksX3_text_2 : cX3_text.data.toList.drop 48 = dktX3_text_2 := dk_seg dksX3_text_1 24 rfl rfl
theorem dksX3_text_3 : cX3_text.data.toList.drop 72 = dktX3_text_3 := dk_seg dksX3_text_2 24 rfl rfl
theorem dksX3_text_4 : cX3_text.data.toList.drop 96 = dktX3_text_4 := dk_seg dksX3_text_3 24 rfl rfl
theorem dX3_text_0 : decode cX3_text 0 = .ok (.aload_n 0, 1) := dk_42 (dk_at dksX3_text_0 0 rfl rfl)
theorem dX3_text_1 : decode cX3_text 1 = .ok (.getfield 22, 3) := dk_180 0 22 (dk_at dksX3_text_0 1 rfl rfl)
theorem dX3_text_4 : decode cX3_text 4 = .ok (.bipush 60, 2) := dk_16 60 (dk_at dksX3_text_0 4 rfl rfl)
theorem dX3_text_6 : decode cX3_text 6 = .ok (.if_icmp .ne 9, 3) := dk_160 0 9 (dk_at dksX3_text_0 6 rfl rfl)
theorem dX3_text_9 : decode cX3_text 9 = .ok (.aload_n 0, 1) := dk_42 (dk_at dksX3_text_0 9 rfl rfl)
theorem dX3_text_10 : decode cX3_text 10 = .ok (.iconst 1, 1) := dk_4 (dk_at dksX3_text_0 10 rfl rfl)
theorem dX3_text_11 : decode cX3_text 11 = .ok (.invokevirtual 158, 3) := dk_182 0 158 (dk_at dksX3_text_0 11 rfl rfl)
theorem dX3_text_14 : decode cX3_text 14 = .ok (.ireturn, 1) := dk_172 (dk_at dksX3_text_0 14 rfl rfl)
theorem dX3_text_15 : decode cX3_text 15 = .ok (.iconst 0, 1) := dk_3 (dk_at dksX3_text_0 15 rfl rfl)
theorem dX3_text_16 : decode cX3_text 16 = .ok (.istore_n 1, 1) := dk_60 (dk_at dksX3_text_0 16 rfl rfl)
theorem dX3_text_17 : decode cX3_text 17 = .ok (.iload_n 1, 1) := dk_27 (dk_at dksX3_text_0 17 rfl rfl)
theorem dX3_text_18 : decode cX3_text 18 = .ok (.bipush 50, 2) := dk_16 50 (dk_at dksX3_text_0 18 rfl rfl)
theorem dX3_text_20 : decode cX3_text 20 = .ok (.if_icmp .ge 24, 3) := dk_162 0 24 (dk_at dksX3_text_0 20 rfl rfl)
theorem dX3_text_23 : decode cX3_text 23 = .ok (.aload_n 0, 1) := dk_42 (dk_at dksX3_text_0 23 rfl rfl)
theorem dX3_text_24 : decode cX3_text 24 = .ok (.getfield 42, 3) := dk_180 0 42 (dk_at dksX3_text_1 0 rfl rfl)
theorem dX3_text_27 : decode cX3_text 27 = .ok (.aload_n 0, 1) := dk_42 (dk_at dksX3_text_1 3 rfl rfl)
theorem dX3_text_28 : decode cX3_text 28 = .ok (.getfield 22, 3) := dk_180 0 22 (dk_at dksX3_text_1 4 rfl rfl)
theorem dX3_text_31 : decode cX3_text 31 = .ok (.bipush 50, 2) := dk_16 50 (dk_at dksX3_text_1 7 rfl rfl)
theorem dX3_text_33 : decode cX3_text 33 = .ok (.imul, 1) := dk_104 (dk_at dksX3_text_1 9 rfl rfl)
theorem dX3_text_34 : decode cX3_text 34 = .ok (.iload_n 1, 1) := dk_27 (dk_at dksX3_text_1 10 rfl rfl)
theorem dX3_text_35 : decode cX3_text 35 = .ok (.iadd, 1) := dk_96 (dk_at dksX3_text_1 11 rfl rfl)
theorem dX3_text_36 : decode cX3_text 36 = .ok (.iconst 0, 1) := dk_3 (dk_at dksX3_text_1 12 rfl rfl)
theorem dX3_text_37 : decode cX3_text 37 = .ok (.iastore, 1) := dk_79 (dk_at dksX3_text_1 13 rfl rfl)
theorem dX3_text_38 : decode cX3_text 38 = .ok (.iinc 1 1, 3) := dk_132 1 1 (dk_at dksX3_text_1 14 rfl rfl)
theorem dX3_text_41 : decode cX3_text 41 = .ok (.goto (-24), 3) := dk_167 255 232 (dk_at dksX3_text_1 17 rfl rfl)
theorem dX3_text_44 : decode cX3_text 44 = .ok (.iconst 0, 1) := dk_3 (dk_at dksX3_text_1 20 rfl rfl)
theorem dX3_text_45 : decode cX3_text 45 = .ok (.istore_n 1, 1) := dk_60 (dk_at dksX3_text_1 21 rfl rfl)
theorem dX3_text_46 : decode cX3_text 46 = .ok (.iload_n 1, 1) := dk_27 (dk_at dksX3_text_1 22 rfl rfl)
theorem dX3_text_47 : decode cX3_text 47 = .ok (.aload_n 0, 1) := dk_42 (dk_at dksX3_text_1 23 rfl rfl)
theorem dX3_text_48 : decode cX3_text 48 = .ok (.getfield 16, 3) := dk_180 0 16 (dk_at dksX3_text_2 0 rfl rfl)
theorem dX3_text_51 : decode cX3_text 51 = .ok (.if_icmp .ge 41, 3) := dk_162 0 41 (dk_at dksX3_text_2 3 rfl rfl)
theorem dX3_text_54 : decode cX3_text 54 = .ok (.aload_n 0, 1) := dk_42 (dk_at dksX3_text_2 6 rfl rfl)
theorem dX3_text_55 : decode cX3_text 55 = .ok (.getfield 42, 3) := dk_180 0 42 (dk_at dksX3_text_2 7 rfl rfl)
theorem dX3_text_58 : decode cX3_text 58 = .ok (.aload_n 0, 1) := dk_42 (dk_at dksX3_text_2 10 rfl rfl)
theorem dX3_text_59 : decode cX3_text 59 = .ok (.getfield 22, 3) := dk_180 0 22 (dk_at dksX3_text_2 11 rfl rfl)
theorem dX3_text_62 : decode cX3_text 62 = .ok (.bipush 50, 2) := dk_16 50 (dk_at dksX3_text_2 14 rfl rfl)
theorem dX3_text_64 : decode cX3_text 64 = .ok (.imul, 1) := dk_104 (dk_at dksX3_text_2 16 rfl rfl)
theorem dX3_text_65 : decode cX3_text 65 = .ok (.iload_n 1, 1) := dk_27 (dk_at dksX3_text_2 17 rfl rfl)
theorem dX3_text_66 : decode cX3_text 66 = .ok (.iconst 4, 1) := dk_7 (dk_at dksX3_text_2 18 rfl rfl)
theorem dX3_text_67 : decode cX3_text 67 = .ok (.idiv, 1) := dk_108 (dk_at dksX3_text_2 19 rfl rfl)
theorem dX3_text_68 : decode cX3_text 68 = .ok (.iadd, 1) := dk_96 (dk_at dksX3_text_2 20 rfl rfl)
theorem dX3_text_69 : decode cX3_text 69 = .ok (.dup2, 1) := dk_92 (dk_at dksX3_text_2 21 rfl rfl)
theorem dX3_text_70 : decode cX3_text 70 = .ok (.iaload, 1) := dk_46 (dk_at dksX3_text_2 22 rfl rfl)
theorem dX3_text_71 : decode cX3_text 71 = .ok (.aload_n 0, 1) := dk_42 (dk_at dksX3_text_2 23 rfl rfl)
theorem dX3_text_72 : decode cX3_text 72 = .ok (.getfield 31, 3) := dk_180 0 31 (dk_at dksX3_text_3 0 rfl rfl)
theorem dX3_text_75 : decode cX3_text 75 = .ok (.iload_n 1, 1) := dk_27 (dk_at dksX3_text_3 3 rfl rfl)
theorem dX3_text_76 : decode cX3_text 76 = .ok (.caload, 1) := dk_52 (dk_at dksX3_text_3 4 rfl rfl)
theorem dX3_text_77 : decode cX3_text 77 = .ok (.bipush 8, 2) := dk_16 8 (dk_at dksX3_text_3 5 rfl rfl)
theorem dX3_text_79 : decode cX3_text 79 = .ok (.iload_n 1, 1) := dk_27 (dk_at dksX3_text_3 7 rfl rfl)
theorem dX3_text_80 : decode cX3_text 80 = .ok (.iconst 4, 1) := dk_7 (dk_at dksX3_text_3 8 rfl rfl)
theorem dX3_text_81 : decode cX3_text 81 = .ok (.irem, 1) := dk_112 (dk_at dksX3_text_3 9 rfl rfl)
theorem dX3_text_82 : decode cX3_text 82 = .ok (.imul, 1) := dk_104 (dk_at dksX3_text_3 10 rfl rfl)
theorem dX3_text_83 : decode cX3_text 83 = .ok (.ishl, 1) := dk_120 (dk_at dksX3_text_3 11 rfl rfl)
theorem dX3_text_84 : decode cX3_text 84 = .ok (.ior, 1) := dk_128 (dk_at dksX3_text_3 12 rfl rfl)
theorem dX3_text_85 : decode cX3_text 85 = .ok (.iastore, 1) := dk_79 (dk_at dksX3_text_3 13 rfl rfl)
theorem dX3_text_86 : decode cX3_text 86 = .ok (.iinc 1 1, 3) := dk_132 1 1 (dk_at dksX3_text_3 14 rfl rfl)
theorem dX3_text_89 : decode cX3_text 89 = .ok (.goto (-43), 3) := dk_167 255 213 (dk_at dksX3_text_3 17 rfl rfl)
theorem dX3_text_92 : decode cX3_text 92 = .ok (.aload_n 0, 1) := dk_42 (dk_at dksX3_text_3 20 rfl rfl)
theorem dX3_text_93 : decode cX3_text 93 = .ok (.getfield 16, 3) := dk_180 0 16 (dk_at dksX3_text_3 21 rfl rfl)
theorem dX3_text_96 : decode cX3_text 96 = .ok (.istore_n 1, 1) := dk_60 (dk_at dksX3_text_4 0 rfl rfl)
theorem dX3_text_97 : decode cX3_text 97 = .ok (.aload_n 0, 1) := dk_42 (dk_at dksX3_text_4 1 rfl rfl)
theorem dX3_text_98 : decode cX3_text 98 = .ok (.iconst 0, 1) := dk_3 (dk_at dksX3_text_4 2 rfl rfl)
theorem dX3_text_99 : decode cX3_text 99 = .ok (.putfield 16, 3) := dk_181 0 16 (dk_at dksX3_text_4 3 rfl rfl)
theorem dX3_text_102 : decode cX3_text 102 = .ok (.aload_n 0, 1) := dk_42 (dk_at dksX3_text_4 6 rfl rfl)
theorem dX3_text_103 : decode cX3_text 103 = .ok (.iconst 1, 1) := dk_4 (dk_at dksX3_text_4 7 rfl rfl)
theorem dX3_text_104 : decode cX3_text 104 = .ok (.iload_n 1, 1) := dk_27 (dk_at dksX3_text_4 8 rfl rfl)
theorem dX3_text_105 : decode cX3_text 105 = .ok (.invokevirtual 165, 3) := dk_182 0 165 (dk_at dksX3_text_4 9 rfl rfl)
theorem dX3_text_108 : decode cX3_text 108 = .ok (.ireturn, 1) := dk_172 (dk_at dksX3_text_4 12 rfl rfl)
abbrev cX3_list : ByteArray := prog_24_method_9_code
def yX3_list : MethodName := ⟨RX3, "list", "()I"⟩
def dkwX3_list_0 : List UInt8 := [42, 5, 3, 182, 0, 165, 172]
abbrev dktX3_list_0 : List UInt8 := dkwX3_list_0 ++ []
theorem dksX3_list_0 : cX3_list.data.toList.drop 0 = dktX3_list_0 := by decide +kernel
theorem dX3_list_0 : decode cX3_list 0 = .ok (.aload_n 0, 1) := dk_42 (dk_at dksX3_list_0 0 rfl rfl)
theorem dX3_list_1 : decode cX3_list 1 = .ok (.iconst 2, 1) := dk_5 (dk_at dksX3_list_0 1 rfl rfl)
theorem dX3_list_2 : decode cX3_list 2 = .ok (.iconst 0, 1) := dk_3 (dk_at dksX3_list_0 2 rfl rfl)
theorem dX3_list_3 : decode cX3_list 3 = .ok (.invokevirtual 165, 3) := dk_182 0 165 (dk_at dksX3_list_0 3 rfl rfl)
theorem dX3_list_6 : decode cX3_list 6 = .ok (.ireturn, 1) := dk_172 (dk_at dksX3_list_0 6 rfl rfl)
abbrev cX3_map : ByteArray := prog_24_method_10_code
def yX3_map : MethodName := ⟨RX3, "map", "()I"⟩
def dkwX3_map_0 : List UInt8 := [42, 6, 3, 182, 0, 165, 172]
abbrev dktX3_map_0 : List UInt8 := dkwX3_map_0 ++ []
theorem dksX3_map_0 : cX3_map.data.toList.drop 0 = dktX3_map_0 := by decide +kernel
theorem dX3_map_0 : decode cX3_map 0 = .ok (.aload_n 0, 1) := dk_42 (dk_at dksX3_map_0 0 rfl rfl)
theorem dX3_map_1 : decode cX3_map 1 = .ok (.iconst 3, 1) := dk_6 (dk_at dksX3_map_0 1 rfl rfl)
theorem dX3_map_2 : decode cX3_map 2 = .ok (.iconst 0, 1) := dk_3 (dk_at dksX3_map_0 2 rfl rfl)
theorem dX3_map_3 : decode cX3_map 3 = .ok (.invokevirtual 165, 3) := dk_182 0 165 (dk_at dksX3_map_0 3 rfl rfl)
theorem dX3_map_6 : decode cX3_map 6 = .ok (.ireturn, 1) := dk_172 (dk_at dksX3_map_0 6 rfl rfl)
abbrev cX3_add : ByteArray := prog_24_method_13_code
def yX3_add : MethodName := ⟨RX3, "add", "(II)I"⟩
def dkwX3_add_4 : List UInt8 := [180, 0, 39, 27, 46, 182, 0, 162, 172]
abbrev dktX3_add_4 : List UInt8 := dkwX3_add_4 ++ []
def dkwX3_add_3 : List UInt8 := [104, 42, 180, 0, 39, 27, 46, 96, 28, 79, 42, 180, 0, 39, 27, 92, 46, 4, 96, 79, 42, 42]
abbrev dktX3_add_3 : List UInt8 := dkwX3_add_3 ++ dktX3_add_4
def dkwX3_add_2 : List UInt8 := [42, 180, 0, 39, 27, 46, 16, 10, 160, 0, 9, 42, 6, 182, 0, 158, 172, 42, 180, 0, 45, 27, 16, 10]
abbrev dktX3_add_2 : List UInt8 := dkwX3_add_2 ++ dktX3_add_3
def dkwX3_add_1 : List UInt8 := [180, 0, 35, 27, 46, 5, 160, 0, 12, 42, 28, 27, 182, 0, 173, 153, 0, 9, 42, 5, 182, 0, 158, 172]
abbrev dktX3_add_1 : List UInt8 := dkwX3_add_1 ++ dktX3_add_2
def dkwX3_add_0 : List UInt8 := [42, 27, 182, 0, 169, 154, 0, 11, 42, 28, 182, 0, 169, 153, 0, 9, 42, 4, 182, 0, 158, 172, 42]
abbrev dktX3_add_0 : List UInt8 := dkwX3_add_0 ++ dktX3_add_1
theorem dksX3_add_0 : cX3_add.data.toList.drop 0 = dktX3_add_0 := by decide +kernel
theorem dksX3_add_1 : cX3_add.data.toList.drop 23 = dktX3_add_1 := dk_seg dksX3_add_0 23 rfl rfl
theorem dksX3_add_2 : cX3_add.data.toList.drop 47 = dktX3_add_2 := dk_seg dksX3_add_1 24 rfl rfl
theorem dksX3_add_3 : cX3_add.data.toList.drop 71 = dktX3_add_3 := dk_seg dksX3_add_2 24 rfl rfl
theorem dksX3_add_4 : cX3_add.data.toList.drop 93 = dktX3_add_4 := dk_seg dksX3_add_3 22 rfl rfl
theorem dX3_add_0 : decode cX3_add 0 = .ok (.aload_n 0, 1) := dk_42 (dk_at dksX3_add_0 0 rfl rfl)
theorem dX3_add_1 : decode cX3_add 1 = .ok (.iload_n 1, 1) := dk_27 (dk_at dksX3_add_0 1 rfl rfl)
theorem dX3_add_2 : decode cX3_add 2 = .ok (.invokevirtual 169, 3) := dk_182 0 169 (dk_at dksX3_add_0 2 rfl rfl)
theorem dX3_add_5 : decode cX3_add 5 = .ok (.ifCond .ne 11, 3) := dk_154 0 11 (dk_at dksX3_add_0 5 rfl rfl)
theorem dX3_add_8 : decode cX3_add 8 = .ok (.aload_n 0, 1) := dk_42 (dk_at dksX3_add_0 8 rfl rfl)
theorem dX3_add_9 : decode cX3_add 9 = .ok (.iload_n 2, 1) := dk_28 (dk_at dksX3_add_0 9 rfl rfl)
theorem dX3_add_10 : decode cX3_add 10 = .ok (.invokevirtual 169, 3) := dk_182 0 169 (dk_at dksX3_add_0 10 rfl rfl)
theorem dX3_add_13 : decode cX3_add 13 = .ok (.ifCond .eq 9, 3) := dk_153 0 9 (dk_at dksX3_add_0 13 rfl rfl)
theorem dX3_add_16 : decode cX3_add 16 = .ok (.aload_n 0, 1) := dk_42 (dk_at dksX3_add_0 16 rfl rfl)
theorem dX3_add_17 : decode cX3_add 17 = .ok (.iconst 1, 1) := dk_4 (dk_at dksX3_add_0 17 rfl rfl)
theorem dX3_add_18 : decode cX3_add 18 = .ok (.invokevirtual 158, 3) := dk_182 0 158 (dk_at dksX3_add_0 18 rfl rfl)
theorem dX3_add_21 : decode cX3_add 21 = .ok (.ireturn, 1) := dk_172 (dk_at dksX3_add_0 21 rfl rfl)
theorem dX3_add_22 : decode cX3_add 22 = .ok (.aload_n 0, 1) := dk_42 (dk_at dksX3_add_0 22 rfl rfl)
theorem dX3_add_23 : decode cX3_add 23 = .ok (.getfield 35, 3) := dk_180 0 35 (dk_at dksX3_add_1 0 rfl rfl)
theorem dX3_add_26 : decode cX3_add 26 = .ok (.iload_n 1, 1) := dk_27 (dk_at dksX3_add_1 3 rfl rfl)
theorem dX3_add_27 : decode cX3_add 27 = .ok (.iaload, 1) := dk_46 (dk_at dksX3_add_1 4 rfl rfl)
theorem dX3_add_28 : decode cX3_add 28 = .ok (.iconst 2, 1) := dk_5 (dk_at dksX3_add_1 5 rfl rfl)
theorem dX3_add_29 : decode cX3_add 29 = .ok (.if_icmp .ne 12, 3) := dk_160 0 12 (dk_at dksX3_add_1 6 rfl rfl)
theorem dX3_add_32 : decode cX3_add 32 = .ok (.aload_n 0, 1) := dk_42 (dk_at dksX3_add_1 9 rfl rfl)
theorem dX3_add_33 : decode cX3_add 33 = .ok (.iload_n 2, 1) := dk_28 (dk_at dksX3_add_1 10 rfl rfl)
theorem dX3_add_34 : decode cX3_add 34 = .ok (.iload_n 1, 1) := dk_27 (dk_at dksX3_add_1 11 rfl rfl)
theorem dX3_add_35 : decode cX3_add 35 = .ok (.invokevirtual 173, 3) := dk_182 0 173 (dk_at dksX3_add_1 12 rfl rfl)
theorem dX3_add_38 : decode cX3_add 38 = .ok (.ifCond .eq 9, 3) := dk_153 0 9 (dk_at dksX3_add_1 15 rfl rfl)
theorem dX3_add_41 : decode cX3_add 41 = .ok (.aload_n 0, 1) := dk_42 (dk_at dksX3_add_1 18 rfl rfl)
theorem dX3_add_42 : decode cX3_add 42 = .ok (.iconst 2, 1) := dk_5 (dk_at dksX3_add_1 19 rfl rfl)
theorem dX3_add_43 : decode cX3_add 43 = .ok (.invokevirtual 158, 3) := dk_182 0 158 (dk_at dksX3_add_1 20 rfl rfl)
theorem dX3_add_46 : decode cX3_add 46 = .ok (.ireturn, 1) := dk_172 (dk_at dksX3_add_1 23 rfl rfl)
theorem dX3_add_47 : decode cX3_add 47 = .ok (.aload_n 0, 1) := dk_42 (dk_at dksX3_add_2 0 rfl rfl)
theorem dX3_add_48 : decode cX3_add 48 = .ok (.getfield 39, 3) := dk_180 0 39 (dk_at dksX3_add_2 1 rfl rfl)
theorem dX3_add_51 : decode cX3_add 51 = .ok (.iload_n 1, 1) := dk_27 (dk_at dksX3_add_2 4 rfl rfl)
theorem dX3_add_52 : decode cX3_add 52 = .ok (.iaload, 1) := dk_46 (dk_at dksX3_add_2 5 rfl rfl)
theorem dX3_add_53 : decode cX3_add 53 = .ok (.bipush 10, 2) := dk_16 10 (dk_at dksX3_add_2 6 rfl rfl)
theorem dX3_add_55 : decode cX3_add 55 = .ok (.if_icmp .ne 9, 3) := dk_160 0 9 (dk_at dksX3_add_2 8 rfl rfl)
theorem dX3_add_58 : decode cX3_add 58 = .ok (.aload_n 0, 1) := dk_42 (dk_at dksX3_add_2 11 rfl rfl)
theorem dX3_add_59 : decode cX3_add 59 = .ok (.iconst 3, 1) := dk_6 (dk_at dksX3_add_2 12 rfl rfl)
theorem dX3_add_60 : decode cX3_add 60 = .ok (.invokevirtual 158, 3) := dk_182 0 158 (dk_at dksX3_add_2 13 rfl rfl)
theorem dX3_add_63 : decode cX3_add 63 = .ok (.ireturn, 1) := dk_172 (dk_at dksX3_add_2 16 rfl rfl)
theorem dX3_add_64 : decode cX3_add 64 = .ok (.aload_n 0, 1) := dk_42 (dk_at dksX3_add_2 17 rfl rfl)
theorem dX3_add_65 : decode cX3_add 65 = .ok (.getfield 45, 3) := dk_180 0 45 (dk_at dksX3_add_2 18 rfl rfl)
theorem dX3_add_68 : decode cX3_add 68 = .ok (.iload_n 1, 1) := dk_27 (dk_at dksX3_add_2 21 rfl rfl)
theorem dX3_add_69 : decode cX3_add 69 = .ok (.bipush 10, 2) := dk_16 10 (dk_at dksX3_add_2 22 rfl rfl)
theorem dX3_add_71 : decode cX3_add 71 = .ok (.imul, 1) := dk_104 (dk_at dksX3_add_3 0 rfl rfl)
theorem dX3_add_72 : decode cX3_add 72 = .ok (.aload_n 0, 1) := dk_42 (dk_at dksX3_add_3 1 rfl rfl)
theorem dX3_add_73 : decode cX3_add 73 = .ok (.getfield 39, 3) := dk_180 0 39 (dk_at dksX3_add_3 2 rfl rfl)
theorem dX3_add_76 : decode cX3_add 76 = .ok (.iload_n 1, 1) := dk_27 (dk_at dksX3_add_3 5 rfl rfl)
theorem dX3_add_77 : decode cX3_add 77 = .ok (.iaload, 1) := dk_46 (dk_at dksX3_add_3 6 rfl rfl)
theorem dX3_add_78 : decode cX3_add 78 = .ok (.iadd, 1) := dk_96 (dk_at dksX3_add_3 7 rfl rfl)
theorem dX3_add_79 : decode cX3_add 79 = .ok (.iload_n 2, 1) := dk_28 (dk_at dksX3_add_3 8 rfl rfl)
theorem dX3_add_80 : decode cX3_add 80 = .ok (.iastore, 1) := dk_79 (dk_at dksX3_add_3 9 rfl rfl)
theorem dX3_add_81 : decode cX3_add 81 = .ok (.aload_n 0, 1) := dk_42 (dk_at dksX3_add_3 10 rfl rfl)
theorem dX3_add_82 : decode cX3_add 82 = .ok (.getfield 39, 3) := dk_180 0 39 (dk_at dksX3_add_3 11 rfl rfl)
theorem dX3_add_85 : decode cX3_add 85 = .ok (.iload_n 1, 1) := dk_27 (dk_at dksX3_add_3 14 rfl rfl)
theorem dX3_add_86 : decode cX3_add 86 = .ok (.dup2, 1) := dk_92 (dk_at dksX3_add_3 15 rfl rfl)
theorem dX3_add_87 : decode cX3_add 87 = .ok (.iaload, 1) := dk_46 (dk_at dksX3_add_3 16 rfl rfl)
theorem dX3_add_88 : decode cX3_add 88 = .ok (.iconst 1, 1) := dk_4 (dk_at dksX3_add_3 17 rfl rfl)
theorem dX3_add_89 : decode cX3_add 89 = .ok (.iadd, 1) := dk_96 (dk_at dksX3_add_3 18 rfl rfl)
theorem dX3_add_90 : decode cX3_add 90 = .ok (.iastore, 1) := dk_79 (dk_at dksX3_add_3 19 rfl rfl)
theorem dX3_add_91 : decode cX3_add 91 = .ok (.aload_n 0, 1) := dk_42 (dk_at dksX3_add_3 20 rfl rfl)
theorem dX3_add_92 : decode cX3_add 92 = .ok (.aload_n 0, 1) := dk_42 (dk_at dksX3_add_3 21 rfl rfl)
theorem dX3_add_93 : decode cX3_add 93 = .ok (.getfield 39, 3) := dk_180 0 39 (dk_at dksX3_add_4 0 rfl rfl)
theorem dX3_add_96 : decode cX3_add 96 = .ok (.iload_n 1, 1) := dk_27 (dk_at dksX3_add_4 3 rfl rfl)
theorem dX3_add_97 : decode cX3_add 97 = .ok (.iaload, 1) := dk_46 (dk_at dksX3_add_4 4 rfl rfl)
theorem dX3_add_98 : decode cX3_add 98 = .ok (.invokevirtual 162, 3) := dk_182 0 162 (dk_at dksX3_add_4 5 rfl rfl)
theorem dX3_add_101 : decode cX3_add 101 = .ok (.ireturn, 1) := dk_172 (dk_at dksX3_add_4 8 rfl rfl)
abbrev cX3_no : ByteArray := prog_24_method_11_code
def yX3_no : MethodName := ⟨RX3, "no", "(I)Z"⟩
def dkwX3_no_0 : List UInt8 := [27, 155, 0, 11, 27, 42, 180, 0, 22, 161, 0, 7, 4, 167, 0, 4, 3, 172]
abbrev dktX3_no_0 : List UInt8 := dkwX3_no_0 ++ []
theorem dksX3_no_0 : cX3_no.data.toList.drop 0 = dktX3_no_0 := by decide +kernel
theorem dX3_no_0 : decode cX3_no 0 = .ok (.iload_n 1, 1) := dk_27 (dk_at dksX3_no_0 0 rfl rfl)
theorem dX3_no_1 : decode cX3_no 1 = .ok (.ifCond .lt 11, 3) := dk_155 0 11 (dk_at dksX3_no_0 1 rfl rfl)
theorem dX3_no_4 : decode cX3_no 4 = .ok (.iload_n 1, 1) := dk_27 (dk_at dksX3_no_0 4 rfl rfl)
theorem dX3_no_5 : decode cX3_no 5 = .ok (.aload_n 0, 1) := dk_42 (dk_at dksX3_no_0 5 rfl rfl)
theorem dX3_no_6 : decode cX3_no 6 = .ok (.getfield 22, 3) := dk_180 0 22 (dk_at dksX3_no_0 6 rfl rfl)
theorem dX3_no_9 : decode cX3_no 9 = .ok (.if_icmp .lt 7, 3) := dk_161 0 7 (dk_at dksX3_no_0 9 rfl rfl)
theorem dX3_no_12 : decode cX3_no 12 = .ok (.iconst 1, 1) := dk_4 (dk_at dksX3_no_0 12 rfl rfl)
theorem dX3_no_13 : decode cX3_no 13 = .ok (.goto 4, 3) := dk_167 0 4 (dk_at dksX3_no_0 13 rfl rfl)
theorem dX3_no_16 : decode cX3_no 16 = .ok (.iconst 0, 1) := dk_3 (dk_at dksX3_no_0 16 rfl rfl)
theorem dX3_no_17 : decode cX3_no 17 = .ok (.ireturn, 1) := dk_172 (dk_at dksX3_no_0 17 rfl rfl)
abbrev cX3_holds : ByteArray := prog_24_method_12_code
def yX3_holds : MethodName := ⟨RX3, "holds", "(II)Z"⟩
def dkwX3_holds_6 : List UInt8 := [167, 255, 152, 42, 180, 0, 52, 28, 51, 172]
abbrev dktX3_holds_6 : List UInt8 := dkwX3_holds_6 ++ []
def dkwX3_holds_5 : List UInt8 := [4, 62, 42, 180, 0, 52, 21, 6, 4, 84, 132, 5, 1, 167, 255, 206, 132, 4, 1, 167, 255, 164]
abbrev dktX3_holds_5 : List UInt8 := dkwX3_holds_5 ++ dktX3_holds_6
def dkwX3_holds_4 : List UInt8 := [180, 0, 45, 21, 4, 16, 10, 104, 21, 5, 96, 46, 54, 6, 42, 180, 0, 52, 21, 6, 51, 154, 0, 5]
abbrev dktX3_holds_4 : List UInt8 := dkwX3_holds_4 ++ dktX3_holds_5
def dkwX3_holds_3 : List UInt8 := [162, 0, 6, 167, 0, 59, 3, 54, 5, 21, 5, 42, 180, 0, 39, 21, 4, 46, 162, 0, 44, 42]
abbrev dktX3_holds_3 : List UInt8 := dkwX3_holds_3 ++ dktX3_holds_4
def dkwX3_holds_2 : List UInt8 := [180, 0, 22, 162, 0, 89, 42, 180, 0, 52, 21, 4, 51, 153, 0, 73, 42, 180, 0, 35, 21, 4, 46, 5]
abbrev dktX3_holds_2 : List UInt8 := dkwX3_holds_2 ++ dktX3_holds_3
def dkwX3_holds_1 : List UInt8 := [3, 84, 132, 3, 1, 167, 255, 229, 4, 62, 29, 153, 0, 106, 3, 62, 3, 54, 4, 21, 4, 42]
abbrev dktX3_holds_1 : List UInt8 := dkwX3_holds_1 ++ dktX3_holds_2
def dkwX3_holds_0 : List UInt8 := [3, 62, 29, 42, 180, 0, 22, 162, 0, 25, 42, 180, 0, 52, 29, 29, 27, 160, 0, 7, 4, 167, 0, 4]
abbrev dktX3_holds_0 : List UInt8 := dkwX3_holds_0 ++ dktX3_holds_1
theorem dksX3_holds_0 : cX3_holds.data.toList.drop 0 = dktX3_holds_0 := by decide +kernel
theorem dksX3_holds_1 : cX3_holds.data.toList.drop 24 = dktX3_holds_1 := dk_seg dksX3_holds_0 24 rfl rfl
theorem dksX3_holds_2 : cX3_holds.data.toList.drop 46 = dktX3_holds_2 := dk_seg dksX3_holds_1 22 rfl rfl
theorem dksX3_holds_3 : cX3_holds.data.toList.drop 70 = dktX3_holds_3 := dk_seg dksX3_holds_2 24 rfl rfl
theorem dksX3_holds_4 : cX3_holds.data.toList.drop 92 = dktX3_holds_4 := dk_seg dksX3_holds_3 22 rfl rfl
theorem dksX3_holds_5 : cX3_holds.data.toList.drop 116 = dktX3_holds_5 := dk_seg dksX3_holds_4 24 rfl rfl
theorem dksX3_holds_6 : cX3_holds.data.toList.drop 138 = dktX3_holds_6 := dk_seg dksX3_holds_5 22 rfl rfl
theorem dX3_holds_0 : decode cX3_holds 0 = .ok (.iconst 0, 1) := dk_3 (dk_at dksX3_holds_0 0 rfl rfl)
theorem dX3_holds_1 : decode cX3_holds 1 = .ok (.istore_n 3, 1) := dk_62 (dk_at dksX3_holds_0 1 rfl rfl)
theorem dX3_holds_2 : decode cX3_holds 2 = .ok (.iload_n 3, 1) := dk_29 (dk_at dksX3_holds_0 2 rfl rfl)
theorem dX3_holds_3 : decode cX3_holds 3 = .ok (.aload_n 0, 1) := dk_42 (dk_at dksX3_holds_0 3 rfl rfl)
theorem dX3_holds_4 : decode cX3_holds 4 = .ok (.getfield 22, 3) := dk_180 0 22 (dk_at dksX3_holds_0 4 rfl rfl)
theorem dX3_holds_7 : decode cX3_holds 7 = .ok (.if_icmp .ge 25, 3) := dk_162 0 25 (dk_at dksX3_holds_0 7 rfl rfl)
theorem dX3_holds_10 : decode cX3_holds 10 = .ok (.aload_n 0, 1) := dk_42 (dk_at dksX3_holds_0 10 rfl rfl)
theorem dX3_holds_11 : decode cX3_holds 11 = .ok (.getfield 52, 3) := dk_180 0 52 (dk_at dksX3_holds_0 11 rfl rfl)
theorem dX3_holds_14 : decode cX3_holds 14 = .ok (.iload_n 3, 1) := dk_29 (dk_at dksX3_holds_0 14 rfl rfl)
theorem dX3_holds_15 : decode cX3_holds 15 = .ok (.iload_n 3, 1) := dk_29 (dk_at dksX3_holds_0 15 rfl rfl)
theorem dX3_holds_16 : decode cX3_holds 16 = .ok (.iload_n 1, 1) := dk_27 (dk_at dksX3_holds_0 16 rfl rfl)
theorem dX3_holds_17 : decode cX3_holds 17 = .ok (.if_icmp .ne 7, 3) := dk_160 0 7 (dk_at dksX3_holds_0 17 rfl rfl)
theorem dX3_holds_20 : decode cX3_holds 20 = .ok (.iconst 1, 1) := dk_4 (dk_at dksX3_holds_0 20 rfl rfl)
theorem dX3_holds_21 : decode cX3_holds 21 = .ok (.goto 4, 3) := dk_167 0 4 (dk_at dksX3_holds_0 21 rfl rfl)
theorem dX3_holds_24 : decode cX3_holds 24 = .ok (.iconst 0, 1) := dk_3 (dk_at dksX3_holds_1 0 rfl rfl)
theorem dX3_holds_25 : decode cX3_holds 25 = .ok (.bastore, 1) := dk_84 (dk_at dksX3_holds_1 1 rfl rfl)
theorem dX3_holds_26 : decode cX3_holds 26 = .ok (.iinc 3 1, 3) := dk_132 3 1 (dk_at dksX3_holds_1 2 rfl rfl)
theorem dX3_holds_29 : decode cX3_holds 29 = .ok (.goto (-27), 3) := dk_167 255 229 (dk_at dksX3_holds_1 5 rfl rfl)
theorem dX3_holds_32 : decode cX3_holds 32 = .ok (.iconst 1, 1) := dk_4 (dk_at dksX3_holds_1 8 rfl rfl)
theorem dX3_holds_33 : decode cX3_holds 33 = .ok (.istore_n 3, 1) := dk_62 (dk_at dksX3_holds_1 9 rfl rfl)
theorem dX3_holds_34 : decode cX3_holds 34 = .ok (.iload_n 3, 1) := dk_29 (dk_at dksX3_holds_1 10 rfl rfl)
theorem dX3_holds_35 : decode cX3_holds 35 = .ok (.ifCond .eq 106, 3) := dk_153 0 106 (dk_at dksX3_holds_1 11 rfl rfl)
theorem dX3_holds_38 : decode cX3_holds 38 = .ok (.iconst 0, 1) := dk_3 (dk_at dksX3_holds_1 14 rfl rfl)
theorem dX3_holds_39 : decode cX3_holds 39 = .ok (.istore_n 3, 1) := dk_62 (dk_at dksX3_holds_1 15 rfl rfl)
theorem dX3_holds_40 : decode cX3_holds 40 = .ok (.iconst 0, 1) := dk_3 (dk_at dksX3_holds_1 16 rfl rfl)
theorem dX3_holds_41 : decode cX3_holds 41 = .ok (.istore 4, 2) := dk_54 4 (dk_at dksX3_holds_1 17 rfl rfl)
theorem dX3_holds_43 : decode cX3_holds 43 = .ok (.iload 4, 2) := dk_21 4 (dk_at dksX3_holds_1 19 rfl rfl)
theorem dX3_holds_45 : decode cX3_holds 45 = .ok (.aload_n 0, 1) := dk_42 (dk_at dksX3_holds_1 21 rfl rfl)
theorem dX3_holds_46 : decode cX3_holds 46 = .ok (.getfield 22, 3) := dk_180 0 22 (dk_at dksX3_holds_2 0 rfl rfl)
theorem dX3_holds_49 : decode cX3_holds 49 = .ok (.if_icmp .ge 89, 3) := dk_162 0 89 (dk_at dksX3_holds_2 3 rfl rfl)
theorem dX3_holds_52 : decode cX3_holds 52 = .ok (.aload_n 0, 1) := dk_42 (dk_at dksX3_holds_2 6 rfl rfl)
theorem dX3_holds_53 : decode cX3_holds 53 = .ok (.getfield 52, 3) := dk_180 0 52 (dk_at dksX3_holds_2 7 rfl rfl)
theorem dX3_holds_56 : decode cX3_holds 56 = .ok (.iload 4, 2) := dk_21 4 (dk_at dksX3_holds_2 10 rfl rfl)
theorem dX3_holds_58 : decode cX3_holds 58 = .ok (.baload, 1) := dk_51 (dk_at dksX3_holds_2 12 rfl rfl)
theorem dX3_holds_59 : decode cX3_holds 59 = .ok (.ifCond .eq 73, 3) := dk_153 0 73 (dk_at dksX3_holds_2 13 rfl rfl)
theorem dX3_holds_62 : decode cX3_holds 62 = .ok (.aload_n 0, 1) := dk_42 (dk_at dksX3_holds_2 16 rfl rfl)
theorem dX3_holds_63 : decode cX3_holds 63 = .ok (.getfield 35, 3) := dk_180 0 35 (dk_at dksX3_holds_2 17 rfl rfl)
theorem dX3_holds_66 : decode cX3_holds 66 = .ok (.iload 4, 2) := dk_21 4 (dk_at dksX3_holds_2 20 rfl rfl)
theorem dX3_holds_68 : decode cX3_holds 68 = .ok (.iaload, 1) := dk_46 (dk_at dksX3_holds_2 22 rfl rfl)
theorem dX3_holds_69 : decode cX3_holds 69 = .ok (.iconst 2, 1) := dk_5 (dk_at dksX3_holds_2 23 rfl rfl)
theorem dX3_holds_70 : decode cX3_holds 70 = .ok (.if_icmp .ge 6, 3) := dk_162 0 6 (dk_at dksX3_holds_3 0 rfl rfl)
theorem dX3_holds_73 : decode cX3_holds 73 = .ok (.goto 59, 3) := dk_167 0 59 (dk_at dksX3_holds_3 3 rfl rfl)
theorem dX3_holds_76 : decode cX3_holds 76 = .ok (.iconst 0, 1) := dk_3 (dk_at dksX3_holds_3 6 rfl rfl)
theorem dX3_holds_77 : decode cX3_holds 77 = .ok (.istore 5, 2) := dk_54 5 (dk_at dksX3_holds_3 7 rfl rfl)
theorem dX3_holds_79 : decode cX3_holds 79 = .ok (.iload 5, 2) := dk_21 5 (dk_at dksX3_holds_3 9 rfl rfl)
theorem dX3_holds_81 : decode cX3_holds 81 = .ok (.aload_n 0, 1) := dk_42 (dk_at dksX3_holds_3 11 rfl rfl)
theorem dX3_holds_82 : decode cX3_holds 82 = .ok (.getfield 39, 3) := dk_180 0 39 (dk_at dksX3_holds_3 12 rfl rfl)
theorem dX3_holds_85 : decode cX3_holds 85 = .ok (.iload 4, 2) := dk_21 4 (dk_at dksX3_holds_3 15 rfl rfl)
theorem dX3_holds_87 : decode cX3_holds 87 = .ok (.iaload, 1) := dk_46 (dk_at dksX3_holds_3 17 rfl rfl)
theorem dX3_holds_88 : decode cX3_holds 88 = .ok (.if_icmp .ge 44, 3) := dk_162 0 44 (dk_at dksX3_holds_3 18 rfl rfl)
theorem dX3_holds_91 : decode cX3_holds 91 = .ok (.aload_n 0, 1) := dk_42 (dk_at dksX3_holds_3 21 rfl rfl)
theorem dX3_holds_92 : decode cX3_holds 92 = .ok (.getfield 45, 3) := dk_180 0 45 (dk_at dksX3_holds_4 0 rfl rfl)
theorem dX3_holds_95 : decode cX3_holds 95 = .ok (.iload 4, 2) := dk_21 4 (dk_at dksX3_holds_4 3 rfl rfl)
theorem dX3_holds_97 : decode cX3_holds 97 = .ok (.bipush 10, 2) := dk_16 10 (dk_at dksX3_holds_4 5 rfl rfl)
theorem dX3_holds_99 : decode cX3_holds 99 = .ok (.imul, 1) := dk_104 (dk_at dksX3_holds_4 7 rfl rfl)
theorem dX3_holds_100 : decode cX3_holds 100 = .ok (.iload 5, 2) := dk_21 5 (dk_at dksX3_holds_4 8 rfl rfl)
theorem dX3_holds_102 : decode cX3_holds 102 = .ok (.iadd, 1) := dk_96 (dk_at dksX3_holds_4 10 rfl rfl)
theorem dX3_holds_103 : decode cX3_holds 103 = .ok (.iaload, 1) := dk_46 (dk_at dksX3_holds_4 11 rfl rfl)
theorem dX3_holds_104 : decode cX3_holds 104 = .ok (.istore 6, 2) := dk_54 6 (dk_at dksX3_holds_4 12 rfl rfl)
theorem dX3_holds_106 : decode cX3_holds 106 = .ok (.aload_n 0, 1) := dk_42 (dk_at dksX3_holds_4 14 rfl rfl)
theorem dX3_holds_107 : decode cX3_holds 107 = .ok (.getfield 52, 3) := dk_180 0 52 (dk_at dksX3_holds_4 15 rfl rfl)
theorem dX3_holds_110 : decode cX3_holds 110 = .ok (.iload 6, 2) := dk_21 6 (dk_at dksX3_holds_4 18 rfl rfl)
theorem dX3_holds_112 : decode cX3_holds 112 = .ok (.baload, 1) := dk_51 (dk_at dksX3_holds_4 20 rfl rfl)
theorem dX3_holds_113 : decode cX3_holds 113 = .ok (.ifCond .ne 5, 3) := dk_154 0 5 (dk_at dksX3_holds_4 21 rfl rfl)
theorem dX3_holds_116 : decode cX3_holds 116 = .ok (.iconst 1, 1) := dk_4 (dk_at dksX3_holds_5 0 rfl rfl)
theorem dX3_holds_117 : decode cX3_holds 117 = .ok (.istore_n 3, 1) := dk_62 (dk_at dksX3_holds_5 1 rfl rfl)
theorem dX3_holds_118 : decode cX3_holds 118 = .ok (.aload_n 0, 1) := dk_42 (dk_at dksX3_holds_5 2 rfl rfl)
theorem dX3_holds_119 : decode cX3_holds 119 = .ok (.getfield 52, 3) := dk_180 0 52 (dk_at dksX3_holds_5 3 rfl rfl)
theorem dX3_holds_122 : decode cX3_holds 122 = .ok (.iload 6, 2) := dk_21 6 (dk_at dksX3_holds_5 6 rfl rfl)
theorem dX3_holds_124 : decode cX3_holds 124 = .ok (.iconst 1, 1) := dk_4 (dk_at dksX3_holds_5 8 rfl rfl)
theorem dX3_holds_125 : decode cX3_holds 125 = .ok (.bastore, 1) := dk_84 (dk_at dksX3_holds_5 9 rfl rfl)
theorem dX3_holds_126 : decode cX3_holds 126 = .ok (.iinc 5 1, 3) := dk_132 5 1 (dk_at dksX3_holds_5 10 rfl rfl)
theorem dX3_holds_129 : decode cX3_holds 129 = .ok (.goto (-50), 3) := dk_167 255 206 (dk_at dksX3_holds_5 13 rfl rfl)
theorem dX3_holds_132 : decode cX3_holds 132 = .ok (.iinc 4 1, 3) := dk_132 4 1 (dk_at dksX3_holds_5 16 rfl rfl)
theorem dX3_holds_135 : decode cX3_holds 135 = .ok (.goto (-92), 3) := dk_167 255 164 (dk_at dksX3_holds_5 19 rfl rfl)
theorem dX3_holds_138 : decode cX3_holds 138 = .ok (.goto (-104), 3) := dk_167 255 152 (dk_at dksX3_holds_6 0 rfl rfl)
theorem dX3_holds_141 : decode cX3_holds 141 = .ok (.aload_n 0, 1) := dk_42 (dk_at dksX3_holds_6 3 rfl rfl)
theorem dX3_holds_142 : decode cX3_holds 142 = .ok (.getfield 52, 3) := dk_180 0 52 (dk_at dksX3_holds_6 4 rfl rfl)
theorem dX3_holds_145 : decode cX3_holds 145 = .ok (.iload_n 2, 1) := dk_28 (dk_at dksX3_holds_6 7 rfl rfl)
theorem dX3_holds_146 : decode cX3_holds 146 = .ok (.baload, 1) := dk_51 (dk_at dksX3_holds_6 8 rfl rfl)
theorem dX3_holds_147 : decode cX3_holds 147 = .ok (.ireturn, 1) := dk_172 (dk_at dksX3_holds_6 9 rfl rfl)
abbrev cX3_put : ByteArray := prog_24_method_17_code
def yX3_put : MethodName := ⟨RX3, "put", "(II)I"⟩
def dkwX3_put_6 : List UInt8 := [79, 42, 42, 180, 0, 39, 27, 46, 182, 0, 162, 172]
abbrev dktX3_put_6 : List UInt8 := dkwX3_put_6 ++ []
def dkwX3_put_5 : List UInt8 := [180, 0, 48, 27, 16, 10, 104, 21, 5, 96, 33, 80, 42, 180, 0, 45, 27, 16, 10, 104, 21, 5, 96, 28]
abbrev dktX3_put_5 : List UInt8 := dkwX3_put_5 ++ dktX3_put_6
def dkwX3_put_4 : List UInt8 := [156, 0, 34, 42, 180, 0, 39, 27, 46, 54, 5, 42, 180, 0, 39, 27, 92, 46, 4, 96, 79, 42]
abbrev dktX3_put_4 : List UInt8 := dkwX3_put_4 ++ dktX3_put_5
def dkwX3_put_3 : List UInt8 := [42, 180, 0, 39, 27, 46, 16, 10, 160, 0, 9, 42, 6, 182, 0, 158, 172, 42, 3, 181, 0, 16, 21, 5]
abbrev dktX3_put_3 : List UInt8 := dkwX3_put_3 ++ dktX3_put_4
def dkwX3_put_2 : List UInt8 := [9, 148, 154, 0, 9, 42, 5, 182, 0, 158, 172, 42, 27, 33, 182, 0, 188, 54, 5, 21, 5, 156, 0, 20]
abbrev dktX3_put_2 : List UInt8 := dkwX3_put_2 ++ dktX3_put_3
def dkwX3_put_1 : List UInt8 := [182, 0, 184, 66, 42, 180, 0, 35, 27, 46, 6, 160, 0, 18, 42, 28, 27, 182, 0, 173, 154, 0, 9, 33]
abbrev dktX3_put_1 : List UInt8 := dkwX3_put_1 ++ dktX3_put_2
def dkwX3_put_0 : List UInt8 := [42, 27, 182, 0, 169, 154, 0, 11, 42, 28, 182, 0, 169, 153, 0, 9, 42, 4, 182, 0, 158, 172, 42]
abbrev dktX3_put_0 : List UInt8 := dkwX3_put_0 ++ dktX3_put_1
theorem dksX3_put_0 : cX3_put.data.toList.drop 0 = dktX3_put_0 := by decide +kernel
theorem dksX3_put_1 : cX3_put.data.toList.drop 23 = dktX3_put_1 := dk_seg dksX3_put_0 23 rfl rfl
theorem dksX3_put_2 : cX3_put.data.toList.drop 47 = dktX3_put_2 := dk_seg dksX3_put_1 24 rfl rfl
theorem dksX3_put_3 : cX3_put.data.toList.drop 71 = dktX3_put_3 := dk_seg dksX3_put_2 24 rfl rfl
theorem dksX3_put_4 : cX3_put.data.toList.drop 95 = dktX3_put_4 := dk_seg dksX3_put_3 24 rfl rfl
theorem dksX3_put_5 : cX3_put.data.toList.drop 117 = dktX3_put_5 := dk_seg dksX3_put_4 22 rfl rfl
theorem dksX3_put_6 : cX3_put.data.toList.drop 141 = dktX3_put_6 := dk_seg dksX3_put_5 24 rfl rfl
theorem dX3_put_0 : decode cX3_put 0 = .ok (.aload_n 0, 1) := dk_42 (dk_at dksX3_put_0 0 rfl rfl)
theorem dX3_put_1 : decode cX3_put 1 = .ok (.iload_n 1, 1) := dk_27 (dk_at dksX3_put_0 1 rfl rfl)
theorem dX3_put_2 : decode cX3_put 2 = .ok (.invokevirtual 169, 3) := dk_182 0 169 (dk_at dksX3_put_0 2 rfl rfl)
theorem dX3_put_5 : decode cX3_put 5 = .ok (.ifCond .ne 11, 3) := dk_154 0 11 (dk_at dksX3_put_0 5 rfl rfl)
theorem dX3_put_8 : decode cX3_put 8 = .ok (.aload_n 0, 1) := dk_42 (dk_at dksX3_put_0 8 rfl rfl)
theorem dX3_put_9 : decode cX3_put 9 = .ok (.iload_n 2, 1) := dk_28 (dk_at dksX3_put_0 9 rfl rfl)
theorem dX3_put_10 : decode cX3_put 10 = .ok (.invokevirtual 169, 3) := dk_182 0 169 (dk_at dksX3_put_0 10 rfl rfl)
theorem dX3_put_13 : decode cX3_put 13 = .ok (.ifCond .eq 9, 3) := dk_153 0 9 (dk_at dksX3_put_0 13 rfl rfl)
theorem dX3_put_16 : decode cX3_put 16 = .ok (.aload_n 0, 1) := dk_42 (dk_at dksX3_put_0 16 rfl rfl)
theorem dX3_put_17 : decode cX3_put 17 = .ok (.iconst 1, 1) := dk_4 (dk_at dksX3_put_0 17 rfl rfl)
theorem dX3_put_18 : decode cX3_put 18 = .ok (.invokevirtual 158, 3) := dk_182 0 158 (dk_at dksX3_put_0 18 rfl rfl)
theorem dX3_put_21 : decode cX3_put 21 = .ok (.ireturn, 1) := dk_172 (dk_at dksX3_put_0 21 rfl rfl)
theorem dX3_put_22 : decode cX3_put 22 = .ok (.aload_n 0, 1) := dk_42 (dk_at dksX3_put_0 22 rfl rfl)
theorem dX3_put_23 : decode cX3_put 23 = .ok (.invokevirtual 184, 3) := dk_182 0 184 (dk_at dksX3_put_1 0 rfl rfl)
theorem dX3_put_26 : decode cX3_put 26 = .ok (.lstore_n 3, 1) := dk_66 (dk_at dksX3_put_1 3 rfl rfl)
theorem dX3_put_27 : decode cX3_put 27 = .ok (.aload_n 0, 1) := dk_42 (dk_at dksX3_put_1 4 rfl rfl)
theorem dX3_put_28 : decode cX3_put 28 = .ok (.getfield 35, 3) := dk_180 0 35 (dk_at dksX3_put_1 5 rfl rfl)
theorem dX3_put_31 : decode cX3_put 31 = .ok (.iload_n 1, 1) := dk_27 (dk_at dksX3_put_1 8 rfl rfl)
theorem dX3_put_32 : decode cX3_put 32 = .ok (.iaload, 1) := dk_46 (dk_at dksX3_put_1 9 rfl rfl)
theorem dX3_put_33 : decode cX3_put 33 = .ok (.iconst 3, 1) := dk_6 (dk_at dksX3_put_1 10 rfl rfl)
theorem dX3_put_34 : decode cX3_put 34 = .ok (.if_icmp .ne 18, 3) := dk_160 0 18 (dk_at dksX3_put_1 11 rfl rfl)
theorem dX3_put_37 : decode cX3_put 37 = .ok (.aload_n 0, 1) := dk_42 (dk_at dksX3_put_1 14 rfl rfl)
theorem dX3_put_38 : decode cX3_put 38 = .ok (.iload_n 2, 1) := dk_28 (dk_at dksX3_put_1 15 rfl rfl)
theorem dX3_put_39 : decode cX3_put 39 = .ok (.iload_n 1, 1) := dk_27 (dk_at dksX3_put_1 16 rfl rfl)
theorem dX3_put_40 : decode cX3_put 40 = .ok (.invokevirtual 173, 3) := dk_182 0 173 (dk_at dksX3_put_1 17 rfl rfl)
theorem dX3_put_43 : decode cX3_put 43 = .ok (.ifCond .ne 9, 3) := dk_154 0 9 (dk_at dksX3_put_1 20 rfl rfl)
theorem dX3_put_46 : decode cX3_put 46 = .ok (.lload_n 3, 1) := dk_33 (dk_at dksX3_put_1 23 rfl rfl)
theorem dX3_put_47 : decode cX3_put 47 = .ok (.lconst 0, 1) := dk_9 (dk_at dksX3_put_2 0 rfl rfl)
theorem dX3_put_48 : decode cX3_put 48 = .ok (.lcmp, 1) := dk_148 (dk_at dksX3_put_2 1 rfl rfl)
theorem dX3_put_49 : decode cX3_put 49 = .ok (.ifCond .ne 9, 3) := dk_154 0 9 (dk_at dksX3_put_2 2 rfl rfl)
theorem dX3_put_52 : decode cX3_put 52 = .ok (.aload_n 0, 1) := dk_42 (dk_at dksX3_put_2 5 rfl rfl)
theorem dX3_put_53 : decode cX3_put 53 = .ok (.iconst 2, 1) := dk_5 (dk_at dksX3_put_2 6 rfl rfl)
theorem dX3_put_54 : decode cX3_put 54 = .ok (.invokevirtual 158, 3) := dk_182 0 158 (dk_at dksX3_put_2 7 rfl rfl)
theorem dX3_put_57 : decode cX3_put 57 = .ok (.ireturn, 1) := dk_172 (dk_at dksX3_put_2 10 rfl rfl)
theorem dX3_put_58 : decode cX3_put 58 = .ok (.aload_n 0, 1) := dk_42 (dk_at dksX3_put_2 11 rfl rfl)
theorem dX3_put_59 : decode cX3_put 59 = .ok (.iload_n 1, 1) := dk_27 (dk_at dksX3_put_2 12 rfl rfl)
theorem dX3_put_60 : decode cX3_put 60 = .ok (.lload_n 3, 1) := dk_33 (dk_at dksX3_put_2 13 rfl rfl)
theorem dX3_put_61 : decode cX3_put 61 = .ok (.invokevirtual 188, 3) := dk_182 0 188 (dk_at dksX3_put_2 14 rfl rfl)
theorem dX3_put_64 : decode cX3_put 64 = .ok (.istore 5, 2) := dk_54 5 (dk_at dksX3_put_2 17 rfl rfl)
theorem dX3_put_66 : decode cX3_put 66 = .ok (.iload 5, 2) := dk_21 5 (dk_at dksX3_put_2 19 rfl rfl)
theorem dX3_put_68 : decode cX3_put 68 = .ok (.ifCond .ge 20, 3) := dk_156 0 20 (dk_at dksX3_put_2 21 rfl rfl)
theorem dX3_put_71 : decode cX3_put 71 = .ok (.aload_n 0, 1) := dk_42 (dk_at dksX3_put_3 0 rfl rfl)
theorem dX3_put_72 : decode cX3_put 72 = .ok (.getfield 39, 3) := dk_180 0 39 (dk_at dksX3_put_3 1 rfl rfl)
theorem dX3_put_75 : decode cX3_put 75 = .ok (.iload_n 1, 1) := dk_27 (dk_at dksX3_put_3 4 rfl rfl)
theorem dX3_put_76 : decode cX3_put 76 = .ok (.iaload, 1) := dk_46 (dk_at dksX3_put_3 5 rfl rfl)
theorem dX3_put_77 : decode cX3_put 77 = .ok (.bipush 10, 2) := dk_16 10 (dk_at dksX3_put_3 6 rfl rfl)
theorem dX3_put_79 : decode cX3_put 79 = .ok (.if_icmp .ne 9, 3) := dk_160 0 9 (dk_at dksX3_put_3 8 rfl rfl)
theorem dX3_put_82 : decode cX3_put 82 = .ok (.aload_n 0, 1) := dk_42 (dk_at dksX3_put_3 11 rfl rfl)
theorem dX3_put_83 : decode cX3_put 83 = .ok (.iconst 3, 1) := dk_6 (dk_at dksX3_put_3 12 rfl rfl)
theorem dX3_put_84 : decode cX3_put 84 = .ok (.invokevirtual 158, 3) := dk_182 0 158 (dk_at dksX3_put_3 13 rfl rfl)
theorem dX3_put_87 : decode cX3_put 87 = .ok (.ireturn, 1) := dk_172 (dk_at dksX3_put_3 16 rfl rfl)
theorem dX3_put_88 : decode cX3_put 88 = .ok (.aload_n 0, 1) := dk_42 (dk_at dksX3_put_3 17 rfl rfl)
theorem dX3_put_89 : decode cX3_put 89 = .ok (.iconst 0, 1) := dk_3 (dk_at dksX3_put_3 18 rfl rfl)
theorem dX3_put_90 : decode cX3_put 90 = .ok (.putfield 16, 3) := dk_181 0 16 (dk_at dksX3_put_3 19 rfl rfl)
theorem dX3_put_93 : decode cX3_put 93 = .ok (.iload 5, 2) := dk_21 5 (dk_at dksX3_put_3 22 rfl rfl)
theorem dX3_put_95 : decode cX3_put 95 = .ok (.ifCond .ge 34, 3) := dk_156 0 34 (dk_at dksX3_put_4 0 rfl rfl)
theorem dX3_put_98 : decode cX3_put 98 = .ok (.aload_n 0, 1) := dk_42 (dk_at dksX3_put_4 3 rfl rfl)
theorem dX3_put_99 : decode cX3_put 99 = .ok (.getfield 39, 3) := dk_180 0 39 (dk_at dksX3_put_4 4 rfl rfl)
theorem dX3_put_102 : decode cX3_put 102 = .ok (.iload_n 1, 1) := dk_27 (dk_at dksX3_put_4 7 rfl rfl)
theorem dX3_put_103 : decode cX3_put 103 = .ok (.iaload, 1) := dk_46 (dk_at dksX3_put_4 8 rfl rfl)
theorem dX3_put_104 : decode cX3_put 104 = .ok (.istore 5, 2) := dk_54 5 (dk_at dksX3_put_4 9 rfl rfl)
theorem dX3_put_106 : decode cX3_put 106 = .ok (.aload_n 0, 1) := dk_42 (dk_at dksX3_put_4 11 rfl rfl)
theorem dX3_put_107 : decode cX3_put 107 = .ok (.getfield 39, 3) := dk_180 0 39 (dk_at dksX3_put_4 12 rfl rfl)
theorem dX3_put_110 : decode cX3_put 110 = .ok (.iload_n 1, 1) := dk_27 (dk_at dksX3_put_4 15 rfl rfl)
theorem dX3_put_111 : decode cX3_put 111 = .ok (.dup2, 1) := dk_92 (dk_at dksX3_put_4 16 rfl rfl)
theorem dX3_put_112 : decode cX3_put 112 = .ok (.iaload, 1) := dk_46 (dk_at dksX3_put_4 17 rfl rfl)
theorem dX3_put_113 : decode cX3_put 113 = .ok (.iconst 1, 1) := dk_4 (dk_at dksX3_put_4 18 rfl rfl)
theorem dX3_put_114 : decode cX3_put 114 = .ok (.iadd, 1) := dk_96 (dk_at dksX3_put_4 19 rfl rfl)
theorem dX3_put_115 : decode cX3_put 115 = .ok (.iastore, 1) := dk_79 (dk_at dksX3_put_4 20 rfl rfl)
theorem dX3_put_116 : decode cX3_put 116 = .ok (.aload_n 0, 1) := dk_42 (dk_at dksX3_put_4 21 rfl rfl)
theorem dX3_put_117 : decode cX3_put 117 = .ok (.getfield 48, 3) := dk_180 0 48 (dk_at dksX3_put_5 0 rfl rfl)
theorem dX3_put_120 : decode cX3_put 120 = .ok (.iload_n 1, 1) := dk_27 (dk_at dksX3_put_5 3 rfl rfl)
theorem dX3_put_121 : decode cX3_put 121 = .ok (.bipush 10, 2) := dk_16 10 (dk_at dksX3_put_5 4 rfl rfl)
theorem dX3_put_123 : decode cX3_put 123 = .ok (.imul, 1) := dk_104 (dk_at dksX3_put_5 6 rfl rfl)
theorem dX3_put_124 : decode cX3_put 124 = .ok (.iload 5, 2) := dk_21 5 (dk_at dksX3_put_5 7 rfl rfl)
theorem dX3_put_126 : decode cX3_put 126 = .ok (.iadd, 1) := dk_96 (dk_at dksX3_put_5 9 rfl rfl)
theorem dX3_put_127 : decode cX3_put 127 = .ok (.lload_n 3, 1) := dk_33 (dk_at dksX3_put_5 10 rfl rfl)
theorem dX3_put_128 : decode cX3_put 128 = .ok (.lastore, 1) := dk_80 (dk_at dksX3_put_5 11 rfl rfl)
theorem dX3_put_129 : decode cX3_put 129 = .ok (.aload_n 0, 1) := dk_42 (dk_at dksX3_put_5 12 rfl rfl)
theorem dX3_put_130 : decode cX3_put 130 = .ok (.getfield 45, 3) := dk_180 0 45 (dk_at dksX3_put_5 13 rfl rfl)
theorem dX3_put_133 : decode cX3_put 133 = .ok (.iload_n 1, 1) := dk_27 (dk_at dksX3_put_5 16 rfl rfl)
theorem dX3_put_134 : decode cX3_put 134 = .ok (.bipush 10, 2) := dk_16 10 (dk_at dksX3_put_5 17 rfl rfl)
theorem dX3_put_136 : decode cX3_put 136 = .ok (.imul, 1) := dk_104 (dk_at dksX3_put_5 19 rfl rfl)
theorem dX3_put_137 : decode cX3_put 137 = .ok (.iload 5, 2) := dk_21 5 (dk_at dksX3_put_5 20 rfl rfl)
theorem dX3_put_139 : decode cX3_put 139 = .ok (.iadd, 1) := dk_96 (dk_at dksX3_put_5 22 rfl rfl)
theorem dX3_put_140 : decode cX3_put 140 = .ok (.iload_n 2, 1) := dk_28 (dk_at dksX3_put_5 23 rfl rfl)
theorem dX3_put_141 : decode cX3_put 141 = .ok (.iastore, 1) := dk_79 (dk_at dksX3_put_6 0 rfl rfl)
theorem dX3_put_142 : decode cX3_put 142 = .ok (.aload_n 0, 1) := dk_42 (dk_at dksX3_put_6 1 rfl rfl)
theorem dX3_put_143 : decode cX3_put 143 = .ok (.aload_n 0, 1) := dk_42 (dk_at dksX3_put_6 2 rfl rfl)
theorem dX3_put_144 : decode cX3_put 144 = .ok (.getfield 39, 3) := dk_180 0 39 (dk_at dksX3_put_6 3 rfl rfl)
theorem dX3_put_147 : decode cX3_put 147 = .ok (.iload_n 1, 1) := dk_27 (dk_at dksX3_put_6 6 rfl rfl)
theorem dX3_put_148 : decode cX3_put 148 = .ok (.iaload, 1) := dk_46 (dk_at dksX3_put_6 7 rfl rfl)
theorem dX3_put_149 : decode cX3_put 149 = .ok (.invokevirtual 162, 3) := dk_182 0 162 (dk_at dksX3_put_6 8 rfl rfl)
theorem dX3_put_152 : decode cX3_put 152 = .ok (.ireturn, 1) := dk_172 (dk_at dksX3_put_6 11 rfl rfl)
abbrev cX3_lineName : ByteArray := prog_24_method_15_code
def yX3_lineName : MethodName := ⟨RX3, "lineName", "()J"⟩
def dkwX3_lineName_2 : List UInt8 := [52, 133, 97, 20, 0, 182, 101, 64, 132, 3, 1, 167, 255, 203, 31, 173]
abbrev dktX3_lineName_2 : List UInt8 := dkwX3_lineName_2 ++ []
def dkwX3_lineName_1 : List UInt8 := [153, 0, 12, 42, 180, 0, 16, 16, 8, 164, 0, 5, 9, 173, 31, 20, 0, 180, 105, 42, 180, 0, 31, 29]
abbrev dktX3_lineName_1 : List UInt8 := dkwX3_lineName_1 ++ dktX3_lineName_2
def dkwX3_lineName_0 : List UInt8 := [9, 64, 3, 62, 29, 42, 180, 0, 16, 162, 0, 51, 42, 42, 180, 0, 31, 29, 52, 182, 0, 177]
abbrev dktX3_lineName_0 : List UInt8 := dkwX3_lineName_0 ++ dktX3_lineName_1
theorem dksX3_lineName_0 : cX3_lineName.data.toList.drop 0 = dktX3_lineName_0 := by decide +kernel
theorem dksX3_lineName_1 : cX3_lineName.data.toList.drop 22 = dktX3_lineName_1 := dk_seg dksX3_lineName_0 22 rfl rfl
theorem dksX3_lineName_2 : cX3_lineName.data.toList.drop 46 = dktX3_lineName_2 := dk_seg dksX3_lineName_1 24 rfl rfl
theorem dX3_lineName_0 : decode cX3_lineName 0 = .ok (.lconst 0, 1) := dk_9 (dk_at dksX3_lineName_0 0 rfl rfl)
theorem dX3_lineName_1 : decode cX3_lineName 1 = .ok (.lstore_n 1, 1) := dk_64 (dk_at dksX3_lineName_0 1 rfl rfl)
theorem dX3_lineName_2 : decode cX3_lineName 2 = .ok (.iconst 0, 1) := dk_3 (dk_at dksX3_lineName_0 2 rfl rfl)
theorem dX3_lineName_3 : decode cX3_lineName 3 = .ok (.istore_n 3, 1) := dk_62 (dk_at dksX3_lineName_0 3 rfl rfl)
theorem dX3_lineName_4 : decode cX3_lineName 4 = .ok (.iload_n 3, 1) := dk_29 (dk_at dksX3_lineName_0 4 rfl rfl)
theorem dX3_lineName_5 : decode cX3_lineName 5 = .ok (.aload_n 0, 1) := dk_42 (dk_at dksX3_lineName_0 5 rfl rfl)
theorem dX3_lineName_6 : decode cX3_lineName 6 = .ok (.getfield 16, 3) := dk_180 0 16 (dk_at dksX3_lineName_0 6 rfl rfl)
theorem dX3_lineName_9 : decode cX3_lineName 9 = .ok (.if_icmp .ge 51, 3) := dk_162 0 51 (dk_at dksX3_lineName_0 9 rfl rfl)
theorem dX3_lineName_12 : decode cX3_lineName 12 = .ok (.aload_n 0, 1) := dk_42 (dk_at dksX3_lineName_0 12 rfl rfl)
theorem dX3_lineName_13 : decode cX3_lineName 13 = .ok (.aload_n 0, 1) := dk_42 (dk_at dksX3_lineName_0 13 rfl rfl)
theorem dX3_lineName_14 : decode cX3_lineName 14 = .ok (.getfield 31, 3) := dk_180 0 31 (dk_at dksX3_lineName_0 14 rfl rfl)
theorem dX3_lineName_17 : decode cX3_lineName 17 = .ok (.iload_n 3, 1) := dk_29 (dk_at dksX3_lineName_0 17 rfl rfl)
theorem dX3_lineName_18 : decode cX3_lineName 18 = .ok (.caload, 1) := dk_52 (dk_at dksX3_lineName_0 18 rfl rfl)
theorem dX3_lineName_19 : decode cX3_lineName 19 = .ok (.invokevirtual 177, 3) := dk_182 0 177 (dk_at dksX3_lineName_0 19 rfl rfl)
theorem dX3_lineName_22 : decode cX3_lineName 22 = .ok (.ifCond .eq 12, 3) := dk_153 0 12 (dk_at dksX3_lineName_1 0 rfl rfl)
theorem dX3_lineName_25 : decode cX3_lineName 25 = .ok (.aload_n 0, 1) := dk_42 (dk_at dksX3_lineName_1 3 rfl rfl)
theorem dX3_lineName_26 : decode cX3_lineName 26 = .ok (.getfield 16, 3) := dk_180 0 16 (dk_at dksX3_lineName_1 4 rfl rfl)
theorem dX3_lineName_29 : decode cX3_lineName 29 = .ok (.bipush 8, 2) := dk_16 8 (dk_at dksX3_lineName_1 7 rfl rfl)
theorem dX3_lineName_31 : decode cX3_lineName 31 = .ok (.if_icmp .le 5, 3) := dk_164 0 5 (dk_at dksX3_lineName_1 9 rfl rfl)
theorem dX3_lineName_34 : decode cX3_lineName 34 = .ok (.lconst 0, 1) := dk_9 (dk_at dksX3_lineName_1 12 rfl rfl)
theorem dX3_lineName_35 : decode cX3_lineName 35 = .ok (.lreturn, 1) := dk_173 (dk_at dksX3_lineName_1 13 rfl rfl)
theorem dX3_lineName_36 : decode cX3_lineName 36 = .ok (.lload_n 1, 1) := dk_31 (dk_at dksX3_lineName_1 14 rfl rfl)
theorem dX3_lineName_37 : decode cX3_lineName 37 = .ok (.ldc2_w 180, 3) := dk_20 0 180 (dk_at dksX3_lineName_1 15 rfl rfl)
theorem dX3_lineName_40 : decode cX3_lineName 40 = .ok (.lmul, 1) := dk_105 (dk_at dksX3_lineName_1 18 rfl rfl)
theorem dX3_lineName_41 : decode cX3_lineName 41 = .ok (.aload_n 0, 1) := dk_42 (dk_at dksX3_lineName_1 19 rfl rfl)
theorem dX3_lineName_42 : decode cX3_lineName 42 = .ok (.getfield 31, 3) := dk_180 0 31 (dk_at dksX3_lineName_1 20 rfl rfl)
theorem dX3_lineName_45 : decode cX3_lineName 45 = .ok (.iload_n 3, 1) := dk_29 (dk_at dksX3_lineName_1 23 rfl rfl)
theorem dX3_lineName_46 : decode cX3_lineName 46 = .ok (.caload, 1) := dk_52 (dk_at dksX3_lineName_2 0 rfl rfl)
theorem dX3_lineName_47 : decode cX3_lineName 47 = .ok (.i2l, 1) := dk_133 (dk_at dksX3_lineName_2 1 rfl rfl)
theorem dX3_lineName_48 : decode cX3_lineName 48 = .ok (.ladd, 1) := dk_97 (dk_at dksX3_lineName_2 2 rfl rfl)
theorem dX3_lineName_49 : decode cX3_lineName 49 = .ok (.ldc2_w 182, 3) := dk_20 0 182 (dk_at dksX3_lineName_2 3 rfl rfl)
theorem dX3_lineName_52 : decode cX3_lineName 52 = .ok (.lsub, 1) := dk_101 (dk_at dksX3_lineName_2 6 rfl rfl)
theorem dX3_lineName_53 : decode cX3_lineName 53 = .ok (.lstore_n 1, 1) := dk_64 (dk_at dksX3_lineName_2 7 rfl rfl)
theorem dX3_lineName_54 : decode cX3_lineName 54 = .ok (.iinc 3 1, 3) := dk_132 3 1 (dk_at dksX3_lineName_2 8 rfl rfl)
theorem dX3_lineName_57 : decode cX3_lineName 57 = .ok (.goto (-53), 3) := dk_167 255 203 (dk_at dksX3_lineName_2 11 rfl rfl)
theorem dX3_lineName_60 : decode cX3_lineName 60 = .ok (.lload_n 1, 1) := dk_31 (dk_at dksX3_lineName_2 14 rfl rfl)
theorem dX3_lineName_61 : decode cX3_lineName 61 = .ok (.lreturn, 1) := dk_173 (dk_at dksX3_lineName_2 15 rfl rfl)
abbrev cX3_letter : ByteArray := prog_24_method_14_code
def yX3_letter : MethodName := ⟨RX3, "letter", "(I)Z"⟩
def dkwX3_letter_0 : List UInt8 := [27, 16, 97, 161, 0, 13, 27, 16, 122, 163, 0, 7, 4, 167, 0, 4, 3, 172]
abbrev dktX3_letter_0 : List UInt8 := dkwX3_letter_0 ++ []
theorem dksX3_letter_0 : cX3_letter.data.toList.drop 0 = dktX3_letter_0 := by decide +kernel
theorem dX3_letter_0 : decode cX3_letter 0 = .ok (.iload_n 1, 1) := dk_27 (dk_at dksX3_letter_0 0 rfl rfl)
theorem dX3_letter_1 : decode cX3_letter 1 = .ok (.bipush 97, 2) := dk_16 97 (dk_at dksX3_letter_0 1 rfl rfl)
theorem dX3_letter_3 : decode cX3_letter 3 = .ok (.if_icmp .lt 13, 3) := dk_161 0 13 (dk_at dksX3_letter_0 3 rfl rfl)
theorem dX3_letter_6 : decode cX3_letter 6 = .ok (.iload_n 1, 1) := dk_27 (dk_at dksX3_letter_0 6 rfl rfl)
theorem dX3_letter_7 : decode cX3_letter 7 = .ok (.bipush 122, 2) := dk_16 122 (dk_at dksX3_letter_0 7 rfl rfl)
theorem dX3_letter_9 : decode cX3_letter 9 = .ok (.if_icmp .gt 7, 3) := dk_163 0 7 (dk_at dksX3_letter_0 9 rfl rfl)
theorem dX3_letter_12 : decode cX3_letter 12 = .ok (.iconst 1, 1) := dk_4 (dk_at dksX3_letter_0 12 rfl rfl)
theorem dX3_letter_13 : decode cX3_letter 13 = .ok (.goto 4, 3) := dk_167 0 4 (dk_at dksX3_letter_0 13 rfl rfl)
theorem dX3_letter_16 : decode cX3_letter 16 = .ok (.iconst 0, 1) := dk_3 (dk_at dksX3_letter_0 16 rfl rfl)
theorem dX3_letter_17 : decode cX3_letter 17 = .ok (.ireturn, 1) := dk_172 (dk_at dksX3_letter_0 17 rfl rfl)
abbrev cX3_find : ByteArray := prog_24_method_16_code
def yX3_find : MethodName := ⟨RX3, "find", "(IJ)I"⟩
def dkwX3_find_1 : List UInt8 := [96, 47, 32, 148, 154, 0, 6, 21, 4, 172, 132, 4, 1, 167, 255, 222, 2, 172]
abbrev dktX3_find_1 : List UInt8 := dkwX3_find_1 ++ []
def dkwX3_find_0 : List UInt8 := [3, 54, 4, 21, 4, 42, 180, 0, 39, 27, 46, 162, 0, 29, 42, 180, 0, 48, 27, 16, 10, 104, 21, 4]
abbrev dktX3_find_0 : List UInt8 := dkwX3_find_0 ++ dktX3_find_1
theorem dksX3_find_0 : cX3_find.data.toList.drop 0 = dktX3_find_0 := by decide +kernel
theorem dksX3_find_1 : cX3_find.data.toList.drop 24 = dktX3_find_1 := dk_seg dksX3_find_0 24 rfl rfl
theorem dX3_find_0 : decode cX3_find 0 = .ok (.iconst 0, 1) := dk_3 (dk_at dksX3_find_0 0 rfl rfl)
theorem dX3_find_1 : decode cX3_find 1 = .ok (.istore 4, 2) := dk_54 4 (dk_at dksX3_find_0 1 rfl rfl)
theorem dX3_find_3 : decode cX3_find 3 = .ok (.iload 4, 2) := dk_21 4 (dk_at dksX3_find_0 3 rfl rfl)
theorem dX3_find_5 : decode cX3_find 5 = .ok (.aload_n 0, 1) := dk_42 (dk_at dksX3_find_0 5 rfl rfl)
theorem dX3_find_6 : decode cX3_find 6 = .ok (.getfield 39, 3) := dk_180 0 39 (dk_at dksX3_find_0 6 rfl rfl)
theorem dX3_find_9 : decode cX3_find 9 = .ok (.iload_n 1, 1) := dk_27 (dk_at dksX3_find_0 9 rfl rfl)
theorem dX3_find_10 : decode cX3_find 10 = .ok (.iaload, 1) := dk_46 (dk_at dksX3_find_0 10 rfl rfl)
theorem dX3_find_11 : decode cX3_find 11 = .ok (.if_icmp .ge 29, 3) := dk_162 0 29 (dk_at dksX3_find_0 11 rfl rfl)
theorem dX3_find_14 : decode cX3_find 14 = .ok (.aload_n 0, 1) := dk_42 (dk_at dksX3_find_0 14 rfl rfl)
theorem dX3_find_15 : decode cX3_find 15 = .ok (.getfield 48, 3) := dk_180 0 48 (dk_at dksX3_find_0 15 rfl rfl)
theorem dX3_find_18 : decode cX3_find 18 = .ok (.iload_n 1, 1) := dk_27 (dk_at dksX3_find_0 18 rfl rfl)
theorem dX3_find_19 : decode cX3_find 19 = .ok (.bipush 10, 2) := dk_16 10 (dk_at dksX3_find_0 19 rfl rfl)
theorem dX3_find_21 : decode cX3_find 21 = .ok (.imul, 1) := dk_104 (dk_at dksX3_find_0 21 rfl rfl)
theorem dX3_find_22 : decode cX3_find 22 = .ok (.iload 4, 2) := dk_21 4 (dk_at dksX3_find_0 22 rfl rfl)
theorem dX3_find_24 : decode cX3_find 24 = .ok (.iadd, 1) := dk_96 (dk_at dksX3_find_1 0 rfl rfl)
theorem dX3_find_25 : decode cX3_find 25 = .ok (.laload, 1) := dk_47 (dk_at dksX3_find_1 1 rfl rfl)
theorem dX3_find_26 : decode cX3_find 26 = .ok (.lload_n 2, 1) := dk_32 (dk_at dksX3_find_1 2 rfl rfl)
theorem dX3_find_27 : decode cX3_find 27 = .ok (.lcmp, 1) := dk_148 (dk_at dksX3_find_1 3 rfl rfl)
theorem dX3_find_28 : decode cX3_find 28 = .ok (.ifCond .ne 6, 3) := dk_154 0 6 (dk_at dksX3_find_1 4 rfl rfl)
theorem dX3_find_31 : decode cX3_find 31 = .ok (.iload 4, 2) := dk_21 4 (dk_at dksX3_find_1 7 rfl rfl)
theorem dX3_find_33 : decode cX3_find 33 = .ok (.ireturn, 1) := dk_172 (dk_at dksX3_find_1 9 rfl rfl)
theorem dX3_find_34 : decode cX3_find 34 = .ok (.iinc 4 1, 3) := dk_132 4 1 (dk_at dksX3_find_1 10 rfl rfl)
theorem dX3_find_37 : decode cX3_find 37 = .ok (.goto (-34), 3) := dk_167 255 222 (dk_at dksX3_find_1 13 rfl rfl)
theorem dX3_find_40 : decode cX3_find 40 = .ok (.iconst (-1), 1) := dk_2 (dk_at dksX3_find_1 16 rfl rfl)
theorem dX3_find_41 : decode cX3_find 41 = .ok (.ireturn, 1) := dk_172 (dk_at dksX3_find_1 17 rfl rfl)
abbrev cX3_compile : ByteArray := prog_24_method_32_code
def yX3_compile : MethodName := ⟨RX3, "compile", "(I)I"⟩
def dkwX3_compile_12 : List UInt8 := [84, 42, 42, 180, 0, 62, 27, 46, 182, 0, 162, 172]
abbrev dktX3_compile_12 : List UInt8 := dkwX3_compile_12 ++ []
def dkwX3_compile_11 : List UInt8 := [180, 0, 59, 27, 28, 79, 42, 180, 0, 62, 27, 42, 180, 0, 62, 7, 46, 79, 42, 180, 0, 65, 27, 4]
abbrev dktX3_compile_11 : List UInt8 := dkwX3_compile_11 ++ dktX3_compile_12
def dkwX3_compile_10 : List UInt8 := [21, 6, 42, 42, 180, 0, 86, 21, 5, 46, 21, 4, 182, 1, 23, 79, 132, 5, 1, 167, 255, 113, 42]
abbrev dktX3_compile_10 : List UInt8 := dkwX3_compile_10 ++ dktX3_compile_11
def dkwX3_compile_9 : List UInt8 := [180, 0, 83, 21, 6, 42, 42, 180, 0, 83, 21, 5, 46, 21, 4, 182, 1, 23, 79, 42, 180, 0, 86]
abbrev dktX3_compile_9 : List UInt8 := dkwX3_compile_9 ++ dktX3_compile_10
def dkwX3_compile_8 : List UInt8 := [180, 0, 77, 21, 5, 46, 29, 96, 79, 42, 180, 0, 80, 21, 6, 42, 180, 0, 80, 21, 5, 46, 79, 42]
abbrev dktX3_compile_8 : List UInt8 := dkwX3_compile_8 ++ dktX3_compile_9
def dkwX3_compile_7 : List UInt8 := [79, 42, 180, 0, 74, 21, 6, 42, 180, 0, 74, 21, 5, 46, 29, 96, 79, 42, 180, 0, 77, 21, 6, 42]
abbrev dktX3_compile_7 : List UInt8 := dkwX3_compile_7 ++ dktX3_compile_8
def dkwX3_compile_6 : List UInt8 := [180, 0, 68, 21, 5, 46, 29, 96, 79, 42, 180, 0, 71, 21, 6, 42, 180, 0, 71, 21, 5, 46, 29, 96]
abbrev dktX3_compile_6 : List UInt8 := dkwX3_compile_6 ++ dktX3_compile_7
def dkwX3_compile_5 : List UInt8 := [42, 180, 0, 62, 7, 46, 96, 162, 0, 134, 21, 5, 21, 4, 96, 54, 6, 42, 180, 0, 68, 21, 6, 42]
abbrev dktX3_compile_5 : List UInt8 := dkwX3_compile_5 ++ dktX3_compile_6
def dkwX3_compile_4 : List UInt8 := [17, 3, 32, 21, 5, 96, 52, 85, 132, 5, 1, 167, 255, 223, 17, 0, 200, 54, 5, 21, 5, 17, 0, 200]
abbrev dktX3_compile_4 : List UInt8 := dkwX3_compile_4 ++ dktX3_compile_5
def dkwX3_compile_3 : List UInt8 := [21, 5, 28, 162, 0, 33, 42, 180, 0, 56, 27, 17, 0, 200, 104, 21, 5, 96, 42, 180, 0, 56]
abbrev dktX3_compile_3 : List UInt8 := dkwX3_compile_3 ++ dktX3_compile_4
def dkwX3_compile_2 : List UInt8 := [27, 17, 0, 200, 104, 17, 3, 32, 100, 62, 27, 16, 50, 104, 17, 0, 200, 100, 54, 4, 3, 54, 5]
abbrev dktX3_compile_2 : List UInt8 := dkwX3_compile_2 ++ dktX3_compile_3
def dkwX3_compile_1 : List UInt8 := [182, 1, 19, 181, 0, 19, 42, 3, 181, 0, 16, 42, 180, 0, 19, 155, 0, 9, 42, 5, 182, 0, 158, 172]
abbrev dktX3_compile_1 : List UInt8 := dkwX3_compile_1 ++ dktX3_compile_2
def dkwX3_compile_0 : List UInt8 := [27, 155, 0, 8, 27, 6, 164, 0, 9, 42, 4, 182, 0, 158, 172, 42, 180, 0, 16, 61, 42, 42]
abbrev dktX3_compile_0 : List UInt8 := dkwX3_compile_0 ++ dktX3_compile_1
theorem dksX3_compile_0 : cX3_compile.data.toList.drop 0 = dktX3_compile_0 := by decide +kernel
theorem dksX3_compile_1 : cX3_compile.data.toList.drop 22 = dktX3_compile_1 := dk_seg dksX3_compile_0 22 rfl rfl
theorem dksX3_compile_2 : cX3_compile.data.toList.drop 46 = dktX3_compile_2 := dk_seg dksX3_compile_1 24 rfl rfl
theorem dksX3_compile_3 : cX3_compile.data.toList.drop 69 = dktX3_compile_3 := dk_seg dksX3_compile_2 23 rfl rfl
theorem dksX3_compile_4 : cX3_compile.data.toList.drop 91 = dktX3_compile_4 := dk_seg dksX3_compile_3 22 rfl rfl
theorem dksX3_compile_5 : cX3_compile.data.toList.drop 115 = dktX3_compile_5 := dk_seg dksX3_compile_4 24 rfl rfl
theorem dksX3_compile_6 : cX3_compile.data.toList.drop 139 = dktX3_compile_6 := dk_seg dksX3_compile_5 24 rfl rfl
theorem dksX3_compile_7 : cX3_compile.data.toList.drop 163 = dktX3_compile_7 := dk_seg dksX3_compile_6 24 rfl rfl
theorem dksX3_compile_8 : cX3_compile.data.toList.drop 187 = dktX3_compile_8 := dk_seg dksX3_compile_7 24 rfl rfl
theorem dksX3_compile_9 : cX3_compile.data.toList.drop 211 = dktX3_compile_9 := dk_seg dksX3_compile_8 24 rfl rfl
theorem dksX3_compile_10 : cX3_compile.data.toList.drop 234 = dktX3_compile_10 := dk_seg dksX3_compile_9 23 rfl rfl
theorem dksX3_compile_11 : cX3_compile.data.toList.drop 257 = dktX3_compile_11 := dk_seg dksX3_compile_10 23 rfl rfl
theorem dksX3_compile_12 : cX3_compile.data.toList.drop 281 = dktX3_compile_12 := dk_seg dksX3_compile_11 24 rfl rfl
theorem dX3_compile_0 : decode cX3_compile 0 = .ok (.iload_n 1, 1) := dk_27 (dk_at dksX3_compile_0 0 rfl rfl)
theorem dX3_compile_1 : decode cX3_compile 1 = .ok (.ifCond .lt 8, 3) := dk_155 0 8 (dk_at dksX3_compile_0 1 rfl rfl)
theorem dX3_compile_4 : decode cX3_compile 4 = .ok (.iload_n 1, 1) := dk_27 (dk_at dksX3_compile_0 4 rfl rfl)
theorem dX3_compile_5 : decode cX3_compile 5 = .ok (.iconst 3, 1) := dk_6 (dk_at dksX3_compile_0 5 rfl rfl)
theorem dX3_compile_6 : decode cX3_compile 6 = .ok (.if_icmp .le 9, 3) := dk_164 0 9 (dk_at dksX3_compile_0 6 rfl rfl)
theorem dX3_compile_9 : decode cX3_compile 9 = .ok (.aload_n 0, 1) := dk_42 (dk_at dksX3_compile_0 9 rfl rfl)
theorem dX3_compile_10 : decode cX3_compile 10 = .ok (.iconst 1, 1) := dk_4 (dk_at dksX3_compile_0 10 rfl rfl)
theorem dX3_compile_11 : decode cX3_compile 11 = .ok (.invokevirtual 158, 3) := dk_182 0 158 (dk_at dksX3_compile_0 11 rfl rfl)
theorem dX3_compile_14 : decode cX3_compile 14 = .ok (.ireturn, 1) := dk_172 (dk_at dksX3_compile_0 14 rfl rfl)
theorem dX3_compile_15 : decode cX3_compile 15 = .ok (.aload_n 0, 1) := dk_42 (dk_at dksX3_compile_0 15 rfl rfl)
theorem dX3_compile_16 : decode cX3_compile 16 = .ok (.getfield 16, 3) := dk_180 0 16 (dk_at dksX3_compile_0 16 rfl rfl)
theorem dX3_compile_19 : decode cX3_compile 19 = .ok (.istore_n 2, 1) := dk_61 (dk_at dksX3_compile_0 19 rfl rfl)
theorem dX3_compile_20 : decode cX3_compile 20 = .ok (.aload_n 0, 1) := dk_42 (dk_at dksX3_compile_0 20 rfl rfl)
theorem dX3_compile_21 : decode cX3_compile 21 = .ok (.aload_n 0, 1) := dk_42 (dk_at dksX3_compile_0 21 rfl rfl)
theorem dX3_compile_22 : decode cX3_compile 22 = .ok (.invokevirtual 275, 3) := dk_182 1 19 (dk_at dksX3_compile_1 0 rfl rfl)
theorem dX3_compile_25 : decode cX3_compile 25 = .ok (.putfield 19, 3) := dk_181 0 19 (dk_at dksX3_compile_1 3 rfl rfl)
theorem dX3_compile_28 : decode cX3_compile 28 = .ok (.aload_n 0, 1) := dk_42 (dk_at dksX3_compile_1 6 rfl rfl)
theorem dX3_compile_29 : decode cX3_compile 29 = .ok (.iconst 0, 1) := dk_3 (dk_at dksX3_compile_1 7 rfl rfl)
theorem dX3_compile_30 : decode cX3_compile 30 = .ok (.putfield 16, 3) := dk_181 0 16 (dk_at dksX3_compile_1 8 rfl rfl)
theorem dX3_compile_33 : decode cX3_compile 33 = .ok (.aload_n 0, 1) := dk_42 (dk_at dksX3_compile_1 11 rfl rfl)
theorem dX3_compile_34 : decode cX3_compile 34 = .ok (.getfield 19, 3) := dk_180 0 19 (dk_at dksX3_compile_1 12 rfl rfl)
theorem dX3_compile_37 : decode cX3_compile 37 = .ok (.ifCond .lt 9, 3) := dk_155 0 9 (dk_at dksX3_compile_1 15 rfl rfl)
theorem dX3_compile_40 : decode cX3_compile 40 = .ok (.aload_n 0, 1) := dk_42 (dk_at dksX3_compile_1 18 rfl rfl)
theorem dX3_compile_41 : decode cX3_compile 41 = .ok (.iconst 2, 1) := dk_5 (dk_at dksX3_compile_1 19 rfl rfl)
theorem dX3_compile_42 : decode cX3_compile 42 = .ok (.invokevirtual 158, 3) := dk_182 0 158 (dk_at dksX3_compile_1 20 rfl rfl)
theorem dX3_compile_45 : decode cX3_compile 45 = .ok (.ireturn, 1) := dk_172 (dk_at dksX3_compile_1 23 rfl rfl)
theorem dX3_compile_46 : decode cX3_compile 46 = .ok (.iload_n 1, 1) := dk_27 (dk_at dksX3_compile_2 0 rfl rfl)
theorem dX3_compile_47 : decode cX3_compile 47 = .ok (.sipush 200, 3) := dk_17 0 200 (dk_at dksX3_compile_2 1 rfl rfl)
theorem dX3_compile_50 : decode cX3_compile 50 = .ok (.imul, 1) := dk_104 (dk_at dksX3_compile_2 4 rfl rfl)
theorem dX3_compile_51 : decode cX3_compile 51 = .ok (.sipush 800, 3) := dk_17 3 32 (dk_at dksX3_compile_2 5 rfl rfl)
theorem dX3_compile_54 : decode cX3_compile 54 = .ok (.isub, 1) := dk_100 (dk_at dksX3_compile_2 8 rfl rfl)
theorem dX3_compile_55 : decode cX3_compile 55 = .ok (.istore_n 3, 1) := dk_62 (dk_at dksX3_compile_2 9 rfl rfl)
theorem dX3_compile_56 : decode cX3_compile 56 = .ok (.iload_n 1, 1) := dk_27 (dk_at dksX3_compile_2 10 rfl rfl)
theorem dX3_compile_57 : decode cX3_compile 57 = .ok (.bipush 50, 2) := dk_16 50 (dk_at dksX3_compile_2 11 rfl rfl)
theorem dX3_compile_59 : decode cX3_compile 59 = .ok (.imul, 1) := dk_104 (dk_at dksX3_compile_2 13 rfl rfl)
theorem dX3_compile_60 : decode cX3_compile 60 = .ok (.sipush 200, 3) := dk_17 0 200 (dk_at dksX3_compile_2 14 rfl rfl)
theorem dX3_compile_63 : decode cX3_compile 63 = .ok (.isub, 1) := dk_100 (dk_at dksX3_compile_2 17 rfl rfl)
theorem dX3_compile_64 : decode cX3_compile 64 = .ok (.istore 4, 2) := dk_54 4 (dk_at dksX3_compile_2 18 rfl rfl)
theorem dX3_compile_66 : decode cX3_compile 66 = .ok (.iconst 0, 1) := dk_3 (dk_at dksX3_compile_2 20 rfl rfl)
theorem dX3_compile_67 : decode cX3_compile 67 = .ok (.istore 5, 2) := dk_54 5 (dk_at dksX3_compile_2 21 rfl rfl)
theorem dX3_compile_69 : decode cX3_compile 69 = .ok (.iload 5, 2) := dk_21 5 (dk_at dksX3_compile_3 0 rfl rfl)
theorem dX3_compile_71 : decode cX3_compile 71 = .ok (.iload_n 2, 1) := dk_28 (dk_at dksX3_compile_3 2 rfl rfl)
theorem dX3_compile_72 : decode cX3_compile 72 = .ok (.if_icmp .ge 33, 3) := dk_162 0 33 (dk_at dksX3_compile_3 3 rfl rfl)
theorem dX3_compile_75 : decode cX3_compile 75 = .ok (.aload_n 0, 1) := dk_42 (dk_at dksX3_compile_3 6 rfl rfl)
theorem dX3_compile_76 : decode cX3_compile 76 = .ok (.getfield 56, 3) := dk_180 0 56 (dk_at dksX3_compile_3 7 rfl rfl)
theorem dX3_compile_79 : decode cX3_compile 79 = .ok (.iload_n 1, 1) := dk_27 (dk_at dksX3_compile_3 10 rfl rfl)
theorem dX3_compile_80 : decode cX3_compile 80 = .ok (.sipush 200, 3) := dk_17 0 200 (dk_at dksX3_compile_3 11 rfl rfl)
theorem dX3_compile_83 : decode cX3_compile 83 = .ok (.imul, 1) := dk_104 (dk_at dksX3_compile_3 14 rfl rfl)
theorem dX3_compile_84 : decode cX3_compile 84 = .ok (.iload 5, 2) := dk_21 5 (dk_at dksX3_compile_3 15 rfl rfl)
theorem dX3_compile_86 : decode cX3_compile 86 = .ok (.iadd, 1) := dk_96 (dk_at dksX3_compile_3 17 rfl rfl)
theorem dX3_compile_87 : decode cX3_compile 87 = .ok (.aload_n 0, 1) := dk_42 (dk_at dksX3_compile_3 18 rfl rfl)
theorem dX3_compile_88 : decode cX3_compile 88 = .ok (.getfield 56, 3) := dk_180 0 56 (dk_at dksX3_compile_3 19 rfl rfl)
theorem dX3_compile_91 : decode cX3_compile 91 = .ok (.sipush 800, 3) := dk_17 3 32 (dk_at dksX3_compile_4 0 rfl rfl)
theorem dX3_compile_94 : decode cX3_compile 94 = .ok (.iload 5, 2) := dk_21 5 (dk_at dksX3_compile_4 3 rfl rfl)
theorem dX3_compile_96 : decode cX3_compile 96 = .ok (.iadd, 1) := dk_96 (dk_at dksX3_compile_4 5 rfl rfl)
theorem dX3_compile_97 : decode cX3_compile 97 = .ok (.caload, 1) := dk_52 (dk_at dksX3_compile_4 6 rfl rfl)
theorem dX3_compile_98 : decode cX3_compile 98 = .ok (.castore, 1) := dk_85 (dk_at dksX3_compile_4 7 rfl rfl)
theorem dX3_compile_99 : decode cX3_compile 99 = .ok (.iinc 5 1, 3) := dk_132 5 1 (dk_at dksX3_compile_4 8 rfl rfl)
theorem dX3_compile_102 : decode cX3_compile 102 = .ok (.goto (-33), 3) := dk_167 255 223 (dk_at dksX3_compile_4 11 rfl rfl)
theorem dX3_compile_105 : decode cX3_compile 105 = .ok (.sipush 200, 3) := dk_17 0 200 (dk_at dksX3_compile_4 14 rfl rfl)
theorem dX3_compile_108 : decode cX3_compile 108 = .ok (.istore 5, 2) := dk_54 5 (dk_at dksX3_compile_4 17 rfl rfl)
theorem dX3_compile_110 : decode cX3_compile 110 = .ok (.iload 5, 2) := dk_21 5 (dk_at dksX3_compile_4 19 rfl rfl)
theorem dX3_compile_112 : decode cX3_compile 112 = .ok (.sipush 200, 3) := dk_17 0 200 (dk_at dksX3_compile_4 21 rfl rfl)
theorem dX3_compile_115 : decode cX3_compile 115 = .ok (.aload_n 0, 1) := dk_42 (dk_at dksX3_compile_5 0 rfl rfl)
theorem dX3_compile_116 : decode cX3_compile 116 = .ok (.getfield 62, 3) := dk_180 0 62 (dk_at dksX3_compile_5 1 rfl rfl)
theorem dX3_compile_119 : decode cX3_compile 119 = .ok (.iconst 4, 1) := dk_7 (dk_at dksX3_compile_5 4 rfl rfl)
theorem dX3_compile_120 : decode cX3_compile 120 = .ok (.iaload, 1) := dk_46 (dk_at dksX3_compile_5 5 rfl rfl)
theorem dX3_compile_121 : decode cX3_compile 121 = .ok (.iadd, 1) := dk_96 (dk_at dksX3_compile_5 6 rfl rfl)
theorem dX3_compile_122 : decode cX3_compile 122 = .ok (.if_icmp .ge 134, 3) := dk_162 0 134 (dk_at dksX3_compile_5 7 rfl rfl)
theorem dX3_compile_125 : decode cX3_compile 125 = .ok (.iload 5, 2) := dk_21 5 (dk_at dksX3_compile_5 10 rfl rfl)
theorem dX3_compile_127 : decode cX3_compile 127 = .ok (.iload 4, 2) := dk_21 4 (dk_at dksX3_compile_5 12 rfl rfl)
theorem dX3_compile_129 : decode cX3_compile 129 = .ok (.iadd, 1) := dk_96 (dk_at dksX3_compile_5 14 rfl rfl)
theorem dX3_compile_130 : decode cX3_compile 130 = .ok (.istore 6, 2) := dk_54 6 (dk_at dksX3_compile_5 15 rfl rfl)
theorem dX3_compile_132 : decode cX3_compile 132 = .ok (.aload_n 0, 1) := dk_42 (dk_at dksX3_compile_5 17 rfl rfl)
theorem dX3_compile_133 : decode cX3_compile 133 = .ok (.getfield 68, 3) := dk_180 0 68 (dk_at dksX3_compile_5 18 rfl rfl)
theorem dX3_compile_136 : decode cX3_compile 136 = .ok (.iload 6, 2) := dk_21 6 (dk_at dksX3_compile_5 21 rfl rfl)
theorem dX3_compile_138 : decode cX3_compile 138 = .ok (.aload_n 0, 1) := dk_42 (dk_at dksX3_compile_5 23 rfl rfl)
theorem dX3_compile_139 : decode cX3_compile 139 = .ok (.getfield 68, 3) := dk_180 0 68 (dk_at dksX3_compile_6 0 rfl rfl)
theorem dX3_compile_142 : decode cX3_compile 142 = .ok (.iload 5, 2) := dk_21 5 (dk_at dksX3_compile_6 3 rfl rfl)
theorem dX3_compile_144 : decode cX3_compile 144 = .ok (.iaload, 1) := dk_46 (dk_at dksX3_compile_6 5 rfl rfl)
theorem dX3_compile_145 : decode cX3_compile 145 = .ok (.iload_n 3, 1) := dk_29 (dk_at dksX3_compile_6 6 rfl rfl)
theorem dX3_compile_146 : decode cX3_compile 146 = .ok (.iadd, 1) := dk_96 (dk_at dksX3_compile_6 7 rfl rfl)
theorem dX3_compile_147 : decode cX3_compile 147 = .ok (.iastore, 1) := dk_79 (dk_at dksX3_compile_6 8 rfl rfl)
theorem dX3_compile_148 : decode cX3_compile 148 = .ok (.aload_n 0, 1) := dk_42 (dk_at dksX3_compile_6 9 rfl rfl)
theorem dX3_compile_149 : decode cX3_compile 149 = .ok (.getfield 71, 3) := dk_180 0 71 (dk_at dksX3_compile_6 10 rfl rfl)
theorem dX3_compile_152 : decode cX3_compile 152 = .ok (.iload 6, 2) := dk_21 6 (dk_at dksX3_compile_6 13 rfl rfl)
theorem dX3_compile_154 : decode cX3_compile 154 = .ok (.aload_n 0, 1) := dk_42 (dk_at dksX3_compile_6 15 rfl rfl)
theorem dX3_compile_155 : decode cX3_compile 155 = .ok (.getfield 71, 3) := dk_180 0 71 (dk_at dksX3_compile_6 16 rfl rfl)
theorem dX3_compile_158 : decode cX3_compile 158 = .ok (.iload 5, 2) := dk_21 5 (dk_at dksX3_compile_6 19 rfl rfl)
theorem dX3_compile_160 : decode cX3_compile 160 = .ok (.iaload, 1) := dk_46 (dk_at dksX3_compile_6 21 rfl rfl)
theorem dX3_compile_161 : decode cX3_compile 161 = .ok (.iload_n 3, 1) := dk_29 (dk_at dksX3_compile_6 22 rfl rfl)
theorem dX3_compile_162 : decode cX3_compile 162 = .ok (.iadd, 1) := dk_96 (dk_at dksX3_compile_6 23 rfl rfl)
theorem dX3_compile_163 : decode cX3_compile 163 = .ok (.iastore, 1) := dk_79 (dk_at dksX3_compile_7 0 rfl rfl)
theorem dX3_compile_164 : decode cX3_compile 164 = .ok (.aload_n 0, 1) := dk_42 (dk_at dksX3_compile_7 1 rfl rfl)
theorem dX3_compile_165 : decode cX3_compile 165 = .ok (.getfield 74, 3) := dk_180 0 74 (dk_at dksX3_compile_7 2 rfl rfl)
theorem dX3_compile_168 : decode cX3_compile 168 = .ok (.iload 6, 2) := dk_21 6 (dk_at dksX3_compile_7 5 rfl rfl)
theorem dX3_compile_170 : decode cX3_compile 170 = .ok (.aload_n 0, 1) := dk_42 (dk_at dksX3_compile_7 7 rfl rfl)
theorem dX3_compile_171 : decode cX3_compile 171 = .ok (.getfield 74, 3) := dk_180 0 74 (dk_at dksX3_compile_7 8 rfl rfl)
theorem dX3_compile_174 : decode cX3_compile 174 = .ok (.iload 5, 2) := dk_21 5 (dk_at dksX3_compile_7 11 rfl rfl)
theorem dX3_compile_176 : decode cX3_compile 176 = .ok (.iaload, 1) := dk_46 (dk_at dksX3_compile_7 13 rfl rfl)
theorem dX3_compile_177 : decode cX3_compile 177 = .ok (.iload_n 3, 1) := dk_29 (dk_at dksX3_compile_7 14 rfl rfl)
theorem dX3_compile_178 : decode cX3_compile 178 = .ok (.iadd, 1) := dk_96 (dk_at dksX3_compile_7 15 rfl rfl)
theorem dX3_compile_179 : decode cX3_compile 179 = .ok (.iastore, 1) := dk_79 (dk_at dksX3_compile_7 16 rfl rfl)
theorem dX3_compile_180 : decode cX3_compile 180 = .ok (.aload_n 0, 1) := dk_42 (dk_at dksX3_compile_7 17 rfl rfl)
theorem dX3_compile_181 : decode cX3_compile 181 = .ok (.getfield 77, 3) := dk_180 0 77 (dk_at dksX3_compile_7 18 rfl rfl)
theorem dX3_compile_184 : decode cX3_compile 184 = .ok (.iload 6, 2) := dk_21 6 (dk_at dksX3_compile_7 21 rfl rfl)
theorem dX3_compile_186 : decode cX3_compile 186 = .ok (.aload_n 0, 1) := dk_42 (dk_at dksX3_compile_7 23 rfl rfl)
theorem dX3_compile_187 : decode cX3_compile 187 = .ok (.getfield 77, 3) := dk_180 0 77 (dk_at dksX3_compile_8 0 rfl rfl)
theorem dX3_compile_190 : decode cX3_compile 190 = .ok (.iload 5, 2) := dk_21 5 (dk_at dksX3_compile_8 3 rfl rfl)
theorem dX3_compile_192 : decode cX3_compile 192 = .ok (.iaload, 1) := dk_46 (dk_at dksX3_compile_8 5 rfl rfl)
theorem dX3_compile_193 : decode cX3_compile 193 = .ok (.iload_n 3, 1) := dk_29 (dk_at dksX3_compile_8 6 rfl rfl)
theorem dX3_compile_194 : decode cX3_compile 194 = .ok (.iadd, 1) := dk_96 (dk_at dksX3_compile_8 7 rfl rfl)
theorem dX3_compile_195 : decode cX3_compile 195 = .ok (.iastore, 1) := dk_79 (dk_at dksX3_compile_8 8 rfl rfl)
theorem dX3_compile_196 : decode cX3_compile 196 = .ok (.aload_n 0, 1) := dk_42 (dk_at dksX3_compile_8 9 rfl rfl)
theorem dX3_compile_197 : decode cX3_compile 197 = .ok (.getfield 80, 3) := dk_180 0 80 (dk_at dksX3_compile_8 10 rfl rfl)
theorem dX3_compile_200 : decode cX3_compile 200 = .ok (.iload 6, 2) := dk_21 6 (dk_at dksX3_compile_8 13 rfl rfl)
theorem dX3_compile_202 : decode cX3_compile 202 = .ok (.aload_n 0, 1) := dk_42 (dk_at dksX3_compile_8 15 rfl rfl)
theorem dX3_compile_203 : decode cX3_compile 203 = .ok (.getfield 80, 3) := dk_180 0 80 (dk_at dksX3_compile_8 16 rfl rfl)
theorem dX3_compile_206 : decode cX3_compile 206 = .ok (.iload 5, 2) := dk_21 5 (dk_at dksX3_compile_8 19 rfl rfl)
theorem dX3_compile_208 : decode cX3_compile 208 = .ok (.iaload, 1) := dk_46 (dk_at dksX3_compile_8 21 rfl rfl)
theorem dX3_compile_209 : decode cX3_compile 209 = .ok (.iastore, 1) := dk_79 (dk_at dksX3_compile_8 22 rfl rfl)
theorem dX3_compile_210 : decode cX3_compile 210 = .ok (.aload_n 0, 1) := dk_42 (dk_at dksX3_compile_8 23 rfl rfl)
theorem dX3_compile_211 : decode cX3_compile 211 = .ok (.getfield 83, 3) := dk_180 0 83 (dk_at dksX3_compile_9 0 rfl rfl)
theorem dX3_compile_214 : decode cX3_compile 214 = .ok (.iload 6, 2) := dk_21 6 (dk_at dksX3_compile_9 3 rfl rfl)
theorem dX3_compile_216 : decode cX3_compile 216 = .ok (.aload_n 0, 1) := dk_42 (dk_at dksX3_compile_9 5 rfl rfl)
theorem dX3_compile_217 : decode cX3_compile 217 = .ok (.aload_n 0, 1) := dk_42 (dk_at dksX3_compile_9 6 rfl rfl)
theorem dX3_compile_218 : decode cX3_compile 218 = .ok (.getfield 83, 3) := dk_180 0 83 (dk_at dksX3_compile_9 7 rfl rfl)
theorem dX3_compile_221 : decode cX3_compile 221 = .ok (.iload 5, 2) := dk_21 5 (dk_at dksX3_compile_9 10 rfl rfl)
theorem dX3_compile_223 : decode cX3_compile 223 = .ok (.iaload, 1) := dk_46 (dk_at dksX3_compile_9 12 rfl rfl)
theorem dX3_compile_224 : decode cX3_compile 224 = .ok (.iload 4, 2) := dk_21 4 (dk_at dksX3_compile_9 13 rfl rfl)
theorem dX3_compile_226 : decode cX3_compile 226 = .ok (.invokevirtual 279, 3) := dk_182 1 23 (dk_at dksX3_compile_9 15 rfl rfl)
theorem dX3_compile_229 : decode cX3_compile 229 = .ok (.iastore, 1) := dk_79 (dk_at dksX3_compile_9 18 rfl rfl)
theorem dX3_compile_230 : decode cX3_compile 230 = .ok (.aload_n 0, 1) := dk_42 (dk_at dksX3_compile_9 19 rfl rfl)
theorem dX3_compile_231 : decode cX3_compile 231 = .ok (.getfield 86, 3) := dk_180 0 86 (dk_at dksX3_compile_9 20 rfl rfl)
theorem dX3_compile_234 : decode cX3_compile 234 = .ok (.iload 6, 2) := dk_21 6 (dk_at dksX3_compile_10 0 rfl rfl)
theorem dX3_compile_236 : decode cX3_compile 236 = .ok (.aload_n 0, 1) := dk_42 (dk_at dksX3_compile_10 2 rfl rfl)
theorem dX3_compile_237 : decode cX3_compile 237 = .ok (.aload_n 0, 1) := dk_42 (dk_at dksX3_compile_10 3 rfl rfl)
theorem dX3_compile_238 : decode cX3_compile 238 = .ok (.getfield 86, 3) := dk_180 0 86 (dk_at dksX3_compile_10 4 rfl rfl)
theorem dX3_compile_241 : decode cX3_compile 241 = .ok (.iload 5, 2) := dk_21 5 (dk_at dksX3_compile_10 7 rfl rfl)
theorem dX3_compile_243 : decode cX3_compile 243 = .ok (.iaload, 1) := dk_46 (dk_at dksX3_compile_10 9 rfl rfl)
theorem dX3_compile_244 : decode cX3_compile 244 = .ok (.iload 4, 2) := dk_21 4 (dk_at dksX3_compile_10 10 rfl rfl)
theorem dX3_compile_246 : decode cX3_compile 246 = .ok (.invokevirtual 279, 3) := dk_182 1 23 (dk_at dksX3_compile_10 12 rfl rfl)
theorem dX3_compile_249 : decode cX3_compile 249 = .ok (.iastore, 1) := dk_79 (dk_at dksX3_compile_10 15 rfl rfl)
theorem dX3_compile_250 : decode cX3_compile 250 = .ok (.iinc 5 1, 3) := dk_132 5 1 (dk_at dksX3_compile_10 16 rfl rfl)
theorem dX3_compile_253 : decode cX3_compile 253 = .ok (.goto (-143), 3) := dk_167 255 113 (dk_at dksX3_compile_10 19 rfl rfl)
theorem dX3_compile_256 : decode cX3_compile 256 = .ok (.aload_n 0, 1) := dk_42 (dk_at dksX3_compile_10 22 rfl rfl)
theorem dX3_compile_257 : decode cX3_compile 257 = .ok (.getfield 59, 3) := dk_180 0 59 (dk_at dksX3_compile_11 0 rfl rfl)
theorem dX3_compile_260 : decode cX3_compile 260 = .ok (.iload_n 1, 1) := dk_27 (dk_at dksX3_compile_11 3 rfl rfl)
theorem dX3_compile_261 : decode cX3_compile 261 = .ok (.iload_n 2, 1) := dk_28 (dk_at dksX3_compile_11 4 rfl rfl)
theorem dX3_compile_262 : decode cX3_compile 262 = .ok (.iastore, 1) := dk_79 (dk_at dksX3_compile_11 5 rfl rfl)
theorem dX3_compile_263 : decode cX3_compile 263 = .ok (.aload_n 0, 1) := dk_42 (dk_at dksX3_compile_11 6 rfl rfl)
theorem dX3_compile_264 : decode cX3_compile 264 = .ok (.getfield 62, 3) := dk_180 0 62 (dk_at dksX3_compile_11 7 rfl rfl)
theorem dX3_compile_267 : decode cX3_compile 267 = .ok (.iload_n 1, 1) := dk_27 (dk_at dksX3_compile_11 10 rfl rfl)
theorem dX3_compile_268 : decode cX3_compile 268 = .ok (.aload_n 0, 1) := dk_42 (dk_at dksX3_compile_11 11 rfl rfl)
theorem dX3_compile_269 : decode cX3_compile 269 = .ok (.getfield 62, 3) := dk_180 0 62 (dk_at dksX3_compile_11 12 rfl rfl)
theorem dX3_compile_272 : decode cX3_compile 272 = .ok (.iconst 4, 1) := dk_7 (dk_at dksX3_compile_11 15 rfl rfl)
theorem dX3_compile_273 : decode cX3_compile 273 = .ok (.iaload, 1) := dk_46 (dk_at dksX3_compile_11 16 rfl rfl)
theorem dX3_compile_274 : decode cX3_compile 274 = .ok (.iastore, 1) := dk_79 (dk_at dksX3_compile_11 17 rfl rfl)
theorem dX3_compile_275 : decode cX3_compile 275 = .ok (.aload_n 0, 1) := dk_42 (dk_at dksX3_compile_11 18 rfl rfl)
theorem dX3_compile_276 : decode cX3_compile 276 = .ok (.getfield 65, 3) := dk_180 0 65 (dk_at dksX3_compile_11 19 rfl rfl)
theorem dX3_compile_279 : decode cX3_compile 279 = .ok (.iload_n 1, 1) := dk_27 (dk_at dksX3_compile_11 22 rfl rfl)
theorem dX3_compile_280 : decode cX3_compile 280 = .ok (.iconst 1, 1) := dk_4 (dk_at dksX3_compile_11 23 rfl rfl)
theorem dX3_compile_281 : decode cX3_compile 281 = .ok (.bastore, 1) := dk_84 (dk_at dksX3_compile_12 0 rfl rfl)
theorem dX3_compile_282 : decode cX3_compile 282 = .ok (.aload_n 0, 1) := dk_42 (dk_at dksX3_compile_12 1 rfl rfl)
theorem dX3_compile_283 : decode cX3_compile 283 = .ok (.aload_n 0, 1) := dk_42 (dk_at dksX3_compile_12 2 rfl rfl)
theorem dX3_compile_284 : decode cX3_compile 284 = .ok (.getfield 62, 3) := dk_180 0 62 (dk_at dksX3_compile_12 3 rfl rfl)
theorem dX3_compile_287 : decode cX3_compile 287 = .ok (.iload_n 1, 1) := dk_27 (dk_at dksX3_compile_12 6 rfl rfl)
theorem dX3_compile_288 : decode cX3_compile 288 = .ok (.iaload, 1) := dk_46 (dk_at dksX3_compile_12 7 rfl rfl)
theorem dX3_compile_289 : decode cX3_compile 289 = .ok (.invokevirtual 162, 3) := dk_182 0 162 (dk_at dksX3_compile_12 8 rfl rfl)
theorem dX3_compile_292 : decode cX3_compile 292 = .ok (.ireturn, 1) := dk_172 (dk_at dksX3_compile_12 11 rfl rfl)
abbrev cX3_takeApart : ByteArray := prog_24_method_30_code
def yX3_takeApart : MethodName := ⟨RX3, "takeApart", "()I"⟩
def dkwX3_takeApart_7 : List UInt8 := [167, 0, 4, 2, 172]
abbrev dktX3_takeApart_7 : List UInt8 := dkwX3_takeApart_7 ++ []
def dkwX3_takeApart_6 : List UInt8 := [79, 29, 158, 0, 23, 42, 180, 0, 68, 42, 180, 0, 89, 29, 4, 100, 46, 46, 17, 3, 32, 100]
abbrev dktX3_takeApart_6 : List UInt8 := dkwX3_takeApart_6 ++ dktX3_takeApart_7
def dkwX3_takeApart_5 : List UInt8 := [180, 0, 71, 21, 4, 46, 60, 132, 4, 1, 167, 255, 186, 42, 180, 0, 62, 7, 21, 4, 17, 0, 200, 100]
abbrev dktX3_takeApart_5 : List UInt8 := dkwX3_takeApart_5 ++ dktX3_takeApart_6
def dkwX3_takeApart_4 : List UInt8 := [21, 4, 29, 182, 1, 16, 62, 29, 156, 0, 15, 42, 180, 0, 68, 21, 4, 46, 17, 3, 32, 100, 172, 42]
abbrev dktX3_takeApart_4 : List UInt8 := dkwX3_takeApart_4 ++ dktX3_takeApart_5
def dkwX3_takeApart_3 : List UInt8 := [156, 0, 15, 42, 180, 0, 68, 21, 4, 46, 17, 3, 32, 100, 172, 21, 5, 154, 0, 6, 167, 0, 41, 42]
abbrev dktX3_takeApart_3 : List UInt8 := dkwX3_takeApart_3 ++ dktX3_takeApart_4
def dkwX3_takeApart_2 : List UInt8 := [21, 5, 52, 85, 132, 5, 1, 167, 255, 226, 42, 27, 28, 21, 4, 182, 1, 12, 54, 5, 21, 5]
abbrev dktX3_takeApart_2 : List UInt8 := dkwX3_takeApart_2 ++ dktX3_takeApart_3
def dkwX3_takeApart_1 : List UInt8 := [21, 5, 42, 180, 0, 16, 162, 0, 27, 42, 180, 0, 56, 17, 3, 32, 21, 5, 96, 42, 180, 0, 31]
abbrev dktX3_takeApart_1 : List UInt8 := dkwX3_takeApart_1 ++ dktX3_takeApart_2
def dkwX3_takeApart_0 : List UInt8 := [17, 3, 32, 60, 17, 3, 32, 42, 180, 0, 16, 96, 61, 3, 62, 17, 0, 200, 54, 4, 3, 54, 5]
abbrev dktX3_takeApart_0 : List UInt8 := dkwX3_takeApart_0 ++ dktX3_takeApart_1
theorem dksX3_takeApart_0 : cX3_takeApart.data.toList.drop 0 = dktX3_takeApart_0 := by decide +kernel
theorem dksX3_takeApart_1 : cX3_takeApart.data.toList.drop 23 = dktX3_takeApart_1 := dk_seg dksX3_takeApart_0 23 rfl rfl
theorem dksX3_takeApart_2 : cX3_takeApart.data.toList.drop 46 = dktX3_takeApart_2 := dk_seg dksX3_takeApart_1 23 rfl rfl
theorem dksX3_takeApart_3 : cX3_takeApart.data.toList.drop 68 = dktX3_takeApart_3 := dk_seg dksX3_takeApart_2 22 rfl rfl
theorem dksX3_takeApart_4 : cX3_takeApart.data.toList.drop 92 = dktX3_takeApart_4 := dk_seg dksX3_takeApart_3 24 rfl rfl
theorem dksX3_takeApart_5 : cX3_takeApart.data.toList.drop 116 = dktX3_takeApart_5 := dk_seg dksX3_takeApart_4 24 rfl rfl
theorem dksX3_takeApart_6 : cX3_takeApart.data.toList.drop 140 = dktX3_takeApart_6 := dk_seg dksX3_takeApart_5 24 rfl rfl
theorem dksX3_takeApart_7 : cX3_takeApart.data.toList.drop 162 = dktX3_takeApart_7 := dk_seg dksX3_takeApart_6 22 rfl rfl
theorem dX3_takeApart_0 : decode cX3_takeApart 0 = .ok (.sipush 800, 3) := dk_17 3 32 (dk_at dksX3_takeApart_0 0 rfl rfl)
theorem dX3_takeApart_3 : decode cX3_takeApart 3 = .ok (.istore_n 1, 1) := dk_60 (dk_at dksX3_takeApart_0 3 rfl rfl)
theorem dX3_takeApart_4 : decode cX3_takeApart 4 = .ok (.sipush 800, 3) := dk_17 3 32 (dk_at dksX3_takeApart_0 4 rfl rfl)
theorem dX3_takeApart_7 : decode cX3_takeApart 7 = .ok (.aload_n 0, 1) := dk_42 (dk_at dksX3_takeApart_0 7 rfl rfl)
theorem dX3_takeApart_8 : decode cX3_takeApart 8 = .ok (.getfield 16, 3) := dk_180 0 16 (dk_at dksX3_takeApart_0 8 rfl rfl)
theorem dX3_takeApart_11 : decode cX3_takeApart 11 = .ok (.iadd, 1) := dk_96 (dk_at dksX3_takeApart_0 11 rfl rfl)
theorem dX3_takeApart_12 : decode cX3_takeApart 12 = .ok (.istore_n 2, 1) := dk_61 (dk_at dksX3_takeApart_0 12 rfl rfl)
theorem dX3_takeApart_13 : decode cX3_takeApart 13 = .ok (.iconst 0, 1) := dk_3 (dk_at dksX3_takeApart_0 13 rfl rfl)
theorem dX3_takeApart_14 : decode cX3_takeApart 14 = .ok (.istore_n 3, 1) := dk_62 (dk_at dksX3_takeApart_0 14 rfl rfl)
theorem dX3_takeApart_15 : decode cX3_takeApart 15 = .ok (.sipush 200, 3) := dk_17 0 200 (dk_at dksX3_takeApart_0 15 rfl rfl)
theorem dX3_takeApart_18 : decode cX3_takeApart 18 = .ok (.istore 4, 2) := dk_54 4 (dk_at dksX3_takeApart_0 18 rfl rfl)
theorem dX3_takeApart_20 : decode cX3_takeApart 20 = .ok (.iconst 0, 1) := dk_3 (dk_at dksX3_takeApart_0 20 rfl rfl)
theorem dX3_takeApart_21 : decode cX3_takeApart 21 = .ok (.istore 5, 2) := dk_54 5 (dk_at dksX3_takeApart_0 21 rfl rfl)
theorem dX3_takeApart_23 : decode cX3_takeApart 23 = .ok (.iload 5, 2) := dk_21 5 (dk_at dksX3_takeApart_1 0 rfl rfl)
theorem dX3_takeApart_25 : decode cX3_takeApart 25 = .ok (.aload_n 0, 1) := dk_42 (dk_at dksX3_takeApart_1 2 rfl rfl)
theorem dX3_takeApart_26 : decode cX3_takeApart 26 = .ok (.getfield 16, 3) := dk_180 0 16 (dk_at dksX3_takeApart_1 3 rfl rfl)
theorem dX3_takeApart_29 : decode cX3_takeApart 29 = .ok (.if_icmp .ge 27, 3) := dk_162 0 27 (dk_at dksX3_takeApart_1 6 rfl rfl)
theorem dX3_takeApart_32 : decode cX3_takeApart 32 = .ok (.aload_n 0, 1) := dk_42 (dk_at dksX3_takeApart_1 9 rfl rfl)
theorem dX3_takeApart_33 : decode cX3_takeApart 33 = .ok (.getfield 56, 3) := dk_180 0 56 (dk_at dksX3_takeApart_1 10 rfl rfl)
theorem dX3_takeApart_36 : decode cX3_takeApart 36 = .ok (.sipush 800, 3) := dk_17 3 32 (dk_at dksX3_takeApart_1 13 rfl rfl)
theorem dX3_takeApart_39 : decode cX3_takeApart 39 = .ok (.iload 5, 2) := dk_21 5 (dk_at dksX3_takeApart_1 16 rfl rfl)
theorem dX3_takeApart_41 : decode cX3_takeApart 41 = .ok (.iadd, 1) := dk_96 (dk_at dksX3_takeApart_1 18 rfl rfl)
theorem dX3_takeApart_42 : decode cX3_takeApart 42 = .ok (.aload_n 0, 1) := dk_42 (dk_at dksX3_takeApart_1 19 rfl rfl)
theorem dX3_takeApart_43 : decode cX3_takeApart 43 = .ok (.getfield 31, 3) := dk_180 0 31 (dk_at dksX3_takeApart_1 20 rfl rfl)
theorem dX3_takeApart_46 : decode cX3_takeApart 46 = .ok (.iload 5, 2) := dk_21 5 (dk_at dksX3_takeApart_2 0 rfl rfl)
theorem dX3_takeApart_48 : decode cX3_takeApart 48 = .ok (.caload, 1) := dk_52 (dk_at dksX3_takeApart_2 2 rfl rfl)
theorem dX3_takeApart_49 : decode cX3_takeApart 49 = .ok (.castore, 1) := dk_85 (dk_at dksX3_takeApart_2 3 rfl rfl)
theorem dX3_takeApart_50 : decode cX3_takeApart 50 = .ok (.iinc 5 1, 3) := dk_132 5 1 (dk_at dksX3_takeApart_2 4 rfl rfl)
theorem dX3_takeApart_53 : decode cX3_takeApart 53 = .ok (.goto (-30), 3) := dk_167 255 226 (dk_at dksX3_takeApart_2 7 rfl rfl)
theorem dX3_takeApart_56 : decode cX3_takeApart 56 = .ok (.aload_n 0, 1) := dk_42 (dk_at dksX3_takeApart_2 10 rfl rfl)
theorem dX3_takeApart_57 : decode cX3_takeApart 57 = .ok (.iload_n 1, 1) := dk_27 (dk_at dksX3_takeApart_2 11 rfl rfl)
theorem dX3_takeApart_58 : decode cX3_takeApart 58 = .ok (.iload_n 2, 1) := dk_28 (dk_at dksX3_takeApart_2 12 rfl rfl)
theorem dX3_takeApart_59 : decode cX3_takeApart 59 = .ok (.iload 4, 2) := dk_21 4 (dk_at dksX3_takeApart_2 13 rfl rfl)
theorem dX3_takeApart_61 : decode cX3_takeApart 61 = .ok (.invokevirtual 268, 3) := dk_182 1 12 (dk_at dksX3_takeApart_2 15 rfl rfl)
theorem dX3_takeApart_64 : decode cX3_takeApart 64 = .ok (.istore 5, 2) := dk_54 5 (dk_at dksX3_takeApart_2 18 rfl rfl)
theorem dX3_takeApart_66 : decode cX3_takeApart 66 = .ok (.iload 5, 2) := dk_21 5 (dk_at dksX3_takeApart_2 20 rfl rfl)
theorem dX3_takeApart_68 : decode cX3_takeApart 68 = .ok (.ifCond .ge 15, 3) := dk_156 0 15 (dk_at dksX3_takeApart_3 0 rfl rfl)
theorem dX3_takeApart_71 : decode cX3_takeApart 71 = .ok (.aload_n 0, 1) := dk_42 (dk_at dksX3_takeApart_3 3 rfl rfl)
theorem dX3_takeApart_72 : decode cX3_takeApart 72 = .ok (.getfield 68, 3) := dk_180 0 68 (dk_at dksX3_takeApart_3 4 rfl rfl)
theorem dX3_takeApart_75 : decode cX3_takeApart 75 = .ok (.iload 4, 2) := dk_21 4 (dk_at dksX3_takeApart_3 7 rfl rfl)
theorem dX3_takeApart_77 : decode cX3_takeApart 77 = .ok (.iaload, 1) := dk_46 (dk_at dksX3_takeApart_3 9 rfl rfl)
theorem dX3_takeApart_78 : decode cX3_takeApart 78 = .ok (.sipush 800, 3) := dk_17 3 32 (dk_at dksX3_takeApart_3 10 rfl rfl)
theorem dX3_takeApart_81 : decode cX3_takeApart 81 = .ok (.isub, 1) := dk_100 (dk_at dksX3_takeApart_3 13 rfl rfl)
theorem dX3_takeApart_82 : decode cX3_takeApart 82 = .ok (.ireturn, 1) := dk_172 (dk_at dksX3_takeApart_3 14 rfl rfl)
theorem dX3_takeApart_83 : decode cX3_takeApart 83 = .ok (.iload 5, 2) := dk_21 5 (dk_at dksX3_takeApart_3 15 rfl rfl)
theorem dX3_takeApart_85 : decode cX3_takeApart 85 = .ok (.ifCond .ne 6, 3) := dk_154 0 6 (dk_at dksX3_takeApart_3 17 rfl rfl)
theorem dX3_takeApart_88 : decode cX3_takeApart 88 = .ok (.goto 41, 3) := dk_167 0 41 (dk_at dksX3_takeApart_3 20 rfl rfl)
theorem dX3_takeApart_91 : decode cX3_takeApart 91 = .ok (.aload_n 0, 1) := dk_42 (dk_at dksX3_takeApart_3 23 rfl rfl)
theorem dX3_takeApart_92 : decode cX3_takeApart 92 = .ok (.iload 4, 2) := dk_21 4 (dk_at dksX3_takeApart_4 0 rfl rfl)
theorem dX3_takeApart_94 : decode cX3_takeApart 94 = .ok (.iload_n 3, 1) := dk_29 (dk_at dksX3_takeApart_4 2 rfl rfl)
theorem dX3_takeApart_95 : decode cX3_takeApart 95 = .ok (.invokevirtual 272, 3) := dk_182 1 16 (dk_at dksX3_takeApart_4 3 rfl rfl)
theorem dX3_takeApart_98 : decode cX3_takeApart 98 = .ok (.istore_n 3, 1) := dk_62 (dk_at dksX3_takeApart_4 6 rfl rfl)
theorem dX3_takeApart_99 : decode cX3_takeApart 99 = .ok (.iload_n 3, 1) := dk_29 (dk_at dksX3_takeApart_4 7 rfl rfl)
theorem dX3_takeApart_100 : decode cX3_takeApart 100 = .ok (.ifCond .ge 15, 3) := dk_156 0 15 (dk_at dksX3_takeApart_4 8 rfl rfl)
theorem dX3_takeApart_103 : decode cX3_takeApart 103 = .ok (.aload_n 0, 1) := dk_42 (dk_at dksX3_takeApart_4 11 rfl rfl)
theorem dX3_takeApart_104 : decode cX3_takeApart 104 = .ok (.getfield 68, 3) := dk_180 0 68 (dk_at dksX3_takeApart_4 12 rfl rfl)
theorem dX3_takeApart_107 : decode cX3_takeApart 107 = .ok (.iload 4, 2) := dk_21 4 (dk_at dksX3_takeApart_4 15 rfl rfl)
theorem dX3_takeApart_109 : decode cX3_takeApart 109 = .ok (.iaload, 1) := dk_46 (dk_at dksX3_takeApart_4 17 rfl rfl)
theorem dX3_takeApart_110 : decode cX3_takeApart 110 = .ok (.sipush 800, 3) := dk_17 3 32 (dk_at dksX3_takeApart_4 18 rfl rfl)
theorem dX3_takeApart_113 : decode cX3_takeApart 113 = .ok (.isub, 1) := dk_100 (dk_at dksX3_takeApart_4 21 rfl rfl)
theorem dX3_takeApart_114 : decode cX3_takeApart 114 = .ok (.ireturn, 1) := dk_172 (dk_at dksX3_takeApart_4 22 rfl rfl)
theorem dX3_takeApart_115 : decode cX3_takeApart 115 = .ok (.aload_n 0, 1) := dk_42 (dk_at dksX3_takeApart_4 23 rfl rfl)
theorem dX3_takeApart_116 : decode cX3_takeApart 116 = .ok (.getfield 71, 3) := dk_180 0 71 (dk_at dksX3_takeApart_5 0 rfl rfl)
theorem dX3_takeApart_119 : decode cX3_takeApart 119 = .ok (.iload 4, 2) := dk_21 4 (dk_at dksX3_takeApart_5 3 rfl rfl)
theorem dX3_takeApart_121 : decode cX3_takeApart 121 = .ok (.iaload, 1) := dk_46 (dk_at dksX3_takeApart_5 5 rfl rfl)
theorem dX3_takeApart_122 : decode cX3_takeApart 122 = .ok (.istore_n 1, 1) := dk_60 (dk_at dksX3_takeApart_5 6 rfl rfl)
theorem dX3_takeApart_123 : decode cX3_takeApart 123 = .ok (.iinc 4 1, 3) := dk_132 4 1 (dk_at dksX3_takeApart_5 7 rfl rfl)
theorem dX3_takeApart_126 : decode cX3_takeApart 126 = .ok (.goto (-70), 3) := dk_167 255 186 (dk_at dksX3_takeApart_5 10 rfl rfl)
theorem dX3_takeApart_129 : decode cX3_takeApart 129 = .ok (.aload_n 0, 1) := dk_42 (dk_at dksX3_takeApart_5 13 rfl rfl)
theorem dX3_takeApart_130 : decode cX3_takeApart 130 = .ok (.getfield 62, 3) := dk_180 0 62 (dk_at dksX3_takeApart_5 14 rfl rfl)
theorem dX3_takeApart_133 : decode cX3_takeApart 133 = .ok (.iconst 4, 1) := dk_7 (dk_at dksX3_takeApart_5 17 rfl rfl)
theorem dX3_takeApart_134 : decode cX3_takeApart 134 = .ok (.iload 4, 2) := dk_21 4 (dk_at dksX3_takeApart_5 18 rfl rfl)
theorem dX3_takeApart_136 : decode cX3_takeApart 136 = .ok (.sipush 200, 3) := dk_17 0 200 (dk_at dksX3_takeApart_5 20 rfl rfl)
theorem dX3_takeApart_139 : decode cX3_takeApart 139 = .ok (.isub, 1) := dk_100 (dk_at dksX3_takeApart_5 23 rfl rfl)
theorem dX3_takeApart_140 : decode cX3_takeApart 140 = .ok (.iastore, 1) := dk_79 (dk_at dksX3_takeApart_6 0 rfl rfl)
theorem dX3_takeApart_141 : decode cX3_takeApart 141 = .ok (.iload_n 3, 1) := dk_29 (dk_at dksX3_takeApart_6 1 rfl rfl)
theorem dX3_takeApart_142 : decode cX3_takeApart 142 = .ok (.ifCond .le 23, 3) := dk_158 0 23 (dk_at dksX3_takeApart_6 2 rfl rfl)
theorem dX3_takeApart_145 : decode cX3_takeApart 145 = .ok (.aload_n 0, 1) := dk_42 (dk_at dksX3_takeApart_6 5 rfl rfl)
theorem dX3_takeApart_146 : decode cX3_takeApart 146 = .ok (.getfield 68, 3) := dk_180 0 68 (dk_at dksX3_takeApart_6 6 rfl rfl)
theorem dX3_takeApart_149 : decode cX3_takeApart 149 = .ok (.aload_n 0, 1) := dk_42 (dk_at dksX3_takeApart_6 9 rfl rfl)
theorem dX3_takeApart_150 : decode cX3_takeApart 150 = .ok (.getfield 89, 3) := dk_180 0 89 (dk_at dksX3_takeApart_6 10 rfl rfl)
theorem dX3_takeApart_153 : decode cX3_takeApart 153 = .ok (.iload_n 3, 1) := dk_29 (dk_at dksX3_takeApart_6 13 rfl rfl)
theorem dX3_takeApart_154 : decode cX3_takeApart 154 = .ok (.iconst 1, 1) := dk_4 (dk_at dksX3_takeApart_6 14 rfl rfl)
theorem dX3_takeApart_155 : decode cX3_takeApart 155 = .ok (.isub, 1) := dk_100 (dk_at dksX3_takeApart_6 15 rfl rfl)
theorem dX3_takeApart_156 : decode cX3_takeApart 156 = .ok (.iaload, 1) := dk_46 (dk_at dksX3_takeApart_6 16 rfl rfl)
theorem dX3_takeApart_157 : decode cX3_takeApart 157 = .ok (.iaload, 1) := dk_46 (dk_at dksX3_takeApart_6 17 rfl rfl)
theorem dX3_takeApart_158 : decode cX3_takeApart 158 = .ok (.sipush 800, 3) := dk_17 3 32 (dk_at dksX3_takeApart_6 18 rfl rfl)
theorem dX3_takeApart_161 : decode cX3_takeApart 161 = .ok (.isub, 1) := dk_100 (dk_at dksX3_takeApart_6 21 rfl rfl)
theorem dX3_takeApart_162 : decode cX3_takeApart 162 = .ok (.goto 4, 3) := dk_167 0 4 (dk_at dksX3_takeApart_7 0 rfl rfl)
theorem dX3_takeApart_165 : decode cX3_takeApart 165 = .ok (.iconst (-1), 1) := dk_2 (dk_at dksX3_takeApart_7 3 rfl rfl)
theorem dX3_takeApart_166 : decode cX3_takeApart 166 = .ok (.ireturn, 1) := dk_172 (dk_at dksX3_takeApart_7 4 rfl rfl)
abbrev cX3_takeTag : ByteArray := prog_24_method_28_code
def yX3_takeTag : MethodName := ⟨RX3, "takeTag", "(III)I"⟩
def dkwX3_takeTag_8 : List UInt8 := [29, 46, 156, 0, 7, 2, 167, 0, 4, 4, 172]
abbrev dktX3_takeTag_8 : List UInt8 := dkwX3_takeTag_8 ++ []
def dkwX3_takeTag_7 : List UInt8 := [21, 5, 182, 1, 8, 79, 42, 180, 0, 83, 29, 2, 79, 42, 180, 0, 86, 29, 2, 79, 42, 180, 0, 80]
abbrev dktX3_takeTag_7 : List UInt8 := dkwX3_takeTag_7 ++ dktX3_takeTag_8
def dkwX3_takeTag_6 : List UInt8 := [42, 180, 0, 71, 29, 21, 7, 21, 6, 96, 79, 42, 180, 0, 80, 29, 42, 21, 4, 21, 6, 96, 21, 7]
abbrev dktX3_takeTag_6 : List UInt8 := dkwX3_takeTag_6 ++ dktX3_takeTag_7
def dkwX3_takeTag_5 : List UInt8 := [161, 0, 5, 2, 172, 42, 180, 0, 74, 29, 21, 4, 21, 6, 96, 79, 42, 180, 0, 77, 29, 21, 7, 79]
abbrev dktX3_takeTag_5 : List UInt8 := dkwX3_takeTag_5 ++ dktX3_takeTag_6
def dkwX3_takeTag_4 : List UInt8 := [20, 1, 4, 167, 0, 6, 20, 1, 6, 182, 0, 199, 154, 0, 9, 132, 7, 1, 167, 255, 223, 21, 7, 28]
abbrev dktX3_takeTag_4 : List UInt8 := dkwX3_takeTag_4 ++ dktX3_takeTag_5
def dkwX3_takeTag_3 : List UInt8 := [21, 4, 21, 6, 96, 54, 7, 21, 7, 28, 162, 0, 33, 42, 21, 7, 28, 21, 5, 153, 0, 9]
abbrev dktX3_takeTag_3 : List UInt8 := dkwX3_takeTag_3 ++ dktX3_takeTag_4
def dkwX3_takeTag_2 : List UInt8 := [21, 4, 28, 20, 1, 2, 182, 0, 199, 54, 5, 21, 5, 153, 0, 7, 6, 167, 0, 4, 5, 54, 6]
abbrev dktX3_takeTag_2 : List UInt8 := dkwX3_takeTag_2 ++ dktX3_takeTag_3
def dkwX3_takeTag_1 : List UInt8 := [132, 4, 1, 167, 255, 234, 21, 4, 28, 161, 0, 5, 3, 172, 42, 180, 0, 68, 29, 21, 4, 79, 42]
abbrev dktX3_takeTag_1 : List UInt8 := dkwX3_takeTag_1 ++ dktX3_takeTag_2
def dkwX3_takeTag_0 : List UInt8 := [27, 54, 4, 21, 4, 28, 162, 0, 22, 42, 21, 4, 28, 20, 1, 0, 182, 0, 199, 154, 0, 9]
abbrev dktX3_takeTag_0 : List UInt8 := dkwX3_takeTag_0 ++ dktX3_takeTag_1
theorem dksX3_takeTag_0 : cX3_takeTag.data.toList.drop 0 = dktX3_takeTag_0 := by decide +kernel
theorem dksX3_takeTag_1 : cX3_takeTag.data.toList.drop 22 = dktX3_takeTag_1 := dk_seg dksX3_takeTag_0 22 rfl rfl
theorem dksX3_takeTag_2 : cX3_takeTag.data.toList.drop 45 = dktX3_takeTag_2 := dk_seg dksX3_takeTag_1 23 rfl rfl
theorem dksX3_takeTag_3 : cX3_takeTag.data.toList.drop 68 = dktX3_takeTag_3 := dk_seg dksX3_takeTag_2 23 rfl rfl
theorem dksX3_takeTag_4 : cX3_takeTag.data.toList.drop 90 = dktX3_takeTag_4 := dk_seg dksX3_takeTag_3 22 rfl rfl
theorem dksX3_takeTag_5 : cX3_takeTag.data.toList.drop 114 = dktX3_takeTag_5 := dk_seg dksX3_takeTag_4 24 rfl rfl
theorem dksX3_takeTag_6 : cX3_takeTag.data.toList.drop 138 = dktX3_takeTag_6 := dk_seg dksX3_takeTag_5 24 rfl rfl
theorem dksX3_takeTag_7 : cX3_takeTag.data.toList.drop 162 = dktX3_takeTag_7 := dk_seg dksX3_takeTag_6 24 rfl rfl
theorem dksX3_takeTag_8 : cX3_takeTag.data.toList.drop 186 = dktX3_takeTag_8 := dk_seg dksX3_takeTag_7 24 rfl rfl
theorem dX3_takeTag_0 : decode cX3_takeTag 0 = .ok (.iload_n 1, 1) := dk_27 (dk_at dksX3_takeTag_0 0 rfl rfl)
theorem dX3_takeTag_1 : decode cX3_takeTag 1 = .ok (.istore 4, 2) := dk_54 4 (dk_at dksX3_takeTag_0 1 rfl rfl)
theorem dX3_takeTag_3 : decode cX3_takeTag 3 = .ok (.iload 4, 2) := dk_21 4 (dk_at dksX3_takeTag_0 3 rfl rfl)
theorem dX3_takeTag_5 : decode cX3_takeTag 5 = .ok (.iload_n 2, 1) := dk_28 (dk_at dksX3_takeTag_0 5 rfl rfl)
theorem dX3_takeTag_6 : decode cX3_takeTag 6 = .ok (.if_icmp .ge 22, 3) := dk_162 0 22 (dk_at dksX3_takeTag_0 6 rfl rfl)
theorem dX3_takeTag_9 : decode cX3_takeTag 9 = .ok (.aload_n 0, 1) := dk_42 (dk_at dksX3_takeTag_0 9 rfl rfl)
theorem dX3_takeTag_10 : decode cX3_takeTag 10 = .ok (.iload 4, 2) := dk_21 4 (dk_at dksX3_takeTag_0 10 rfl rfl)
theorem dX3_takeTag_12 : decode cX3_takeTag 12 = .ok (.iload_n 2, 1) := dk_28 (dk_at dksX3_takeTag_0 12 rfl rfl)
theorem dX3_takeTag_13 : decode cX3_takeTag 13 = .ok (.ldc2_w 256, 3) := dk_20 1 0 (dk_at dksX3_takeTag_0 13 rfl rfl)
theorem dX3_takeTag_16 : decode cX3_takeTag 16 = .ok (.invokevirtual 199, 3) := dk_182 0 199 (dk_at dksX3_takeTag_0 16 rfl rfl)
theorem dX3_takeTag_19 : decode cX3_takeTag 19 = .ok (.ifCond .ne 9, 3) := dk_154 0 9 (dk_at dksX3_takeTag_0 19 rfl rfl)
theorem dX3_takeTag_22 : decode cX3_takeTag 22 = .ok (.iinc 4 1, 3) := dk_132 4 1 (dk_at dksX3_takeTag_1 0 rfl rfl)
theorem dX3_takeTag_25 : decode cX3_takeTag 25 = .ok (.goto (-22), 3) := dk_167 255 234 (dk_at dksX3_takeTag_1 3 rfl rfl)
theorem dX3_takeTag_28 : decode cX3_takeTag 28 = .ok (.iload 4, 2) := dk_21 4 (dk_at dksX3_takeTag_1 6 rfl rfl)
theorem dX3_takeTag_30 : decode cX3_takeTag 30 = .ok (.iload_n 2, 1) := dk_28 (dk_at dksX3_takeTag_1 8 rfl rfl)
theorem dX3_takeTag_31 : decode cX3_takeTag 31 = .ok (.if_icmp .lt 5, 3) := dk_161 0 5 (dk_at dksX3_takeTag_1 9 rfl rfl)
theorem dX3_takeTag_34 : decode cX3_takeTag 34 = .ok (.iconst 0, 1) := dk_3 (dk_at dksX3_takeTag_1 12 rfl rfl)
theorem dX3_takeTag_35 : decode cX3_takeTag 35 = .ok (.ireturn, 1) := dk_172 (dk_at dksX3_takeTag_1 13 rfl rfl)
theorem dX3_takeTag_36 : decode cX3_takeTag 36 = .ok (.aload_n 0, 1) := dk_42 (dk_at dksX3_takeTag_1 14 rfl rfl)
theorem dX3_takeTag_37 : decode cX3_takeTag 37 = .ok (.getfield 68, 3) := dk_180 0 68 (dk_at dksX3_takeTag_1 15 rfl rfl)
theorem dX3_takeTag_40 : decode cX3_takeTag 40 = .ok (.iload_n 3, 1) := dk_29 (dk_at dksX3_takeTag_1 18 rfl rfl)
theorem dX3_takeTag_41 : decode cX3_takeTag 41 = .ok (.iload 4, 2) := dk_21 4 (dk_at dksX3_takeTag_1 19 rfl rfl)
theorem dX3_takeTag_43 : decode cX3_takeTag 43 = .ok (.iastore, 1) := dk_79 (dk_at dksX3_takeTag_1 21 rfl rfl)
theorem dX3_takeTag_44 : decode cX3_takeTag 44 = .ok (.aload_n 0, 1) := dk_42 (dk_at dksX3_takeTag_1 22 rfl rfl)
theorem dX3_takeTag_45 : decode cX3_takeTag 45 = .ok (.iload 4, 2) := dk_21 4 (dk_at dksX3_takeTag_2 0 rfl rfl)
theorem dX3_takeTag_47 : decode cX3_takeTag 47 = .ok (.iload_n 2, 1) := dk_28 (dk_at dksX3_takeTag_2 2 rfl rfl)
theorem dX3_takeTag_48 : decode cX3_takeTag 48 = .ok (.ldc2_w 258, 3) := dk_20 1 2 (dk_at dksX3_takeTag_2 3 rfl rfl)
theorem dX3_takeTag_51 : decode cX3_takeTag 51 = .ok (.invokevirtual 199, 3) := dk_182 0 199 (dk_at dksX3_takeTag_2 6 rfl rfl)
theorem dX3_takeTag_54 : decode cX3_takeTag 54 = .ok (.istore 5, 2) := dk_54 5 (dk_at dksX3_takeTag_2 9 rfl rfl)
theorem dX3_takeTag_56 : decode cX3_takeTag 56 = .ok (.iload 5, 2) := dk_21 5 (dk_at dksX3_takeTag_2 11 rfl rfl)
theorem dX3_takeTag_58 : decode cX3_takeTag 58 = .ok (.ifCond .eq 7, 3) := dk_153 0 7 (dk_at dksX3_takeTag_2 13 rfl rfl)
theorem dX3_takeTag_61 : decode cX3_takeTag 61 = .ok (.iconst 3, 1) := dk_6 (dk_at dksX3_takeTag_2 16 rfl rfl)
theorem dX3_takeTag_62 : decode cX3_takeTag 62 = .ok (.goto 4, 3) := dk_167 0 4 (dk_at dksX3_takeTag_2 17 rfl rfl)
theorem dX3_takeTag_65 : decode cX3_takeTag 65 = .ok (.iconst 2, 1) := dk_5 (dk_at dksX3_takeTag_2 20 rfl rfl)
theorem dX3_takeTag_66 : decode cX3_takeTag 66 = .ok (.istore 6, 2) := dk_54 6 (dk_at dksX3_takeTag_2 21 rfl rfl)
theorem dX3_takeTag_68 : decode cX3_takeTag 68 = .ok (.iload 4, 2) := dk_21 4 (dk_at dksX3_takeTag_3 0 rfl rfl)
theorem dX3_takeTag_70 : decode cX3_takeTag 70 = .ok (.iload 6, 2) := dk_21 6 (dk_at dksX3_takeTag_3 2 rfl rfl)
theorem dX3_takeTag_72 : decode cX3_takeTag 72 = .ok (.iadd, 1) := dk_96 (dk_at dksX3_takeTag_3 4 rfl rfl)
theorem dX3_takeTag_73 : decode cX3_takeTag 73 = .ok (.istore 7, 2) := dk_54 7 (dk_at dksX3_takeTag_3 5 rfl rfl)
theorem dX3_takeTag_75 : decode cX3_takeTag 75 = .ok (.iload 7, 2) := dk_21 7 (dk_at dksX3_takeTag_3 7 rfl rfl)
theorem dX3_takeTag_77 : decode cX3_takeTag 77 = .ok (.iload_n 2, 1) := dk_28 (dk_at dksX3_takeTag_3 9 rfl rfl)
theorem dX3_takeTag_78 : decode cX3_takeTag 78 = .ok (.if_icmp .ge 33, 3) := dk_162 0 33 (dk_at dksX3_takeTag_3 10 rfl rfl)
theorem dX3_takeTag_81 : decode cX3_takeTag 81 = .ok (.aload_n 0, 1) := dk_42 (dk_at dksX3_takeTag_3 13 rfl rfl)
theorem dX3_takeTag_82 : decode cX3_takeTag 82 = .ok (.iload 7, 2) := dk_21 7 (dk_at dksX3_takeTag_3 14 rfl rfl)
theorem dX3_takeTag_84 : decode cX3_takeTag 84 = .ok (.iload_n 2, 1) := dk_28 (dk_at dksX3_takeTag_3 16 rfl rfl)
theorem dX3_takeTag_85 : decode cX3_takeTag 85 = .ok (.iload 5, 2) := dk_21 5 (dk_at dksX3_takeTag_3 17 rfl rfl)
theorem dX3_takeTag_87 : decode cX3_takeTag 87 = .ok (.ifCond .eq 9, 3) := dk_153 0 9 (dk_at dksX3_takeTag_3 19 rfl rfl)
theorem dX3_takeTag_90 : decode cX3_takeTag 90 = .ok (.ldc2_w 260, 3) := dk_20 1 4 (dk_at dksX3_takeTag_4 0 rfl rfl)
theorem dX3_takeTag_93 : decode cX3_takeTag 93 = .ok (.goto 6, 3) := dk_167 0 6 (dk_at dksX3_takeTag_4 3 rfl rfl)
theorem dX3_takeTag_96 : decode cX3_takeTag 96 = .ok (.ldc2_w 262, 3) := dk_20 1 6 (dk_at dksX3_takeTag_4 6 rfl rfl)
theorem dX3_takeTag_99 : decode cX3_takeTag 99 = .ok (.invokevirtual 199, 3) := dk_182 0 199 (dk_at dksX3_takeTag_4 9 rfl rfl)
theorem dX3_takeTag_102 : decode cX3_takeTag 102 = .ok (.ifCond .ne 9, 3) := dk_154 0 9 (dk_at dksX3_takeTag_4 12 rfl rfl)
theorem dX3_takeTag_105 : decode cX3_takeTag 105 = .ok (.iinc 7 1, 3) := dk_132 7 1 (dk_at dksX3_takeTag_4 15 rfl rfl)
theorem dX3_takeTag_108 : decode cX3_takeTag 108 = .ok (.goto (-33), 3) := dk_167 255 223 (dk_at dksX3_takeTag_4 18 rfl rfl)
theorem dX3_takeTag_111 : decode cX3_takeTag 111 = .ok (.iload 7, 2) := dk_21 7 (dk_at dksX3_takeTag_4 21 rfl rfl)
theorem dX3_takeTag_113 : decode cX3_takeTag 113 = .ok (.iload_n 2, 1) := dk_28 (dk_at dksX3_takeTag_4 23 rfl rfl)
theorem dX3_takeTag_114 : decode cX3_takeTag 114 = .ok (.if_icmp .lt 5, 3) := dk_161 0 5 (dk_at dksX3_takeTag_5 0 rfl rfl)
theorem dX3_takeTag_117 : decode cX3_takeTag 117 = .ok (.iconst (-1), 1) := dk_2 (dk_at dksX3_takeTag_5 3 rfl rfl)
theorem dX3_takeTag_118 : decode cX3_takeTag 118 = .ok (.ireturn, 1) := dk_172 (dk_at dksX3_takeTag_5 4 rfl rfl)
theorem dX3_takeTag_119 : decode cX3_takeTag 119 = .ok (.aload_n 0, 1) := dk_42 (dk_at dksX3_takeTag_5 5 rfl rfl)
theorem dX3_takeTag_120 : decode cX3_takeTag 120 = .ok (.getfield 74, 3) := dk_180 0 74 (dk_at dksX3_takeTag_5 6 rfl rfl)
theorem dX3_takeTag_123 : decode cX3_takeTag 123 = .ok (.iload_n 3, 1) := dk_29 (dk_at dksX3_takeTag_5 9 rfl rfl)
theorem dX3_takeTag_124 : decode cX3_takeTag 124 = .ok (.iload 4, 2) := dk_21 4 (dk_at dksX3_takeTag_5 10 rfl rfl)
theorem dX3_takeTag_126 : decode cX3_takeTag 126 = .ok (.iload 6, 2) := dk_21 6 (dk_at dksX3_takeTag_5 12 rfl rfl)
theorem dX3_takeTag_128 : decode cX3_takeTag 128 = .ok (.iadd, 1) := dk_96 (dk_at dksX3_takeTag_5 14 rfl rfl)
theorem dX3_takeTag_129 : decode cX3_takeTag 129 = .ok (.iastore, 1) := dk_79 (dk_at dksX3_takeTag_5 15 rfl rfl)
theorem dX3_takeTag_130 : decode cX3_takeTag 130 = .ok (.aload_n 0, 1) := dk_42 (dk_at dksX3_takeTag_5 16 rfl rfl)
theorem dX3_takeTag_131 : decode cX3_takeTag 131 = .ok (.getfield 77, 3) := dk_180 0 77 (dk_at dksX3_takeTag_5 17 rfl rfl)
theorem dX3_takeTag_134 : decode cX3_takeTag 134 = .ok (.iload_n 3, 1) := dk_29 (dk_at dksX3_takeTag_5 20 rfl rfl)
theorem dX3_takeTag_135 : decode cX3_takeTag 135 = .ok (.iload 7, 2) := dk_21 7 (dk_at dksX3_takeTag_5 21 rfl rfl)
theorem dX3_takeTag_137 : decode cX3_takeTag 137 = .ok (.iastore, 1) := dk_79 (dk_at dksX3_takeTag_5 23 rfl rfl)
theorem dX3_takeTag_138 : decode cX3_takeTag 138 = .ok (.aload_n 0, 1) := dk_42 (dk_at dksX3_takeTag_6 0 rfl rfl)
theorem dX3_takeTag_139 : decode cX3_takeTag 139 = .ok (.getfield 71, 3) := dk_180 0 71 (dk_at dksX3_takeTag_6 1 rfl rfl)
theorem dX3_takeTag_142 : decode cX3_takeTag 142 = .ok (.iload_n 3, 1) := dk_29 (dk_at dksX3_takeTag_6 4 rfl rfl)
theorem dX3_takeTag_143 : decode cX3_takeTag 143 = .ok (.iload 7, 2) := dk_21 7 (dk_at dksX3_takeTag_6 5 rfl rfl)
theorem dX3_takeTag_145 : decode cX3_takeTag 145 = .ok (.iload 6, 2) := dk_21 6 (dk_at dksX3_takeTag_6 7 rfl rfl)
theorem dX3_takeTag_147 : decode cX3_takeTag 147 = .ok (.iadd, 1) := dk_96 (dk_at dksX3_takeTag_6 9 rfl rfl)
theorem dX3_takeTag_148 : decode cX3_takeTag 148 = .ok (.iastore, 1) := dk_79 (dk_at dksX3_takeTag_6 10 rfl rfl)
theorem dX3_takeTag_149 : decode cX3_takeTag 149 = .ok (.aload_n 0, 1) := dk_42 (dk_at dksX3_takeTag_6 11 rfl rfl)
theorem dX3_takeTag_150 : decode cX3_takeTag 150 = .ok (.getfield 80, 3) := dk_180 0 80 (dk_at dksX3_takeTag_6 12 rfl rfl)
theorem dX3_takeTag_153 : decode cX3_takeTag 153 = .ok (.iload_n 3, 1) := dk_29 (dk_at dksX3_takeTag_6 15 rfl rfl)
theorem dX3_takeTag_154 : decode cX3_takeTag 154 = .ok (.aload_n 0, 1) := dk_42 (dk_at dksX3_takeTag_6 16 rfl rfl)
theorem dX3_takeTag_155 : decode cX3_takeTag 155 = .ok (.iload 4, 2) := dk_21 4 (dk_at dksX3_takeTag_6 17 rfl rfl)
theorem dX3_takeTag_157 : decode cX3_takeTag 157 = .ok (.iload 6, 2) := dk_21 6 (dk_at dksX3_takeTag_6 19 rfl rfl)
theorem dX3_takeTag_159 : decode cX3_takeTag 159 = .ok (.iadd, 1) := dk_96 (dk_at dksX3_takeTag_6 21 rfl rfl)
theorem dX3_takeTag_160 : decode cX3_takeTag 160 = .ok (.iload 7, 2) := dk_21 7 (dk_at dksX3_takeTag_6 22 rfl rfl)
theorem dX3_takeTag_162 : decode cX3_takeTag 162 = .ok (.iload 5, 2) := dk_21 5 (dk_at dksX3_takeTag_7 0 rfl rfl)
theorem dX3_takeTag_164 : decode cX3_takeTag 164 = .ok (.invokevirtual 264, 3) := dk_182 1 8 (dk_at dksX3_takeTag_7 2 rfl rfl)
theorem dX3_takeTag_167 : decode cX3_takeTag 167 = .ok (.iastore, 1) := dk_79 (dk_at dksX3_takeTag_7 5 rfl rfl)
theorem dX3_takeTag_168 : decode cX3_takeTag 168 = .ok (.aload_n 0, 1) := dk_42 (dk_at dksX3_takeTag_7 6 rfl rfl)
theorem dX3_takeTag_169 : decode cX3_takeTag 169 = .ok (.getfield 83, 3) := dk_180 0 83 (dk_at dksX3_takeTag_7 7 rfl rfl)
theorem dX3_takeTag_172 : decode cX3_takeTag 172 = .ok (.iload_n 3, 1) := dk_29 (dk_at dksX3_takeTag_7 10 rfl rfl)
theorem dX3_takeTag_173 : decode cX3_takeTag 173 = .ok (.iconst (-1), 1) := dk_2 (dk_at dksX3_takeTag_7 11 rfl rfl)
theorem dX3_takeTag_174 : decode cX3_takeTag 174 = .ok (.iastore, 1) := dk_79 (dk_at dksX3_takeTag_7 12 rfl rfl)
theorem dX3_takeTag_175 : decode cX3_takeTag 175 = .ok (.aload_n 0, 1) := dk_42 (dk_at dksX3_takeTag_7 13 rfl rfl)
theorem dX3_takeTag_176 : decode cX3_takeTag 176 = .ok (.getfield 86, 3) := dk_180 0 86 (dk_at dksX3_takeTag_7 14 rfl rfl)
theorem dX3_takeTag_179 : decode cX3_takeTag 179 = .ok (.iload_n 3, 1) := dk_29 (dk_at dksX3_takeTag_7 17 rfl rfl)
theorem dX3_takeTag_180 : decode cX3_takeTag 180 = .ok (.iconst (-1), 1) := dk_2 (dk_at dksX3_takeTag_7 18 rfl rfl)
theorem dX3_takeTag_181 : decode cX3_takeTag 181 = .ok (.iastore, 1) := dk_79 (dk_at dksX3_takeTag_7 19 rfl rfl)
theorem dX3_takeTag_182 : decode cX3_takeTag 182 = .ok (.aload_n 0, 1) := dk_42 (dk_at dksX3_takeTag_7 20 rfl rfl)
theorem dX3_takeTag_183 : decode cX3_takeTag 183 = .ok (.getfield 80, 3) := dk_180 0 80 (dk_at dksX3_takeTag_7 21 rfl rfl)
theorem dX3_takeTag_186 : decode cX3_takeTag 186 = .ok (.iload_n 3, 1) := dk_29 (dk_at dksX3_takeTag_8 0 rfl rfl)
theorem dX3_takeTag_187 : decode cX3_takeTag 187 = .ok (.iaload, 1) := dk_46 (dk_at dksX3_takeTag_8 1 rfl rfl)
theorem dX3_takeTag_188 : decode cX3_takeTag 188 = .ok (.ifCond .ge 7, 3) := dk_156 0 7 (dk_at dksX3_takeTag_8 2 rfl rfl)
theorem dX3_takeTag_191 : decode cX3_takeTag 191 = .ok (.iconst (-1), 1) := dk_2 (dk_at dksX3_takeTag_8 5 rfl rfl)
theorem dX3_takeTag_192 : decode cX3_takeTag 192 = .ok (.goto 4, 3) := dk_167 0 4 (dk_at dksX3_takeTag_8 6 rfl rfl)
theorem dX3_takeTag_195 : decode cX3_takeTag 195 = .ok (.iconst 1, 1) := dk_4 (dk_at dksX3_takeTag_8 9 rfl rfl)
theorem dX3_takeTag_196 : decode cX3_takeTag 196 = .ok (.ireturn, 1) := dk_172 (dk_at dksX3_takeTag_8 10 rfl rfl)
abbrev cX3_stands : ByteArray := prog_24_method_19_code
def yX3_stands : MethodName := ⟨RX3, "stands", "(IIJ)Z"⟩
def dkwX3_stands_2 : List UInt8 := [132, 5, 1, 132, 6, 248, 167, 255, 212, 4, 172]
abbrev dktX3_stands_2 : List UInt8 := dkwX3_stands_2 ++ []
def dkwX3_stands_1 : List UInt8 := [21, 7, 154, 0, 6, 167, 0, 20, 42, 21, 5, 28, 182, 0, 194, 21, 7, 159, 0, 5, 3, 172]
abbrev dktX3_stands_1 : List UInt8 := dkwX3_stands_1 ++ dktX3_stands_2
def dkwX3_stands_0 : List UInt8 := [27, 54, 5, 16, 56, 54, 6, 21, 6, 155, 0, 45, 33, 21, 6, 123, 20, 0, 192, 127, 136, 54, 7]
abbrev dktX3_stands_0 : List UInt8 := dkwX3_stands_0 ++ dktX3_stands_1
theorem dksX3_stands_0 : cX3_stands.data.toList.drop 0 = dktX3_stands_0 := by decide +kernel
theorem dksX3_stands_1 : cX3_stands.data.toList.drop 23 = dktX3_stands_1 := dk_seg dksX3_stands_0 23 rfl rfl
theorem dksX3_stands_2 : cX3_stands.data.toList.drop 45 = dktX3_stands_2 := dk_seg dksX3_stands_1 22 rfl rfl
theorem dX3_stands_0 : decode cX3_stands 0 = .ok (.iload_n 1, 1) := dk_27 (dk_at dksX3_stands_0 0 rfl rfl)
theorem dX3_stands_1 : decode cX3_stands 1 = .ok (.istore 5, 2) := dk_54 5 (dk_at dksX3_stands_0 1 rfl rfl)
theorem dX3_stands_3 : decode cX3_stands 3 = .ok (.bipush 56, 2) := dk_16 56 (dk_at dksX3_stands_0 3 rfl rfl)
theorem dX3_stands_5 : decode cX3_stands 5 = .ok (.istore 6, 2) := dk_54 6 (dk_at dksX3_stands_0 5 rfl rfl)
theorem dX3_stands_7 : decode cX3_stands 7 = .ok (.iload 6, 2) := dk_21 6 (dk_at dksX3_stands_0 7 rfl rfl)
theorem dX3_stands_9 : decode cX3_stands 9 = .ok (.ifCond .lt 45, 3) := dk_155 0 45 (dk_at dksX3_stands_0 9 rfl rfl)
theorem dX3_stands_12 : decode cX3_stands 12 = .ok (.lload_n 3, 1) := dk_33 (dk_at dksX3_stands_0 12 rfl rfl)
theorem dX3_stands_13 : decode cX3_stands 13 = .ok (.iload 6, 2) := dk_21 6 (dk_at dksX3_stands_0 13 rfl rfl)
theorem dX3_stands_15 : decode cX3_stands 15 = .ok (.lshr, 1) := dk_123 (dk_at dksX3_stands_0 15 rfl rfl)
theorem dX3_stands_16 : decode cX3_stands 16 = .ok (.ldc2_w 192, 3) := dk_20 0 192 (dk_at dksX3_stands_0 16 rfl rfl)
theorem dX3_stands_19 : decode cX3_stands 19 = .ok (.land, 1) := dk_127 (dk_at dksX3_stands_0 19 rfl rfl)
theorem dX3_stands_20 : decode cX3_stands 20 = .ok (.l2i, 1) := dk_136 (dk_at dksX3_stands_0 20 rfl rfl)
theorem dX3_stands_21 : decode cX3_stands 21 = .ok (.istore 7, 2) := dk_54 7 (dk_at dksX3_stands_0 21 rfl rfl)
theorem dX3_stands_23 : decode cX3_stands 23 = .ok (.iload 7, 2) := dk_21 7 (dk_at dksX3_stands_1 0 rfl rfl)
theorem dX3_stands_25 : decode cX3_stands 25 = .ok (.ifCond .ne 6, 3) := dk_154 0 6 (dk_at dksX3_stands_1 2 rfl rfl)
theorem dX3_stands_28 : decode cX3_stands 28 = .ok (.goto 20, 3) := dk_167 0 20 (dk_at dksX3_stands_1 5 rfl rfl)
theorem dX3_stands_31 : decode cX3_stands 31 = .ok (.aload_n 0, 1) := dk_42 (dk_at dksX3_stands_1 8 rfl rfl)
theorem dX3_stands_32 : decode cX3_stands 32 = .ok (.iload 5, 2) := dk_21 5 (dk_at dksX3_stands_1 9 rfl rfl)
theorem dX3_stands_34 : decode cX3_stands 34 = .ok (.iload_n 2, 1) := dk_28 (dk_at dksX3_stands_1 11 rfl rfl)
theorem dX3_stands_35 : decode cX3_stands 35 = .ok (.invokevirtual 194, 3) := dk_182 0 194 (dk_at dksX3_stands_1 12 rfl rfl)
theorem dX3_stands_38 : decode cX3_stands 38 = .ok (.iload 7, 2) := dk_21 7 (dk_at dksX3_stands_1 15 rfl rfl)
theorem dX3_stands_40 : decode cX3_stands 40 = .ok (.if_icmp .eq 5, 3) := dk_159 0 5 (dk_at dksX3_stands_1 17 rfl rfl)
theorem dX3_stands_43 : decode cX3_stands 43 = .ok (.iconst 0, 1) := dk_3 (dk_at dksX3_stands_1 20 rfl rfl)
theorem dX3_stands_44 : decode cX3_stands 44 = .ok (.ireturn, 1) := dk_172 (dk_at dksX3_stands_1 21 rfl rfl)
theorem dX3_stands_45 : decode cX3_stands 45 = .ok (.iinc 5 1, 3) := dk_132 5 1 (dk_at dksX3_stands_2 0 rfl rfl)
theorem dX3_stands_48 : decode cX3_stands 48 = .ok (.iinc 6 (-8), 3) := dk_132 6 248 (dk_at dksX3_stands_2 3 rfl rfl)
theorem dX3_stands_51 : decode cX3_stands 51 = .ok (.goto (-44), 3) := dk_167 255 212 (dk_at dksX3_stands_2 6 rfl rfl)
theorem dX3_stands_54 : decode cX3_stands 54 = .ok (.iconst 1, 1) := dk_4 (dk_at dksX3_stands_2 9 rfl rfl)
theorem dX3_stands_55 : decode cX3_stands 55 = .ok (.ireturn, 1) := dk_172 (dk_at dksX3_stands_2 10 rfl rfl)
abbrev cX3_at0 : ByteArray := prog_24_method_18_code
def yX3_at0 : MethodName := ⟨RX3, "at0", "(II)I"⟩
def dkwX3_at0_0 : List UInt8 := [27, 28, 162, 0, 12, 42, 180, 0, 56, 27, 52, 167, 0, 4, 3, 172]
abbrev dktX3_at0_0 : List UInt8 := dkwX3_at0_0 ++ []
theorem dksX3_at0_0 : cX3_at0.data.toList.drop 0 = dktX3_at0_0 := by decide +kernel
theorem dX3_at0_0 : decode cX3_at0 0 = .ok (.iload_n 1, 1) := dk_27 (dk_at dksX3_at0_0 0 rfl rfl)
theorem dX3_at0_1 : decode cX3_at0 1 = .ok (.iload_n 2, 1) := dk_28 (dk_at dksX3_at0_0 1 rfl rfl)
theorem dX3_at0_2 : decode cX3_at0 2 = .ok (.if_icmp .ge 12, 3) := dk_162 0 12 (dk_at dksX3_at0_0 2 rfl rfl)
theorem dX3_at0_5 : decode cX3_at0 5 = .ok (.aload_n 0, 1) := dk_42 (dk_at dksX3_at0_0 5 rfl rfl)
theorem dX3_at0_6 : decode cX3_at0 6 = .ok (.getfield 56, 3) := dk_180 0 56 (dk_at dksX3_at0_0 6 rfl rfl)
theorem dX3_at0_9 : decode cX3_at0 9 = .ok (.iload_n 1, 1) := dk_27 (dk_at dksX3_at0_0 9 rfl rfl)
theorem dX3_at0_10 : decode cX3_at0 10 = .ok (.caload, 1) := dk_52 (dk_at dksX3_at0_0 10 rfl rfl)
theorem dX3_at0_11 : decode cX3_at0 11 = .ok (.goto 4, 3) := dk_167 0 4 (dk_at dksX3_at0_0 11 rfl rfl)
theorem dX3_at0_14 : decode cX3_at0 14 = .ok (.iconst 0, 1) := dk_3 (dk_at dksX3_at0_0 14 rfl rfl)
theorem dX3_at0_15 : decode cX3_at0 15 = .ok (.ireturn, 1) := dk_172 (dk_at dksX3_at0_0 15 rfl rfl)
abbrev cX3_sortOf : ByteArray := prog_24_method_27_code
def yX3_sortOf : MethodName := ⟨RX3, "sortOf", "(IIZ)I"⟩
def dkwX3_sortOf_12 : List UInt8 := [167, 0, 4, 2, 172]
abbrev dktX3_sortOf_12 : List UInt8 := dkwX3_sortOf_12 ++ []
def dkwX3_sortOf_11 : List UInt8 := [96, 52, 16, 100, 163, 0, 8, 16, 10, 167, 0, 4, 2, 172, 42, 27, 28, 182, 0, 239, 153, 0, 7, 3]
abbrev dktX3_sortOf_11 : List UInt8 := dkwX3_sortOf_11 ++ dktX3_sortOf_12
def dkwX3_sortOf_10 : List UInt8 := [16, 32, 160, 0, 34, 42, 180, 0, 56, 27, 5, 96, 52, 16, 97, 161, 0, 21, 42, 180, 0, 56, 27, 5]
abbrev dktX3_sortOf_10 : List UInt8 := dkwX3_sortOf_10 ++ dktX3_sortOf_11
def dkwX3_sortOf_9 : List UInt8 := [182, 0, 194, 16, 62, 160, 0, 56, 28, 27, 100, 6, 160, 0, 47, 42, 180, 0, 56, 27, 4, 96, 52]
abbrev dktX3_sortOf_9 : List UInt8 := dkwX3_sortOf_9 ++ dktX3_sortOf_10
def dkwX3_sortOf_8 : List UInt8 := [27, 100, 8, 160, 0, 18, 42, 27, 28, 20, 0, 254, 182, 0, 199, 153, 0, 6, 16, 9, 172, 42, 27, 28]
abbrev dktX3_sortOf_8 : List UInt8 := dkwX3_sortOf_8 ++ dktX3_sortOf_9
def dkwX3_sortOf_7 : List UInt8 := [172, 28, 27, 100, 8, 160, 0, 18, 42, 27, 28, 20, 0, 252, 182, 0, 199, 153, 0, 6, 16, 8, 172, 28]
abbrev dktX3_sortOf_7 : List UInt8 := dkwX3_sortOf_7 ++ dktX3_sortOf_8
def dkwX3_sortOf_6 : List UInt8 := [16, 6, 172, 28, 27, 100, 6, 160, 0, 18, 42, 27, 28, 20, 0, 250, 182, 0, 199, 153, 0, 6, 16, 7]
abbrev dktX3_sortOf_6 : List UInt8 := dkwX3_sortOf_6 ++ dktX3_sortOf_7
def dkwX3_sortOf_5 : List UInt8 := [167, 0, 4, 2, 172, 28, 27, 100, 7, 160, 0, 18, 42, 27, 28, 20, 0, 248, 182, 0, 199, 153, 0, 6]
abbrev dktX3_sortOf_5 : List UInt8 := dkwX3_sortOf_5 ++ dktX3_sortOf_6
def dkwX3_sortOf_4 : List UInt8 := [20, 0, 246, 182, 0, 199, 153, 0, 21, 42, 27, 16, 6, 96, 28, 182, 0, 239, 153, 0, 7, 8]
abbrev dktX3_sortOf_4 : List UInt8 := dkwX3_sortOf_4 ++ dktX3_sortOf_5
def dkwX3_sortOf_3 : List UInt8 := [153, 0, 21, 42, 27, 16, 6, 96, 28, 182, 0, 239, 153, 0, 7, 7, 167, 0, 4, 2, 172, 42, 27, 28]
abbrev dktX3_sortOf_3 : List UInt8 := dkwX3_sortOf_3 ++ dktX3_sortOf_4
def dkwX3_sortOf_2 : List UInt8 := [7, 96, 28, 182, 0, 239, 153, 0, 7, 6, 167, 0, 4, 2, 172, 42, 27, 28, 20, 0, 244, 182, 0, 199]
abbrev dktX3_sortOf_2 : List UInt8 := dkwX3_sortOf_2 ++ dktX3_sortOf_3
def dkwX3_sortOf_1 : List UInt8 := [182, 0, 194, 16, 33, 160, 0, 5, 5, 172, 42, 27, 28, 20, 0, 242, 182, 0, 199, 153, 0, 20, 42, 27]
abbrev dktX3_sortOf_1 : List UInt8 := dkwX3_sortOf_1 ++ dktX3_sortOf_2
def dkwX3_sortOf_0 : List UInt8 := [29, 153, 0, 18, 42, 27, 28, 182, 0, 239, 153, 0, 7, 4, 167, 0, 4, 2, 172, 42, 27, 28]
abbrev dktX3_sortOf_0 : List UInt8 := dkwX3_sortOf_0 ++ dktX3_sortOf_1
theorem dksX3_sortOf_0 : cX3_sortOf.data.toList.drop 0 = dktX3_sortOf_0 := by decide +kernel
theorem dksX3_sortOf_1 : cX3_sortOf.data.toList.drop 22 = dktX3_sortOf_1 := dk_seg dksX3_sortOf_0 22 rfl rfl
theorem dksX3_sortOf_2 : cX3_sortOf.data.toList.drop 46 = dktX3_sortOf_2 := dk_seg dksX3_sortOf_1 24 rfl rfl
theorem dksX3_sortOf_3 : cX3_sortOf.data.toList.drop 70 = dktX3_sortOf_3 := dk_seg dksX3_sortOf_2 24 rfl rfl
theorem dksX3_sortOf_4 : cX3_sortOf.data.toList.drop 94 = dktX3_sortOf_4 := dk_seg dksX3_sortOf_3 24 rfl rfl
theorem dksX3_sortOf_5 : cX3_sortOf.data.toList.drop 116 = dktX3_sortOf_5 := dk_seg dksX3_sortOf_4 22 rfl rfl
theorem dksX3_sortOf_6 : cX3_sortOf.data.toList.drop 140 = dktX3_sortOf_6 := dk_seg dksX3_sortOf_5 24 rfl rfl
theorem dksX3_sortOf_7 : cX3_sortOf.data.toList.drop 164 = dktX3_sortOf_7 := dk_seg dksX3_sortOf_6 24 rfl rfl
theorem dksX3_sortOf_8 : cX3_sortOf.data.toList.drop 188 = dktX3_sortOf_8 := dk_seg dksX3_sortOf_7 24 rfl rfl
theorem dksX3_sortOf_9 : cX3_sortOf.data.toList.drop 212 = dktX3_sortOf_9 := dk_seg dksX3_sortOf_8 24 rfl rfl
theorem dksX3_sortOf_10 : cX3_sortOf.data.toList.drop 235 = dktX3_sortOf_10 := dk_seg dksX3_sortOf_9 23 rfl rfl
theorem dksX3_sortOf_11 : cX3_sortOf.data.toList.drop 259 = dktX3_sortOf_11 := dk_seg dksX3_sortOf_10 24 rfl rfl
theorem dksX3_sortOf_12 : cX3_sortOf.data.toList.drop 283 = dktX3_sortOf_12 := dk_seg dksX3_sortOf_11 24 rfl rfl
theorem dX3_sortOf_0 : decode cX3_sortOf 0 = .ok (.iload_n 3, 1) := dk_29 (dk_at dksX3_sortOf_0 0 rfl rfl)
theorem dX3_sortOf_1 : decode cX3_sortOf 1 = .ok (.ifCond .eq 18, 3) := dk_153 0 18 (dk_at dksX3_sortOf_0 1 rfl rfl)
theorem dX3_sortOf_4 : decode cX3_sortOf 4 = .ok (.aload_n 0, 1) := dk_42 (dk_at dksX3_sortOf_0 4 rfl rfl)
theorem dX3_sortOf_5 : decode cX3_sortOf 5 = .ok (.iload_n 1, 1) := dk_27 (dk_at dksX3_sortOf_0 5 rfl rfl)
theorem dX3_sortOf_6 : decode cX3_sortOf 6 = .ok (.iload_n 2, 1) := dk_28 (dk_at dksX3_sortOf_0 6 rfl rfl)
theorem dX3_sortOf_7 : decode cX3_sortOf 7 = .ok (.invokevirtual 239, 3) := dk_182 0 239 (dk_at dksX3_sortOf_0 7 rfl rfl)
theorem dX3_sortOf_10 : decode cX3_sortOf 10 = .ok (.ifCond .eq 7, 3) := dk_153 0 7 (dk_at dksX3_sortOf_0 10 rfl rfl)
theorem dX3_sortOf_13 : decode cX3_sortOf 13 = .ok (.iconst 1, 1) := dk_4 (dk_at dksX3_sortOf_0 13 rfl rfl)
theorem dX3_sortOf_14 : decode cX3_sortOf 14 = .ok (.goto 4, 3) := dk_167 0 4 (dk_at dksX3_sortOf_0 14 rfl rfl)
theorem dX3_sortOf_17 : decode cX3_sortOf 17 = .ok (.iconst (-1), 1) := dk_2 (dk_at dksX3_sortOf_0 17 rfl rfl)
theorem dX3_sortOf_18 : decode cX3_sortOf 18 = .ok (.ireturn, 1) := dk_172 (dk_at dksX3_sortOf_0 18 rfl rfl)
theorem dX3_sortOf_19 : decode cX3_sortOf 19 = .ok (.aload_n 0, 1) := dk_42 (dk_at dksX3_sortOf_0 19 rfl rfl)
theorem dX3_sortOf_20 : decode cX3_sortOf 20 = .ok (.iload_n 1, 1) := dk_27 (dk_at dksX3_sortOf_0 20 rfl rfl)
theorem dX3_sortOf_21 : decode cX3_sortOf 21 = .ok (.iload_n 2, 1) := dk_28 (dk_at dksX3_sortOf_0 21 rfl rfl)
theorem dX3_sortOf_22 : decode cX3_sortOf 22 = .ok (.invokevirtual 194, 3) := dk_182 0 194 (dk_at dksX3_sortOf_1 0 rfl rfl)
theorem dX3_sortOf_25 : decode cX3_sortOf 25 = .ok (.bipush 33, 2) := dk_16 33 (dk_at dksX3_sortOf_1 3 rfl rfl)
theorem dX3_sortOf_27 : decode cX3_sortOf 27 = .ok (.if_icmp .ne 5, 3) := dk_160 0 5 (dk_at dksX3_sortOf_1 5 rfl rfl)
theorem dX3_sortOf_30 : decode cX3_sortOf 30 = .ok (.iconst 2, 1) := dk_5 (dk_at dksX3_sortOf_1 8 rfl rfl)
theorem dX3_sortOf_31 : decode cX3_sortOf 31 = .ok (.ireturn, 1) := dk_172 (dk_at dksX3_sortOf_1 9 rfl rfl)
theorem dX3_sortOf_32 : decode cX3_sortOf 32 = .ok (.aload_n 0, 1) := dk_42 (dk_at dksX3_sortOf_1 10 rfl rfl)
theorem dX3_sortOf_33 : decode cX3_sortOf 33 = .ok (.iload_n 1, 1) := dk_27 (dk_at dksX3_sortOf_1 11 rfl rfl)
theorem dX3_sortOf_34 : decode cX3_sortOf 34 = .ok (.iload_n 2, 1) := dk_28 (dk_at dksX3_sortOf_1 12 rfl rfl)
theorem dX3_sortOf_35 : decode cX3_sortOf 35 = .ok (.ldc2_w 242, 3) := dk_20 0 242 (dk_at dksX3_sortOf_1 13 rfl rfl)
theorem dX3_sortOf_38 : decode cX3_sortOf 38 = .ok (.invokevirtual 199, 3) := dk_182 0 199 (dk_at dksX3_sortOf_1 16 rfl rfl)
theorem dX3_sortOf_41 : decode cX3_sortOf 41 = .ok (.ifCond .eq 20, 3) := dk_153 0 20 (dk_at dksX3_sortOf_1 19 rfl rfl)
theorem dX3_sortOf_44 : decode cX3_sortOf 44 = .ok (.aload_n 0, 1) := dk_42 (dk_at dksX3_sortOf_1 22 rfl rfl)
theorem dX3_sortOf_45 : decode cX3_sortOf 45 = .ok (.iload_n 1, 1) := dk_27 (dk_at dksX3_sortOf_1 23 rfl rfl)
theorem dX3_sortOf_46 : decode cX3_sortOf 46 = .ok (.iconst 4, 1) := dk_7 (dk_at dksX3_sortOf_2 0 rfl rfl)
theorem dX3_sortOf_47 : decode cX3_sortOf 47 = .ok (.iadd, 1) := dk_96 (dk_at dksX3_sortOf_2 1 rfl rfl)
theorem dX3_sortOf_48 : decode cX3_sortOf 48 = .ok (.iload_n 2, 1) := dk_28 (dk_at dksX3_sortOf_2 2 rfl rfl)
theorem dX3_sortOf_49 : decode cX3_sortOf 49 = .ok (.invokevirtual 239, 3) := dk_182 0 239 (dk_at dksX3_sortOf_2 3 rfl rfl)
theorem dX3_sortOf_52 : decode cX3_sortOf 52 = .ok (.ifCond .eq 7, 3) := dk_153 0 7 (dk_at dksX3_sortOf_2 6 rfl rfl)
theorem dX3_sortOf_55 : decode cX3_sortOf 55 = .ok (.iconst 3, 1) := dk_6 (dk_at dksX3_sortOf_2 9 rfl rfl)
theorem dX3_sortOf_56 : decode cX3_sortOf 56 = .ok (.goto 4, 3) := dk_167 0 4 (dk_at dksX3_sortOf_2 10 rfl rfl)
theorem dX3_sortOf_59 : decode cX3_sortOf 59 = .ok (.iconst (-1), 1) := dk_2 (dk_at dksX3_sortOf_2 13 rfl rfl)
theorem dX3_sortOf_60 : decode cX3_sortOf 60 = .ok (.ireturn, 1) := dk_172 (dk_at dksX3_sortOf_2 14 rfl rfl)
theorem dX3_sortOf_61 : decode cX3_sortOf 61 = .ok (.aload_n 0, 1) := dk_42 (dk_at dksX3_sortOf_2 15 rfl rfl)
theorem dX3_sortOf_62 : decode cX3_sortOf 62 = .ok (.iload_n 1, 1) := dk_27 (dk_at dksX3_sortOf_2 16 rfl rfl)
theorem dX3_sortOf_63 : decode cX3_sortOf 63 = .ok (.iload_n 2, 1) := dk_28 (dk_at dksX3_sortOf_2 17 rfl rfl)
theorem dX3_sortOf_64 : decode cX3_sortOf 64 = .ok (.ldc2_w 244, 3) := dk_20 0 244 (dk_at dksX3_sortOf_2 18 rfl rfl)
theorem dX3_sortOf_67 : decode cX3_sortOf 67 = .ok (.invokevirtual 199, 3) := dk_182 0 199 (dk_at dksX3_sortOf_2 21 rfl rfl)
theorem dX3_sortOf_70 : decode cX3_sortOf 70 = .ok (.ifCond .eq 21, 3) := dk_153 0 21 (dk_at dksX3_sortOf_3 0 rfl rfl)
theorem dX3_sortOf_73 : decode cX3_sortOf 73 = .ok (.aload_n 0, 1) := dk_42 (dk_at dksX3_sortOf_3 3 rfl rfl)
theorem dX3_sortOf_74 : decode cX3_sortOf 74 = .ok (.iload_n 1, 1) := dk_27 (dk_at dksX3_sortOf_3 4 rfl rfl)
theorem dX3_sortOf_75 : decode cX3_sortOf 75 = .ok (.bipush 6, 2) := dk_16 6 (dk_at dksX3_sortOf_3 5 rfl rfl)
theorem dX3_sortOf_77 : decode cX3_sortOf 77 = .ok (.iadd, 1) := dk_96 (dk_at dksX3_sortOf_3 7 rfl rfl)
theorem dX3_sortOf_78 : decode cX3_sortOf 78 = .ok (.iload_n 2, 1) := dk_28 (dk_at dksX3_sortOf_3 8 rfl rfl)
theorem dX3_sortOf_79 : decode cX3_sortOf 79 = .ok (.invokevirtual 239, 3) := dk_182 0 239 (dk_at dksX3_sortOf_3 9 rfl rfl)
theorem dX3_sortOf_82 : decode cX3_sortOf 82 = .ok (.ifCond .eq 7, 3) := dk_153 0 7 (dk_at dksX3_sortOf_3 12 rfl rfl)
theorem dX3_sortOf_85 : decode cX3_sortOf 85 = .ok (.iconst 4, 1) := dk_7 (dk_at dksX3_sortOf_3 15 rfl rfl)
theorem dX3_sortOf_86 : decode cX3_sortOf 86 = .ok (.goto 4, 3) := dk_167 0 4 (dk_at dksX3_sortOf_3 16 rfl rfl)
theorem dX3_sortOf_89 : decode cX3_sortOf 89 = .ok (.iconst (-1), 1) := dk_2 (dk_at dksX3_sortOf_3 19 rfl rfl)
theorem dX3_sortOf_90 : decode cX3_sortOf 90 = .ok (.ireturn, 1) := dk_172 (dk_at dksX3_sortOf_3 20 rfl rfl)
theorem dX3_sortOf_91 : decode cX3_sortOf 91 = .ok (.aload_n 0, 1) := dk_42 (dk_at dksX3_sortOf_3 21 rfl rfl)
theorem dX3_sortOf_92 : decode cX3_sortOf 92 = .ok (.iload_n 1, 1) := dk_27 (dk_at dksX3_sortOf_3 22 rfl rfl)
theorem dX3_sortOf_93 : decode cX3_sortOf 93 = .ok (.iload_n 2, 1) := dk_28 (dk_at dksX3_sortOf_3 23 rfl rfl)
theorem dX3_sortOf_94 : decode cX3_sortOf 94 = .ok (.ldc2_w 246, 3) := dk_20 0 246 (dk_at dksX3_sortOf_4 0 rfl rfl)
theorem dX3_sortOf_97 : decode cX3_sortOf 97 = .ok (.invokevirtual 199, 3) := dk_182 0 199 (dk_at dksX3_sortOf_4 3 rfl rfl)
theorem dX3_sortOf_100 : decode cX3_sortOf 100 = .ok (.ifCond .eq 21, 3) := dk_153 0 21 (dk_at dksX3_sortOf_4 6 rfl rfl)
theorem dX3_sortOf_103 : decode cX3_sortOf 103 = .ok (.aload_n 0, 1) := dk_42 (dk_at dksX3_sortOf_4 9 rfl rfl)
theorem dX3_sortOf_104 : decode cX3_sortOf 104 = .ok (.iload_n 1, 1) := dk_27 (dk_at dksX3_sortOf_4 10 rfl rfl)
theorem dX3_sortOf_105 : decode cX3_sortOf 105 = .ok (.bipush 6, 2) := dk_16 6 (dk_at dksX3_sortOf_4 11 rfl rfl)
theorem dX3_sortOf_107 : decode cX3_sortOf 107 = .ok (.iadd, 1) := dk_96 (dk_at dksX3_sortOf_4 13 rfl rfl)
theorem dX3_sortOf_108 : decode cX3_sortOf 108 = .ok (.iload_n 2, 1) := dk_28 (dk_at dksX3_sortOf_4 14 rfl rfl)
theorem dX3_sortOf_109 : decode cX3_sortOf 109 = .ok (.invokevirtual 239, 3) := dk_182 0 239 (dk_at dksX3_sortOf_4 15 rfl rfl)
theorem dX3_sortOf_112 : decode cX3_sortOf 112 = .ok (.ifCond .eq 7, 3) := dk_153 0 7 (dk_at dksX3_sortOf_4 18 rfl rfl)
theorem dX3_sortOf_115 : decode cX3_sortOf 115 = .ok (.iconst 5, 1) := dk_8 (dk_at dksX3_sortOf_4 21 rfl rfl)
theorem dX3_sortOf_116 : decode cX3_sortOf 116 = .ok (.goto 4, 3) := dk_167 0 4 (dk_at dksX3_sortOf_5 0 rfl rfl)
theorem dX3_sortOf_119 : decode cX3_sortOf 119 = .ok (.iconst (-1), 1) := dk_2 (dk_at dksX3_sortOf_5 3 rfl rfl)
theorem dX3_sortOf_120 : decode cX3_sortOf 120 = .ok (.ireturn, 1) := dk_172 (dk_at dksX3_sortOf_5 4 rfl rfl)
theorem dX3_sortOf_121 : decode cX3_sortOf 121 = .ok (.iload_n 2, 1) := dk_28 (dk_at dksX3_sortOf_5 5 rfl rfl)
theorem dX3_sortOf_122 : decode cX3_sortOf 122 = .ok (.iload_n 1, 1) := dk_27 (dk_at dksX3_sortOf_5 6 rfl rfl)
theorem dX3_sortOf_123 : decode cX3_sortOf 123 = .ok (.isub, 1) := dk_100 (dk_at dksX3_sortOf_5 7 rfl rfl)
theorem dX3_sortOf_124 : decode cX3_sortOf 124 = .ok (.iconst 4, 1) := dk_7 (dk_at dksX3_sortOf_5 8 rfl rfl)
theorem dX3_sortOf_125 : decode cX3_sortOf 125 = .ok (.if_icmp .ne 18, 3) := dk_160 0 18 (dk_at dksX3_sortOf_5 9 rfl rfl)
theorem dX3_sortOf_128 : decode cX3_sortOf 128 = .ok (.aload_n 0, 1) := dk_42 (dk_at dksX3_sortOf_5 12 rfl rfl)
theorem dX3_sortOf_129 : decode cX3_sortOf 129 = .ok (.iload_n 1, 1) := dk_27 (dk_at dksX3_sortOf_5 13 rfl rfl)
theorem dX3_sortOf_130 : decode cX3_sortOf 130 = .ok (.iload_n 2, 1) := dk_28 (dk_at dksX3_sortOf_5 14 rfl rfl)
theorem dX3_sortOf_131 : decode cX3_sortOf 131 = .ok (.ldc2_w 248, 3) := dk_20 0 248 (dk_at dksX3_sortOf_5 15 rfl rfl)
theorem dX3_sortOf_134 : decode cX3_sortOf 134 = .ok (.invokevirtual 199, 3) := dk_182 0 199 (dk_at dksX3_sortOf_5 18 rfl rfl)
theorem dX3_sortOf_137 : decode cX3_sortOf 137 = .ok (.ifCond .eq 6, 3) := dk_153 0 6 (dk_at dksX3_sortOf_5 21 rfl rfl)
theorem dX3_sortOf_140 : decode cX3_sortOf 140 = .ok (.bipush 6, 2) := dk_16 6 (dk_at dksX3_sortOf_6 0 rfl rfl)
theorem dX3_sortOf_142 : decode cX3_sortOf 142 = .ok (.ireturn, 1) := dk_172 (dk_at dksX3_sortOf_6 2 rfl rfl)
theorem dX3_sortOf_143 : decode cX3_sortOf 143 = .ok (.iload_n 2, 1) := dk_28 (dk_at dksX3_sortOf_6 3 rfl rfl)
theorem dX3_sortOf_144 : decode cX3_sortOf 144 = .ok (.iload_n 1, 1) := dk_27 (dk_at dksX3_sortOf_6 4 rfl rfl)
theorem dX3_sortOf_145 : decode cX3_sortOf 145 = .ok (.isub, 1) := dk_100 (dk_at dksX3_sortOf_6 5 rfl rfl)
theorem dX3_sortOf_146 : decode cX3_sortOf 146 = .ok (.iconst 3, 1) := dk_6 (dk_at dksX3_sortOf_6 6 rfl rfl)
theorem dX3_sortOf_147 : decode cX3_sortOf 147 = .ok (.if_icmp .ne 18, 3) := dk_160 0 18 (dk_at dksX3_sortOf_6 7 rfl rfl)
theorem dX3_sortOf_150 : decode cX3_sortOf 150 = .ok (.aload_n 0, 1) := dk_42 (dk_at dksX3_sortOf_6 10 rfl rfl)
theorem dX3_sortOf_151 : decode cX3_sortOf 151 = .ok (.iload_n 1, 1) := dk_27 (dk_at dksX3_sortOf_6 11 rfl rfl)
theorem dX3_sortOf_152 : decode cX3_sortOf 152 = .ok (.iload_n 2, 1) := dk_28 (dk_at dksX3_sortOf_6 12 rfl rfl)
theorem dX3_sortOf_153 : decode cX3_sortOf 153 = .ok (.ldc2_w 250, 3) := dk_20 0 250 (dk_at dksX3_sortOf_6 13 rfl rfl)
theorem dX3_sortOf_156 : decode cX3_sortOf 156 = .ok (.invokevirtual 199, 3) := dk_182 0 199 (dk_at dksX3_sortOf_6 16 rfl rfl)
theorem dX3_sortOf_159 : decode cX3_sortOf 159 = .ok (.ifCond .eq 6, 3) := dk_153 0 6 (dk_at dksX3_sortOf_6 19 rfl rfl)
theorem dX3_sortOf_162 : decode cX3_sortOf 162 = .ok (.bipush 7, 2) := dk_16 7 (dk_at dksX3_sortOf_6 22 rfl rfl)
theorem dX3_sortOf_164 : decode cX3_sortOf 164 = .ok (.ireturn, 1) := dk_172 (dk_at dksX3_sortOf_7 0 rfl rfl)
theorem dX3_sortOf_165 : decode cX3_sortOf 165 = .ok (.iload_n 2, 1) := dk_28 (dk_at dksX3_sortOf_7 1 rfl rfl)
theorem dX3_sortOf_166 : decode cX3_sortOf 166 = .ok (.iload_n 1, 1) := dk_27 (dk_at dksX3_sortOf_7 2 rfl rfl)
theorem dX3_sortOf_167 : decode cX3_sortOf 167 = .ok (.isub, 1) := dk_100 (dk_at dksX3_sortOf_7 3 rfl rfl)
theorem dX3_sortOf_168 : decode cX3_sortOf 168 = .ok (.iconst 5, 1) := dk_8 (dk_at dksX3_sortOf_7 4 rfl rfl)
theorem dX3_sortOf_169 : decode cX3_sortOf 169 = .ok (.if_icmp .ne 18, 3) := dk_160 0 18 (dk_at dksX3_sortOf_7 5 rfl rfl)
theorem dX3_sortOf_172 : decode cX3_sortOf 172 = .ok (.aload_n 0, 1) := dk_42 (dk_at dksX3_sortOf_7 8 rfl rfl)
theorem dX3_sortOf_173 : decode cX3_sortOf 173 = .ok (.iload_n 1, 1) := dk_27 (dk_at dksX3_sortOf_7 9 rfl rfl)
theorem dX3_sortOf_174 : decode cX3_sortOf 174 = .ok (.iload_n 2, 1) := dk_28 (dk_at dksX3_sortOf_7 10 rfl rfl)
theorem dX3_sortOf_175 : decode cX3_sortOf 175 = .ok (.ldc2_w 252, 3) := dk_20 0 252 (dk_at dksX3_sortOf_7 11 rfl rfl)
theorem dX3_sortOf_178 : decode cX3_sortOf 178 = .ok (.invokevirtual 199, 3) := dk_182 0 199 (dk_at dksX3_sortOf_7 14 rfl rfl)
theorem dX3_sortOf_181 : decode cX3_sortOf 181 = .ok (.ifCond .eq 6, 3) := dk_153 0 6 (dk_at dksX3_sortOf_7 17 rfl rfl)
theorem dX3_sortOf_184 : decode cX3_sortOf 184 = .ok (.bipush 8, 2) := dk_16 8 (dk_at dksX3_sortOf_7 20 rfl rfl)
theorem dX3_sortOf_186 : decode cX3_sortOf 186 = .ok (.ireturn, 1) := dk_172 (dk_at dksX3_sortOf_7 22 rfl rfl)
theorem dX3_sortOf_187 : decode cX3_sortOf 187 = .ok (.iload_n 2, 1) := dk_28 (dk_at dksX3_sortOf_7 23 rfl rfl)
theorem dX3_sortOf_188 : decode cX3_sortOf 188 = .ok (.iload_n 1, 1) := dk_27 (dk_at dksX3_sortOf_8 0 rfl rfl)
theorem dX3_sortOf_189 : decode cX3_sortOf 189 = .ok (.isub, 1) := dk_100 (dk_at dksX3_sortOf_8 1 rfl rfl)
theorem dX3_sortOf_190 : decode cX3_sortOf 190 = .ok (.iconst 5, 1) := dk_8 (dk_at dksX3_sortOf_8 2 rfl rfl)
theorem dX3_sortOf_191 : decode cX3_sortOf 191 = .ok (.if_icmp .ne 18, 3) := dk_160 0 18 (dk_at dksX3_sortOf_8 3 rfl rfl)
theorem dX3_sortOf_194 : decode cX3_sortOf 194 = .ok (.aload_n 0, 1) := dk_42 (dk_at dksX3_sortOf_8 6 rfl rfl)
theorem dX3_sortOf_195 : decode cX3_sortOf 195 = .ok (.iload_n 1, 1) := dk_27 (dk_at dksX3_sortOf_8 7 rfl rfl)
theorem dX3_sortOf_196 : decode cX3_sortOf 196 = .ok (.iload_n 2, 1) := dk_28 (dk_at dksX3_sortOf_8 8 rfl rfl)
theorem dX3_sortOf_197 : decode cX3_sortOf 197 = .ok (.ldc2_w 254, 3) := dk_20 0 254 (dk_at dksX3_sortOf_8 9 rfl rfl)
theorem dX3_sortOf_200 : decode cX3_sortOf 200 = .ok (.invokevirtual 199, 3) := dk_182 0 199 (dk_at dksX3_sortOf_8 12 rfl rfl)
theorem dX3_sortOf_203 : decode cX3_sortOf 203 = .ok (.ifCond .eq 6, 3) := dk_153 0 6 (dk_at dksX3_sortOf_8 15 rfl rfl)
theorem dX3_sortOf_206 : decode cX3_sortOf 206 = .ok (.bipush 9, 2) := dk_16 9 (dk_at dksX3_sortOf_8 18 rfl rfl)
theorem dX3_sortOf_208 : decode cX3_sortOf 208 = .ok (.ireturn, 1) := dk_172 (dk_at dksX3_sortOf_8 20 rfl rfl)
theorem dX3_sortOf_209 : decode cX3_sortOf 209 = .ok (.aload_n 0, 1) := dk_42 (dk_at dksX3_sortOf_8 21 rfl rfl)
theorem dX3_sortOf_210 : decode cX3_sortOf 210 = .ok (.iload_n 1, 1) := dk_27 (dk_at dksX3_sortOf_8 22 rfl rfl)
theorem dX3_sortOf_211 : decode cX3_sortOf 211 = .ok (.iload_n 2, 1) := dk_28 (dk_at dksX3_sortOf_8 23 rfl rfl)
theorem dX3_sortOf_212 : decode cX3_sortOf 212 = .ok (.invokevirtual 194, 3) := dk_182 0 194 (dk_at dksX3_sortOf_9 0 rfl rfl)
theorem dX3_sortOf_215 : decode cX3_sortOf 215 = .ok (.bipush 62, 2) := dk_16 62 (dk_at dksX3_sortOf_9 3 rfl rfl)
theorem dX3_sortOf_217 : decode cX3_sortOf 217 = .ok (.if_icmp .ne 56, 3) := dk_160 0 56 (dk_at dksX3_sortOf_9 5 rfl rfl)
theorem dX3_sortOf_220 : decode cX3_sortOf 220 = .ok (.iload_n 2, 1) := dk_28 (dk_at dksX3_sortOf_9 8 rfl rfl)
theorem dX3_sortOf_221 : decode cX3_sortOf 221 = .ok (.iload_n 1, 1) := dk_27 (dk_at dksX3_sortOf_9 9 rfl rfl)
theorem dX3_sortOf_222 : decode cX3_sortOf 222 = .ok (.isub, 1) := dk_100 (dk_at dksX3_sortOf_9 10 rfl rfl)
theorem dX3_sortOf_223 : decode cX3_sortOf 223 = .ok (.iconst 3, 1) := dk_6 (dk_at dksX3_sortOf_9 11 rfl rfl)
theorem dX3_sortOf_224 : decode cX3_sortOf 224 = .ok (.if_icmp .ne 47, 3) := dk_160 0 47 (dk_at dksX3_sortOf_9 12 rfl rfl)
theorem dX3_sortOf_227 : decode cX3_sortOf 227 = .ok (.aload_n 0, 1) := dk_42 (dk_at dksX3_sortOf_9 15 rfl rfl)
theorem dX3_sortOf_228 : decode cX3_sortOf 228 = .ok (.getfield 56, 3) := dk_180 0 56 (dk_at dksX3_sortOf_9 16 rfl rfl)
theorem dX3_sortOf_231 : decode cX3_sortOf 231 = .ok (.iload_n 1, 1) := dk_27 (dk_at dksX3_sortOf_9 19 rfl rfl)
theorem dX3_sortOf_232 : decode cX3_sortOf 232 = .ok (.iconst 1, 1) := dk_4 (dk_at dksX3_sortOf_9 20 rfl rfl)
theorem dX3_sortOf_233 : decode cX3_sortOf 233 = .ok (.iadd, 1) := dk_96 (dk_at dksX3_sortOf_9 21 rfl rfl)
theorem dX3_sortOf_234 : decode cX3_sortOf 234 = .ok (.caload, 1) := dk_52 (dk_at dksX3_sortOf_9 22 rfl rfl)
theorem dX3_sortOf_235 : decode cX3_sortOf 235 = .ok (.bipush 32, 2) := dk_16 32 (dk_at dksX3_sortOf_10 0 rfl rfl)
theorem dX3_sortOf_237 : decode cX3_sortOf 237 = .ok (.if_icmp .ne 34, 3) := dk_160 0 34 (dk_at dksX3_sortOf_10 2 rfl rfl)
theorem dX3_sortOf_240 : decode cX3_sortOf 240 = .ok (.aload_n 0, 1) := dk_42 (dk_at dksX3_sortOf_10 5 rfl rfl)
theorem dX3_sortOf_241 : decode cX3_sortOf 241 = .ok (.getfield 56, 3) := dk_180 0 56 (dk_at dksX3_sortOf_10 6 rfl rfl)
theorem dX3_sortOf_244 : decode cX3_sortOf 244 = .ok (.iload_n 1, 1) := dk_27 (dk_at dksX3_sortOf_10 9 rfl rfl)
theorem dX3_sortOf_245 : decode cX3_sortOf 245 = .ok (.iconst 2, 1) := dk_5 (dk_at dksX3_sortOf_10 10 rfl rfl)
theorem dX3_sortOf_246 : decode cX3_sortOf 246 = .ok (.iadd, 1) := dk_96 (dk_at dksX3_sortOf_10 11 rfl rfl)
theorem dX3_sortOf_247 : decode cX3_sortOf 247 = .ok (.caload, 1) := dk_52 (dk_at dksX3_sortOf_10 12 rfl rfl)
theorem dX3_sortOf_248 : decode cX3_sortOf 248 = .ok (.bipush 97, 2) := dk_16 97 (dk_at dksX3_sortOf_10 13 rfl rfl)
theorem dX3_sortOf_250 : decode cX3_sortOf 250 = .ok (.if_icmp .lt 21, 3) := dk_161 0 21 (dk_at dksX3_sortOf_10 15 rfl rfl)
theorem dX3_sortOf_253 : decode cX3_sortOf 253 = .ok (.aload_n 0, 1) := dk_42 (dk_at dksX3_sortOf_10 18 rfl rfl)
theorem dX3_sortOf_254 : decode cX3_sortOf 254 = .ok (.getfield 56, 3) := dk_180 0 56 (dk_at dksX3_sortOf_10 19 rfl rfl)
theorem dX3_sortOf_257 : decode cX3_sortOf 257 = .ok (.iload_n 1, 1) := dk_27 (dk_at dksX3_sortOf_10 22 rfl rfl)
theorem dX3_sortOf_258 : decode cX3_sortOf 258 = .ok (.iconst 2, 1) := dk_5 (dk_at dksX3_sortOf_10 23 rfl rfl)
theorem dX3_sortOf_259 : decode cX3_sortOf 259 = .ok (.iadd, 1) := dk_96 (dk_at dksX3_sortOf_11 0 rfl rfl)
theorem dX3_sortOf_260 : decode cX3_sortOf 260 = .ok (.caload, 1) := dk_52 (dk_at dksX3_sortOf_11 1 rfl rfl)
theorem dX3_sortOf_261 : decode cX3_sortOf 261 = .ok (.bipush 100, 2) := dk_16 100 (dk_at dksX3_sortOf_11 2 rfl rfl)
theorem dX3_sortOf_263 : decode cX3_sortOf 263 = .ok (.if_icmp .gt 8, 3) := dk_163 0 8 (dk_at dksX3_sortOf_11 4 rfl rfl)
theorem dX3_sortOf_266 : decode cX3_sortOf 266 = .ok (.bipush 10, 2) := dk_16 10 (dk_at dksX3_sortOf_11 7 rfl rfl)
theorem dX3_sortOf_268 : decode cX3_sortOf 268 = .ok (.goto 4, 3) := dk_167 0 4 (dk_at dksX3_sortOf_11 9 rfl rfl)
theorem dX3_sortOf_271 : decode cX3_sortOf 271 = .ok (.iconst (-1), 1) := dk_2 (dk_at dksX3_sortOf_11 12 rfl rfl)
theorem dX3_sortOf_272 : decode cX3_sortOf 272 = .ok (.ireturn, 1) := dk_172 (dk_at dksX3_sortOf_11 13 rfl rfl)
theorem dX3_sortOf_273 : decode cX3_sortOf 273 = .ok (.aload_n 0, 1) := dk_42 (dk_at dksX3_sortOf_11 14 rfl rfl)
theorem dX3_sortOf_274 : decode cX3_sortOf 274 = .ok (.iload_n 1, 1) := dk_27 (dk_at dksX3_sortOf_11 15 rfl rfl)
theorem dX3_sortOf_275 : decode cX3_sortOf 275 = .ok (.iload_n 2, 1) := dk_28 (dk_at dksX3_sortOf_11 16 rfl rfl)
theorem dX3_sortOf_276 : decode cX3_sortOf 276 = .ok (.invokevirtual 239, 3) := dk_182 0 239 (dk_at dksX3_sortOf_11 17 rfl rfl)
theorem dX3_sortOf_279 : decode cX3_sortOf 279 = .ok (.ifCond .eq 7, 3) := dk_153 0 7 (dk_at dksX3_sortOf_11 20 rfl rfl)
theorem dX3_sortOf_282 : decode cX3_sortOf 282 = .ok (.iconst 0, 1) := dk_3 (dk_at dksX3_sortOf_11 23 rfl rfl)
theorem dX3_sortOf_283 : decode cX3_sortOf 283 = .ok (.goto 4, 3) := dk_167 0 4 (dk_at dksX3_sortOf_12 0 rfl rfl)
theorem dX3_sortOf_286 : decode cX3_sortOf 286 = .ok (.iconst (-1), 1) := dk_2 (dk_at dksX3_sortOf_12 3 rfl rfl)
theorem dX3_sortOf_287 : decode cX3_sortOf 287 = .ok (.ireturn, 1) := dk_172 (dk_at dksX3_sortOf_12 4 rfl rfl)
abbrev cX3_isExpr : ByteArray := prog_24_method_26_code
def yX3_isExpr : MethodName := ⟨RX3, "isExpr", "(II)Z"⟩
def dkwX3_isExpr_4 : List UInt8 := [167, 0, 4, 3, 172]
abbrev dktX3_isExpr_4 : List UInt8 := dkwX3_isExpr_4 ++ []
def dkwX3_isExpr_3 : List UInt8 := [28, 182, 0, 194, 16, 32, 160, 0, 20, 42, 21, 4, 4, 96, 28, 182, 0, 233, 28, 160, 0, 7, 4]
abbrev dktX3_isExpr_3 : List UInt8 := dkwX3_isExpr_3 ++ dktX3_isExpr_4
def dkwX3_isExpr_2 : List UInt8 := [7, 161, 0, 8, 21, 4, 156, 0, 15, 21, 4, 28, 160, 0, 7, 4, 167, 0, 4, 3, 172, 42, 21, 4]
abbrev dktX3_isExpr_2 : List UInt8 := dkwX3_isExpr_2 ++ dktX3_isExpr_3
def dkwX3_isExpr_1 : List UInt8 := [162, 0, 7, 4, 167, 0, 4, 3, 172, 42, 27, 42, 29, 182, 0, 236, 96, 28, 182, 0, 233, 54, 4, 29]
abbrev dktX3_isExpr_1 : List UInt8 := dkwX3_isExpr_1 ++ dktX3_isExpr_2
def dkwX3_isExpr_0 : List UInt8 := [42, 27, 28, 182, 0, 230, 62, 29, 154, 0, 24, 42, 27, 28, 182, 0, 233, 28, 160, 0, 12, 27, 28]
abbrev dktX3_isExpr_0 : List UInt8 := dkwX3_isExpr_0 ++ dktX3_isExpr_1
theorem dksX3_isExpr_0 : cX3_isExpr.data.toList.drop 0 = dktX3_isExpr_0 := by decide +kernel
theorem dksX3_isExpr_1 : cX3_isExpr.data.toList.drop 23 = dktX3_isExpr_1 := dk_seg dksX3_isExpr_0 23 rfl rfl
theorem dksX3_isExpr_2 : cX3_isExpr.data.toList.drop 47 = dktX3_isExpr_2 := dk_seg dksX3_isExpr_1 24 rfl rfl
theorem dksX3_isExpr_3 : cX3_isExpr.data.toList.drop 71 = dktX3_isExpr_3 := dk_seg dksX3_isExpr_2 24 rfl rfl
theorem dksX3_isExpr_4 : cX3_isExpr.data.toList.drop 94 = dktX3_isExpr_4 := dk_seg dksX3_isExpr_3 23 rfl rfl
theorem dX3_isExpr_0 : decode cX3_isExpr 0 = .ok (.aload_n 0, 1) := dk_42 (dk_at dksX3_isExpr_0 0 rfl rfl)
theorem dX3_isExpr_1 : decode cX3_isExpr 1 = .ok (.iload_n 1, 1) := dk_27 (dk_at dksX3_isExpr_0 1 rfl rfl)
theorem dX3_isExpr_2 : decode cX3_isExpr 2 = .ok (.iload_n 2, 1) := dk_28 (dk_at dksX3_isExpr_0 2 rfl rfl)
theorem dX3_isExpr_3 : decode cX3_isExpr 3 = .ok (.invokevirtual 230, 3) := dk_182 0 230 (dk_at dksX3_isExpr_0 3 rfl rfl)
theorem dX3_isExpr_6 : decode cX3_isExpr 6 = .ok (.istore_n 3, 1) := dk_62 (dk_at dksX3_isExpr_0 6 rfl rfl)
theorem dX3_isExpr_7 : decode cX3_isExpr 7 = .ok (.iload_n 3, 1) := dk_29 (dk_at dksX3_isExpr_0 7 rfl rfl)
theorem dX3_isExpr_8 : decode cX3_isExpr 8 = .ok (.ifCond .ne 24, 3) := dk_154 0 24 (dk_at dksX3_isExpr_0 8 rfl rfl)
theorem dX3_isExpr_11 : decode cX3_isExpr 11 = .ok (.aload_n 0, 1) := dk_42 (dk_at dksX3_isExpr_0 11 rfl rfl)
theorem dX3_isExpr_12 : decode cX3_isExpr 12 = .ok (.iload_n 1, 1) := dk_27 (dk_at dksX3_isExpr_0 12 rfl rfl)
theorem dX3_isExpr_13 : decode cX3_isExpr 13 = .ok (.iload_n 2, 1) := dk_28 (dk_at dksX3_isExpr_0 13 rfl rfl)
theorem dX3_isExpr_14 : decode cX3_isExpr 14 = .ok (.invokevirtual 233, 3) := dk_182 0 233 (dk_at dksX3_isExpr_0 14 rfl rfl)
theorem dX3_isExpr_17 : decode cX3_isExpr 17 = .ok (.iload_n 2, 1) := dk_28 (dk_at dksX3_isExpr_0 17 rfl rfl)
theorem dX3_isExpr_18 : decode cX3_isExpr 18 = .ok (.if_icmp .ne 12, 3) := dk_160 0 12 (dk_at dksX3_isExpr_0 18 rfl rfl)
theorem dX3_isExpr_21 : decode cX3_isExpr 21 = .ok (.iload_n 1, 1) := dk_27 (dk_at dksX3_isExpr_0 21 rfl rfl)
theorem dX3_isExpr_22 : decode cX3_isExpr 22 = .ok (.iload_n 2, 1) := dk_28 (dk_at dksX3_isExpr_0 22 rfl rfl)
theorem dX3_isExpr_23 : decode cX3_isExpr 23 = .ok (.if_icmp .ge 7, 3) := dk_162 0 7 (dk_at dksX3_isExpr_1 0 rfl rfl)
theorem dX3_isExpr_26 : decode cX3_isExpr 26 = .ok (.iconst 1, 1) := dk_4 (dk_at dksX3_isExpr_1 3 rfl rfl)
theorem dX3_isExpr_27 : decode cX3_isExpr 27 = .ok (.goto 4, 3) := dk_167 0 4 (dk_at dksX3_isExpr_1 4 rfl rfl)
theorem dX3_isExpr_30 : decode cX3_isExpr 30 = .ok (.iconst 0, 1) := dk_3 (dk_at dksX3_isExpr_1 7 rfl rfl)
theorem dX3_isExpr_31 : decode cX3_isExpr 31 = .ok (.ireturn, 1) := dk_172 (dk_at dksX3_isExpr_1 8 rfl rfl)
theorem dX3_isExpr_32 : decode cX3_isExpr 32 = .ok (.aload_n 0, 1) := dk_42 (dk_at dksX3_isExpr_1 9 rfl rfl)
theorem dX3_isExpr_33 : decode cX3_isExpr 33 = .ok (.iload_n 1, 1) := dk_27 (dk_at dksX3_isExpr_1 10 rfl rfl)
theorem dX3_isExpr_34 : decode cX3_isExpr 34 = .ok (.aload_n 0, 1) := dk_42 (dk_at dksX3_isExpr_1 11 rfl rfl)
theorem dX3_isExpr_35 : decode cX3_isExpr 35 = .ok (.iload_n 3, 1) := dk_29 (dk_at dksX3_isExpr_1 12 rfl rfl)
theorem dX3_isExpr_36 : decode cX3_isExpr 36 = .ok (.invokevirtual 236, 3) := dk_182 0 236 (dk_at dksX3_isExpr_1 13 rfl rfl)
theorem dX3_isExpr_39 : decode cX3_isExpr 39 = .ok (.iadd, 1) := dk_96 (dk_at dksX3_isExpr_1 16 rfl rfl)
theorem dX3_isExpr_40 : decode cX3_isExpr 40 = .ok (.iload_n 2, 1) := dk_28 (dk_at dksX3_isExpr_1 17 rfl rfl)
theorem dX3_isExpr_41 : decode cX3_isExpr 41 = .ok (.invokevirtual 233, 3) := dk_182 0 233 (dk_at dksX3_isExpr_1 18 rfl rfl)
theorem dX3_isExpr_44 : decode cX3_isExpr 44 = .ok (.istore 4, 2) := dk_54 4 (dk_at dksX3_isExpr_1 21 rfl rfl)
theorem dX3_isExpr_46 : decode cX3_isExpr 46 = .ok (.iload_n 3, 1) := dk_29 (dk_at dksX3_isExpr_1 23 rfl rfl)
theorem dX3_isExpr_47 : decode cX3_isExpr 47 = .ok (.iconst 4, 1) := dk_7 (dk_at dksX3_isExpr_2 0 rfl rfl)
theorem dX3_isExpr_48 : decode cX3_isExpr 48 = .ok (.if_icmp .lt 8, 3) := dk_161 0 8 (dk_at dksX3_isExpr_2 1 rfl rfl)
theorem dX3_isExpr_51 : decode cX3_isExpr 51 = .ok (.iload 4, 2) := dk_21 4 (dk_at dksX3_isExpr_2 4 rfl rfl)
theorem dX3_isExpr_53 : decode cX3_isExpr 53 = .ok (.ifCond .ge 15, 3) := dk_156 0 15 (dk_at dksX3_isExpr_2 6 rfl rfl)
theorem dX3_isExpr_56 : decode cX3_isExpr 56 = .ok (.iload 4, 2) := dk_21 4 (dk_at dksX3_isExpr_2 9 rfl rfl)
theorem dX3_isExpr_58 : decode cX3_isExpr 58 = .ok (.iload_n 2, 1) := dk_28 (dk_at dksX3_isExpr_2 11 rfl rfl)
theorem dX3_isExpr_59 : decode cX3_isExpr 59 = .ok (.if_icmp .ne 7, 3) := dk_160 0 7 (dk_at dksX3_isExpr_2 12 rfl rfl)
theorem dX3_isExpr_62 : decode cX3_isExpr 62 = .ok (.iconst 1, 1) := dk_4 (dk_at dksX3_isExpr_2 15 rfl rfl)
theorem dX3_isExpr_63 : decode cX3_isExpr 63 = .ok (.goto 4, 3) := dk_167 0 4 (dk_at dksX3_isExpr_2 16 rfl rfl)
theorem dX3_isExpr_66 : decode cX3_isExpr 66 = .ok (.iconst 0, 1) := dk_3 (dk_at dksX3_isExpr_2 19 rfl rfl)
theorem dX3_isExpr_67 : decode cX3_isExpr 67 = .ok (.ireturn, 1) := dk_172 (dk_at dksX3_isExpr_2 20 rfl rfl)
theorem dX3_isExpr_68 : decode cX3_isExpr 68 = .ok (.aload_n 0, 1) := dk_42 (dk_at dksX3_isExpr_2 21 rfl rfl)
theorem dX3_isExpr_69 : decode cX3_isExpr 69 = .ok (.iload 4, 2) := dk_21 4 (dk_at dksX3_isExpr_2 22 rfl rfl)
theorem dX3_isExpr_71 : decode cX3_isExpr 71 = .ok (.iload_n 2, 1) := dk_28 (dk_at dksX3_isExpr_3 0 rfl rfl)
theorem dX3_isExpr_72 : decode cX3_isExpr 72 = .ok (.invokevirtual 194, 3) := dk_182 0 194 (dk_at dksX3_isExpr_3 1 rfl rfl)
theorem dX3_isExpr_75 : decode cX3_isExpr 75 = .ok (.bipush 32, 2) := dk_16 32 (dk_at dksX3_isExpr_3 4 rfl rfl)
theorem dX3_isExpr_77 : decode cX3_isExpr 77 = .ok (.if_icmp .ne 20, 3) := dk_160 0 20 (dk_at dksX3_isExpr_3 6 rfl rfl)
theorem dX3_isExpr_80 : decode cX3_isExpr 80 = .ok (.aload_n 0, 1) := dk_42 (dk_at dksX3_isExpr_3 9 rfl rfl)
theorem dX3_isExpr_81 : decode cX3_isExpr 81 = .ok (.iload 4, 2) := dk_21 4 (dk_at dksX3_isExpr_3 10 rfl rfl)
theorem dX3_isExpr_83 : decode cX3_isExpr 83 = .ok (.iconst 1, 1) := dk_4 (dk_at dksX3_isExpr_3 12 rfl rfl)
theorem dX3_isExpr_84 : decode cX3_isExpr 84 = .ok (.iadd, 1) := dk_96 (dk_at dksX3_isExpr_3 13 rfl rfl)
theorem dX3_isExpr_85 : decode cX3_isExpr 85 = .ok (.iload_n 2, 1) := dk_28 (dk_at dksX3_isExpr_3 14 rfl rfl)
theorem dX3_isExpr_86 : decode cX3_isExpr 86 = .ok (.invokevirtual 233, 3) := dk_182 0 233 (dk_at dksX3_isExpr_3 15 rfl rfl)
theorem dX3_isExpr_89 : decode cX3_isExpr 89 = .ok (.iload_n 2, 1) := dk_28 (dk_at dksX3_isExpr_3 18 rfl rfl)
theorem dX3_isExpr_90 : decode cX3_isExpr 90 = .ok (.if_icmp .ne 7, 3) := dk_160 0 7 (dk_at dksX3_isExpr_3 19 rfl rfl)
theorem dX3_isExpr_93 : decode cX3_isExpr 93 = .ok (.iconst 1, 1) := dk_4 (dk_at dksX3_isExpr_3 22 rfl rfl)
theorem dX3_isExpr_94 : decode cX3_isExpr 94 = .ok (.goto 4, 3) := dk_167 0 4 (dk_at dksX3_isExpr_4 0 rfl rfl)
theorem dX3_isExpr_97 : decode cX3_isExpr 97 = .ok (.iconst 0, 1) := dk_3 (dk_at dksX3_isExpr_4 3 rfl rfl)
theorem dX3_isExpr_98 : decode cX3_isExpr 98 = .ok (.ireturn, 1) := dk_172 (dk_at dksX3_isExpr_4 4 rfl rfl)
abbrev cX3_helper : ByteArray := prog_24_method_24_code
def yX3_helper : MethodName := ⟨RX3, "helper", "(II)I"⟩
def dkwX3_helper_3 : List UInt8 := [172, 42, 27, 28, 20, 0, 228, 182, 0, 199, 153, 0, 8, 16, 6, 167, 0, 4, 3, 172]
abbrev dktX3_helper_3 : List UInt8 := dkwX3_helper_3 ++ []
def dkwX3_helper_2 : List UInt8 := [20, 0, 224, 182, 0, 199, 153, 0, 5, 7, 172, 42, 27, 28, 20, 0, 226, 182, 0, 199, 153, 0, 5, 8]
abbrev dktX3_helper_2 : List UInt8 := dkwX3_helper_2 ++ dktX3_helper_3
def dkwX3_helper_1 : List UInt8 := [153, 0, 5, 5, 172, 42, 27, 28, 20, 0, 222, 182, 0, 199, 153, 0, 5, 6, 172, 42, 27, 28]
abbrev dktX3_helper_1 : List UInt8 := dkwX3_helper_1 ++ dktX3_helper_2
def dkwX3_helper_0 : List UInt8 := [42, 27, 28, 20, 0, 218, 182, 0, 199, 153, 0, 5, 4, 172, 42, 27, 28, 20, 0, 220, 182, 0, 199]
abbrev dktX3_helper_0 : List UInt8 := dkwX3_helper_0 ++ dktX3_helper_1
theorem dksX3_helper_0 : cX3_helper.data.toList.drop 0 = dktX3_helper_0 := by decide +kernel
theorem dksX3_helper_1 : cX3_helper.data.toList.drop 23 = dktX3_helper_1 := dk_seg dksX3_helper_0 23 rfl rfl
theorem dksX3_helper_2 : cX3_helper.data.toList.drop 45 = dktX3_helper_2 := dk_seg dksX3_helper_1 22 rfl rfl
theorem dksX3_helper_3 : cX3_helper.data.toList.drop 69 = dktX3_helper_3 := dk_seg dksX3_helper_2 24 rfl rfl
theorem dX3_helper_0 : decode cX3_helper 0 = .ok (.aload_n 0, 1) := dk_42 (dk_at dksX3_helper_0 0 rfl rfl)
theorem dX3_helper_1 : decode cX3_helper 1 = .ok (.iload_n 1, 1) := dk_27 (dk_at dksX3_helper_0 1 rfl rfl)
theorem dX3_helper_2 : decode cX3_helper 2 = .ok (.iload_n 2, 1) := dk_28 (dk_at dksX3_helper_0 2 rfl rfl)
theorem dX3_helper_3 : decode cX3_helper 3 = .ok (.ldc2_w 218, 3) := dk_20 0 218 (dk_at dksX3_helper_0 3 rfl rfl)
theorem dX3_helper_6 : decode cX3_helper 6 = .ok (.invokevirtual 199, 3) := dk_182 0 199 (dk_at dksX3_helper_0 6 rfl rfl)
theorem dX3_helper_9 : decode cX3_helper 9 = .ok (.ifCond .eq 5, 3) := dk_153 0 5 (dk_at dksX3_helper_0 9 rfl rfl)
theorem dX3_helper_12 : decode cX3_helper 12 = .ok (.iconst 1, 1) := dk_4 (dk_at dksX3_helper_0 12 rfl rfl)
theorem dX3_helper_13 : decode cX3_helper 13 = .ok (.ireturn, 1) := dk_172 (dk_at dksX3_helper_0 13 rfl rfl)
theorem dX3_helper_14 : decode cX3_helper 14 = .ok (.aload_n 0, 1) := dk_42 (dk_at dksX3_helper_0 14 rfl rfl)
theorem dX3_helper_15 : decode cX3_helper 15 = .ok (.iload_n 1, 1) := dk_27 (dk_at dksX3_helper_0 15 rfl rfl)
theorem dX3_helper_16 : decode cX3_helper 16 = .ok (.iload_n 2, 1) := dk_28 (dk_at dksX3_helper_0 16 rfl rfl)
theorem dX3_helper_17 : decode cX3_helper 17 = .ok (.ldc2_w 220, 3) := dk_20 0 220 (dk_at dksX3_helper_0 17 rfl rfl)
theorem dX3_helper_20 : decode cX3_helper 20 = .ok (.invokevirtual 199, 3) := dk_182 0 199 (dk_at dksX3_helper_0 20 rfl rfl)
theorem dX3_helper_23 : decode cX3_helper 23 = .ok (.ifCond .eq 5, 3) := dk_153 0 5 (dk_at dksX3_helper_1 0 rfl rfl)
theorem dX3_helper_26 : decode cX3_helper 26 = .ok (.iconst 2, 1) := dk_5 (dk_at dksX3_helper_1 3 rfl rfl)
theorem dX3_helper_27 : decode cX3_helper 27 = .ok (.ireturn, 1) := dk_172 (dk_at dksX3_helper_1 4 rfl rfl)
theorem dX3_helper_28 : decode cX3_helper 28 = .ok (.aload_n 0, 1) := dk_42 (dk_at dksX3_helper_1 5 rfl rfl)
theorem dX3_helper_29 : decode cX3_helper 29 = .ok (.iload_n 1, 1) := dk_27 (dk_at dksX3_helper_1 6 rfl rfl)
theorem dX3_helper_30 : decode cX3_helper 30 = .ok (.iload_n 2, 1) := dk_28 (dk_at dksX3_helper_1 7 rfl rfl)
theorem dX3_helper_31 : decode cX3_helper 31 = .ok (.ldc2_w 222, 3) := dk_20 0 222 (dk_at dksX3_helper_1 8 rfl rfl)
theorem dX3_helper_34 : decode cX3_helper 34 = .ok (.invokevirtual 199, 3) := dk_182 0 199 (dk_at dksX3_helper_1 11 rfl rfl)
theorem dX3_helper_37 : decode cX3_helper 37 = .ok (.ifCond .eq 5, 3) := dk_153 0 5 (dk_at dksX3_helper_1 14 rfl rfl)
theorem dX3_helper_40 : decode cX3_helper 40 = .ok (.iconst 3, 1) := dk_6 (dk_at dksX3_helper_1 17 rfl rfl)
theorem dX3_helper_41 : decode cX3_helper 41 = .ok (.ireturn, 1) := dk_172 (dk_at dksX3_helper_1 18 rfl rfl)
theorem dX3_helper_42 : decode cX3_helper 42 = .ok (.aload_n 0, 1) := dk_42 (dk_at dksX3_helper_1 19 rfl rfl)
theorem dX3_helper_43 : decode cX3_helper 43 = .ok (.iload_n 1, 1) := dk_27 (dk_at dksX3_helper_1 20 rfl rfl)
theorem dX3_helper_44 : decode cX3_helper 44 = .ok (.iload_n 2, 1) := dk_28 (dk_at dksX3_helper_1 21 rfl rfl)
theorem dX3_helper_45 : decode cX3_helper 45 = .ok (.ldc2_w 224, 3) := dk_20 0 224 (dk_at dksX3_helper_2 0 rfl rfl)
theorem dX3_helper_48 : decode cX3_helper 48 = .ok (.invokevirtual 199, 3) := dk_182 0 199 (dk_at dksX3_helper_2 3 rfl rfl)
theorem dX3_helper_51 : decode cX3_helper 51 = .ok (.ifCond .eq 5, 3) := dk_153 0 5 (dk_at dksX3_helper_2 6 rfl rfl)
theorem dX3_helper_54 : decode cX3_helper 54 = .ok (.iconst 4, 1) := dk_7 (dk_at dksX3_helper_2 9 rfl rfl)
theorem dX3_helper_55 : decode cX3_helper 55 = .ok (.ireturn, 1) := dk_172 (dk_at dksX3_helper_2 10 rfl rfl)
theorem dX3_helper_56 : decode cX3_helper 56 = .ok (.aload_n 0, 1) := dk_42 (dk_at dksX3_helper_2 11 rfl rfl)
theorem dX3_helper_57 : decode cX3_helper 57 = .ok (.iload_n 1, 1) := dk_27 (dk_at dksX3_helper_2 12 rfl rfl)
theorem dX3_helper_58 : decode cX3_helper 58 = .ok (.iload_n 2, 1) := dk_28 (dk_at dksX3_helper_2 13 rfl rfl)
theorem dX3_helper_59 : decode cX3_helper 59 = .ok (.ldc2_w 226, 3) := dk_20 0 226 (dk_at dksX3_helper_2 14 rfl rfl)
theorem dX3_helper_62 : decode cX3_helper 62 = .ok (.invokevirtual 199, 3) := dk_182 0 199 (dk_at dksX3_helper_2 17 rfl rfl)
theorem dX3_helper_65 : decode cX3_helper 65 = .ok (.ifCond .eq 5, 3) := dk_153 0 5 (dk_at dksX3_helper_2 20 rfl rfl)
theorem dX3_helper_68 : decode cX3_helper 68 = .ok (.iconst 5, 1) := dk_8 (dk_at dksX3_helper_2 23 rfl rfl)
theorem dX3_helper_69 : decode cX3_helper 69 = .ok (.ireturn, 1) := dk_172 (dk_at dksX3_helper_3 0 rfl rfl)
theorem dX3_helper_70 : decode cX3_helper 70 = .ok (.aload_n 0, 1) := dk_42 (dk_at dksX3_helper_3 1 rfl rfl)
theorem dX3_helper_71 : decode cX3_helper 71 = .ok (.iload_n 1, 1) := dk_27 (dk_at dksX3_helper_3 2 rfl rfl)
theorem dX3_helper_72 : decode cX3_helper 72 = .ok (.iload_n 2, 1) := dk_28 (dk_at dksX3_helper_3 3 rfl rfl)
theorem dX3_helper_73 : decode cX3_helper 73 = .ok (.ldc2_w 228, 3) := dk_20 0 228 (dk_at dksX3_helper_3 4 rfl rfl)
theorem dX3_helper_76 : decode cX3_helper 76 = .ok (.invokevirtual 199, 3) := dk_182 0 199 (dk_at dksX3_helper_3 7 rfl rfl)
theorem dX3_helper_79 : decode cX3_helper 79 = .ok (.ifCond .eq 8, 3) := dk_153 0 8 (dk_at dksX3_helper_3 10 rfl rfl)
theorem dX3_helper_82 : decode cX3_helper 82 = .ok (.bipush 6, 2) := dk_16 6 (dk_at dksX3_helper_3 13 rfl rfl)
theorem dX3_helper_84 : decode cX3_helper 84 = .ok (.goto 4, 3) := dk_167 0 4 (dk_at dksX3_helper_3 15 rfl rfl)
theorem dX3_helper_87 : decode cX3_helper 87 = .ok (.iconst 0, 1) := dk_3 (dk_at dksX3_helper_3 18 rfl rfl)
theorem dX3_helper_88 : decode cX3_helper 88 = .ok (.ireturn, 1) := dk_172 (dk_at dksX3_helper_3 19 rfl rfl)
abbrev cX3_operandEnd : ByteArray := prog_24_method_23_code
def yX3_operandEnd : MethodName := ⟨RX3, "operandEnd", "(II)I"⟩
def dkwX3_operandEnd_5 : List UInt8 := [167, 255, 231, 21, 4, 172]
abbrev dktX3_operandEnd_5 : List UInt8 := dkwX3_operandEnd_5 ++ []
def dkwX3_operandEnd_4 : List UInt8 := [21, 4, 28, 182, 0, 194, 182, 0, 212, 153, 0, 17, 21, 4, 27, 100, 8, 162, 0, 9, 132, 4, 1]
abbrev dktX3_operandEnd_4 : List UInt8 := dkwX3_operandEnd_4 ++ dktX3_operandEnd_5
def dkwX3_operandEnd_3 : List UInt8 := [96, 167, 0, 4, 2, 172, 42, 29, 182, 0, 212, 154, 0, 10, 42, 27, 28, 182, 0, 215, 172, 42, 42]
abbrev dktX3_operandEnd_3 : List UInt8 := dkwX3_operandEnd_3 ++ dktX3_operandEnd_4
def dkwX3_operandEnd_2 : List UInt8 := [159, 0, 9, 132, 4, 1, 167, 255, 223, 42, 21, 4, 28, 182, 0, 194, 16, 34, 160, 0, 10, 21, 4, 4]
abbrev dktX3_operandEnd_2 : List UInt8 := dkwX3_operandEnd_2 ++ dktX3_operandEnd_3
def dkwX3_operandEnd_1 : List UInt8 := [162, 0, 33, 42, 180, 0, 56, 21, 4, 52, 16, 34, 159, 0, 21, 42, 180, 0, 56, 21, 4, 52, 16, 125]
abbrev dktX3_operandEnd_1 : List UInt8 := dkwX3_operandEnd_1 ++ dktX3_operandEnd_2
def dkwX3_operandEnd_0 : List UInt8 := [42, 27, 28, 182, 0, 194, 62, 27, 54, 4, 29, 16, 34, 160, 0, 63, 132, 4, 1, 21, 4, 28]
abbrev dktX3_operandEnd_0 : List UInt8 := dkwX3_operandEnd_0 ++ dktX3_operandEnd_1
theorem dksX3_operandEnd_0 : cX3_operandEnd.data.toList.drop 0 = dktX3_operandEnd_0 := by decide +kernel
theorem dksX3_operandEnd_1 : cX3_operandEnd.data.toList.drop 22 = dktX3_operandEnd_1 := dk_seg dksX3_operandEnd_0 22 rfl rfl
theorem dksX3_operandEnd_2 : cX3_operandEnd.data.toList.drop 46 = dktX3_operandEnd_2 := dk_seg dksX3_operandEnd_1 24 rfl rfl
theorem dksX3_operandEnd_3 : cX3_operandEnd.data.toList.drop 70 = dktX3_operandEnd_3 := dk_seg dksX3_operandEnd_2 24 rfl rfl
theorem dksX3_operandEnd_4 : cX3_operandEnd.data.toList.drop 93 = dktX3_operandEnd_4 := dk_seg dksX3_operandEnd_3 23 rfl rfl
theorem dksX3_operandEnd_5 : cX3_operandEnd.data.toList.drop 116 = dktX3_operandEnd_5 := dk_seg dksX3_operandEnd_4 23 rfl rfl
theorem dX3_operandEnd_0 : decode cX3_operandEnd 0 = .ok (.aload_n 0, 1) := dk_42 (dk_at dksX3_operandEnd_0 0 rfl rfl)
theorem dX3_operandEnd_1 : decode cX3_operandEnd 1 = .ok (.iload_n 1, 1) := dk_27 (dk_at dksX3_operandEnd_0 1 rfl rfl)
theorem dX3_operandEnd_2 : decode cX3_operandEnd 2 = .ok (.iload_n 2, 1) := dk_28 (dk_at dksX3_operandEnd_0 2 rfl rfl)
theorem dX3_operandEnd_3 : decode cX3_operandEnd 3 = .ok (.invokevirtual 194, 3) := dk_182 0 194 (dk_at dksX3_operandEnd_0 3 rfl rfl)
theorem dX3_operandEnd_6 : decode cX3_operandEnd 6 = .ok (.istore_n 3, 1) := dk_62 (dk_at dksX3_operandEnd_0 6 rfl rfl)
theorem dX3_operandEnd_7 : decode cX3_operandEnd 7 = .ok (.iload_n 1, 1) := dk_27 (dk_at dksX3_operandEnd_0 7 rfl rfl)
theorem dX3_operandEnd_8 : decode cX3_operandEnd 8 = .ok (.istore 4, 2) := dk_54 4 (dk_at dksX3_operandEnd_0 8 rfl rfl)
theorem dX3_operandEnd_10 : decode cX3_operandEnd 10 = .ok (.iload_n 3, 1) := dk_29 (dk_at dksX3_operandEnd_0 10 rfl rfl)
theorem dX3_operandEnd_11 : decode cX3_operandEnd 11 = .ok (.bipush 34, 2) := dk_16 34 (dk_at dksX3_operandEnd_0 11 rfl rfl)
theorem dX3_operandEnd_13 : decode cX3_operandEnd 13 = .ok (.if_icmp .ne 63, 3) := dk_160 0 63 (dk_at dksX3_operandEnd_0 13 rfl rfl)
theorem dX3_operandEnd_16 : decode cX3_operandEnd 16 = .ok (.iinc 4 1, 3) := dk_132 4 1 (dk_at dksX3_operandEnd_0 16 rfl rfl)
theorem dX3_operandEnd_19 : decode cX3_operandEnd 19 = .ok (.iload 4, 2) := dk_21 4 (dk_at dksX3_operandEnd_0 19 rfl rfl)
theorem dX3_operandEnd_21 : decode cX3_operandEnd 21 = .ok (.iload_n 2, 1) := dk_28 (dk_at dksX3_operandEnd_0 21 rfl rfl)
theorem dX3_operandEnd_22 : decode cX3_operandEnd 22 = .ok (.if_icmp .ge 33, 3) := dk_162 0 33 (dk_at dksX3_operandEnd_1 0 rfl rfl)
theorem dX3_operandEnd_25 : decode cX3_operandEnd 25 = .ok (.aload_n 0, 1) := dk_42 (dk_at dksX3_operandEnd_1 3 rfl rfl)
theorem dX3_operandEnd_26 : decode cX3_operandEnd 26 = .ok (.getfield 56, 3) := dk_180 0 56 (dk_at dksX3_operandEnd_1 4 rfl rfl)
theorem dX3_operandEnd_29 : decode cX3_operandEnd 29 = .ok (.iload 4, 2) := dk_21 4 (dk_at dksX3_operandEnd_1 7 rfl rfl)
theorem dX3_operandEnd_31 : decode cX3_operandEnd 31 = .ok (.caload, 1) := dk_52 (dk_at dksX3_operandEnd_1 9 rfl rfl)
theorem dX3_operandEnd_32 : decode cX3_operandEnd 32 = .ok (.bipush 34, 2) := dk_16 34 (dk_at dksX3_operandEnd_1 10 rfl rfl)
theorem dX3_operandEnd_34 : decode cX3_operandEnd 34 = .ok (.if_icmp .eq 21, 3) := dk_159 0 21 (dk_at dksX3_operandEnd_1 12 rfl rfl)
theorem dX3_operandEnd_37 : decode cX3_operandEnd 37 = .ok (.aload_n 0, 1) := dk_42 (dk_at dksX3_operandEnd_1 15 rfl rfl)
theorem dX3_operandEnd_38 : decode cX3_operandEnd 38 = .ok (.getfield 56, 3) := dk_180 0 56 (dk_at dksX3_operandEnd_1 16 rfl rfl)
theorem dX3_operandEnd_41 : decode cX3_operandEnd 41 = .ok (.iload 4, 2) := dk_21 4 (dk_at dksX3_operandEnd_1 19 rfl rfl)
theorem dX3_operandEnd_43 : decode cX3_operandEnd 43 = .ok (.caload, 1) := dk_52 (dk_at dksX3_operandEnd_1 21 rfl rfl)
theorem dX3_operandEnd_44 : decode cX3_operandEnd 44 = .ok (.bipush 125, 2) := dk_16 125 (dk_at dksX3_operandEnd_1 22 rfl rfl)
theorem dX3_operandEnd_46 : decode cX3_operandEnd 46 = .ok (.if_icmp .eq 9, 3) := dk_159 0 9 (dk_at dksX3_operandEnd_2 0 rfl rfl)
theorem dX3_operandEnd_49 : decode cX3_operandEnd 49 = .ok (.iinc 4 1, 3) := dk_132 4 1 (dk_at dksX3_operandEnd_2 3 rfl rfl)
theorem dX3_operandEnd_52 : decode cX3_operandEnd 52 = .ok (.goto (-33), 3) := dk_167 255 223 (dk_at dksX3_operandEnd_2 6 rfl rfl)
theorem dX3_operandEnd_55 : decode cX3_operandEnd 55 = .ok (.aload_n 0, 1) := dk_42 (dk_at dksX3_operandEnd_2 9 rfl rfl)
theorem dX3_operandEnd_56 : decode cX3_operandEnd 56 = .ok (.iload 4, 2) := dk_21 4 (dk_at dksX3_operandEnd_2 10 rfl rfl)
theorem dX3_operandEnd_58 : decode cX3_operandEnd 58 = .ok (.iload_n 2, 1) := dk_28 (dk_at dksX3_operandEnd_2 12 rfl rfl)
theorem dX3_operandEnd_59 : decode cX3_operandEnd 59 = .ok (.invokevirtual 194, 3) := dk_182 0 194 (dk_at dksX3_operandEnd_2 13 rfl rfl)
theorem dX3_operandEnd_62 : decode cX3_operandEnd 62 = .ok (.bipush 34, 2) := dk_16 34 (dk_at dksX3_operandEnd_2 16 rfl rfl)
theorem dX3_operandEnd_64 : decode cX3_operandEnd 64 = .ok (.if_icmp .ne 10, 3) := dk_160 0 10 (dk_at dksX3_operandEnd_2 18 rfl rfl)
theorem dX3_operandEnd_67 : decode cX3_operandEnd 67 = .ok (.iload 4, 2) := dk_21 4 (dk_at dksX3_operandEnd_2 21 rfl rfl)
theorem dX3_operandEnd_69 : decode cX3_operandEnd 69 = .ok (.iconst 1, 1) := dk_4 (dk_at dksX3_operandEnd_2 23 rfl rfl)
theorem dX3_operandEnd_70 : decode cX3_operandEnd 70 = .ok (.iadd, 1) := dk_96 (dk_at dksX3_operandEnd_3 0 rfl rfl)
theorem dX3_operandEnd_71 : decode cX3_operandEnd 71 = .ok (.goto 4, 3) := dk_167 0 4 (dk_at dksX3_operandEnd_3 1 rfl rfl)
theorem dX3_operandEnd_74 : decode cX3_operandEnd 74 = .ok (.iconst (-1), 1) := dk_2 (dk_at dksX3_operandEnd_3 4 rfl rfl)
theorem dX3_operandEnd_75 : decode cX3_operandEnd 75 = .ok (.ireturn, 1) := dk_172 (dk_at dksX3_operandEnd_3 5 rfl rfl)
theorem dX3_operandEnd_76 : decode cX3_operandEnd 76 = .ok (.aload_n 0, 1) := dk_42 (dk_at dksX3_operandEnd_3 6 rfl rfl)
theorem dX3_operandEnd_77 : decode cX3_operandEnd 77 = .ok (.iload_n 3, 1) := dk_29 (dk_at dksX3_operandEnd_3 7 rfl rfl)
theorem dX3_operandEnd_78 : decode cX3_operandEnd 78 = .ok (.invokevirtual 212, 3) := dk_182 0 212 (dk_at dksX3_operandEnd_3 8 rfl rfl)
theorem dX3_operandEnd_81 : decode cX3_operandEnd 81 = .ok (.ifCond .ne 10, 3) := dk_154 0 10 (dk_at dksX3_operandEnd_3 11 rfl rfl)
theorem dX3_operandEnd_84 : decode cX3_operandEnd 84 = .ok (.aload_n 0, 1) := dk_42 (dk_at dksX3_operandEnd_3 14 rfl rfl)
theorem dX3_operandEnd_85 : decode cX3_operandEnd 85 = .ok (.iload_n 1, 1) := dk_27 (dk_at dksX3_operandEnd_3 15 rfl rfl)
theorem dX3_operandEnd_86 : decode cX3_operandEnd 86 = .ok (.iload_n 2, 1) := dk_28 (dk_at dksX3_operandEnd_3 16 rfl rfl)
theorem dX3_operandEnd_87 : decode cX3_operandEnd 87 = .ok (.invokevirtual 215, 3) := dk_182 0 215 (dk_at dksX3_operandEnd_3 17 rfl rfl)
theorem dX3_operandEnd_90 : decode cX3_operandEnd 90 = .ok (.ireturn, 1) := dk_172 (dk_at dksX3_operandEnd_3 20 rfl rfl)
theorem dX3_operandEnd_91 : decode cX3_operandEnd 91 = .ok (.aload_n 0, 1) := dk_42 (dk_at dksX3_operandEnd_3 21 rfl rfl)
theorem dX3_operandEnd_92 : decode cX3_operandEnd 92 = .ok (.aload_n 0, 1) := dk_42 (dk_at dksX3_operandEnd_3 22 rfl rfl)
theorem dX3_operandEnd_93 : decode cX3_operandEnd 93 = .ok (.iload 4, 2) := dk_21 4 (dk_at dksX3_operandEnd_4 0 rfl rfl)
theorem dX3_operandEnd_95 : decode cX3_operandEnd 95 = .ok (.iload_n 2, 1) := dk_28 (dk_at dksX3_operandEnd_4 2 rfl rfl)
theorem dX3_operandEnd_96 : decode cX3_operandEnd 96 = .ok (.invokevirtual 194, 3) := dk_182 0 194 (dk_at dksX3_operandEnd_4 3 rfl rfl)
theorem dX3_operandEnd_99 : decode cX3_operandEnd 99 = .ok (.invokevirtual 212, 3) := dk_182 0 212 (dk_at dksX3_operandEnd_4 6 rfl rfl)
theorem dX3_operandEnd_102 : decode cX3_operandEnd 102 = .ok (.ifCond .eq 17, 3) := dk_153 0 17 (dk_at dksX3_operandEnd_4 9 rfl rfl)
theorem dX3_operandEnd_105 : decode cX3_operandEnd 105 = .ok (.iload 4, 2) := dk_21 4 (dk_at dksX3_operandEnd_4 12 rfl rfl)
theorem dX3_operandEnd_107 : decode cX3_operandEnd 107 = .ok (.iload_n 1, 1) := dk_27 (dk_at dksX3_operandEnd_4 14 rfl rfl)
theorem dX3_operandEnd_108 : decode cX3_operandEnd 108 = .ok (.isub, 1) := dk_100 (dk_at dksX3_operandEnd_4 15 rfl rfl)
theorem dX3_operandEnd_109 : decode cX3_operandEnd 109 = .ok (.iconst 5, 1) := dk_8 (dk_at dksX3_operandEnd_4 16 rfl rfl)
theorem dX3_operandEnd_110 : decode cX3_operandEnd 110 = .ok (.if_icmp .ge 9, 3) := dk_162 0 9 (dk_at dksX3_operandEnd_4 17 rfl rfl)
theorem dX3_operandEnd_113 : decode cX3_operandEnd 113 = .ok (.iinc 4 1, 3) := dk_132 4 1 (dk_at dksX3_operandEnd_4 20 rfl rfl)
theorem dX3_operandEnd_116 : decode cX3_operandEnd 116 = .ok (.goto (-25), 3) := dk_167 255 231 (dk_at dksX3_operandEnd_5 0 rfl rfl)
theorem dX3_operandEnd_119 : decode cX3_operandEnd 119 = .ok (.iload 4, 2) := dk_21 4 (dk_at dksX3_operandEnd_5 3 rfl rfl)
theorem dX3_operandEnd_121 : decode cX3_operandEnd 121 = .ok (.ireturn, 1) := dk_172 (dk_at dksX3_operandEnd_5 5 rfl rfl)
abbrev cX3_digit : ByteArray := prog_24_method_21_code
def yX3_digit : MethodName := ⟨RX3, "digit", "(I)Z"⟩
def dkwX3_digit_0 : List UInt8 := [27, 16, 48, 161, 0, 13, 27, 16, 57, 163, 0, 7, 4, 167, 0, 4, 3, 172]
abbrev dktX3_digit_0 : List UInt8 := dkwX3_digit_0 ++ []
theorem dksX3_digit_0 : cX3_digit.data.toList.drop 0 = dktX3_digit_0 := by decide +kernel
theorem dX3_digit_0 : decode cX3_digit 0 = .ok (.iload_n 1, 1) := dk_27 (dk_at dksX3_digit_0 0 rfl rfl)
theorem dX3_digit_1 : decode cX3_digit 1 = .ok (.bipush 48, 2) := dk_16 48 (dk_at dksX3_digit_0 1 rfl rfl)
theorem dX3_digit_3 : decode cX3_digit 3 = .ok (.if_icmp .lt 13, 3) := dk_161 0 13 (dk_at dksX3_digit_0 3 rfl rfl)
theorem dX3_digit_6 : decode cX3_digit 6 = .ok (.iload_n 1, 1) := dk_27 (dk_at dksX3_digit_0 6 rfl rfl)
theorem dX3_digit_7 : decode cX3_digit 7 = .ok (.bipush 57, 2) := dk_16 57 (dk_at dksX3_digit_0 7 rfl rfl)
theorem dX3_digit_9 : decode cX3_digit 9 = .ok (.if_icmp .gt 7, 3) := dk_163 0 7 (dk_at dksX3_digit_0 9 rfl rfl)
theorem dX3_digit_12 : decode cX3_digit 12 = .ok (.iconst 1, 1) := dk_4 (dk_at dksX3_digit_0 12 rfl rfl)
theorem dX3_digit_13 : decode cX3_digit 13 = .ok (.goto 4, 3) := dk_167 0 4 (dk_at dksX3_digit_0 13 rfl rfl)
theorem dX3_digit_16 : decode cX3_digit 16 = .ok (.iconst 0, 1) := dk_3 (dk_at dksX3_digit_0 16 rfl rfl)
theorem dX3_digit_17 : decode cX3_digit 17 = .ok (.ireturn, 1) := dk_172 (dk_at dksX3_digit_0 17 rfl rfl)
abbrev cX3_pathEnd : ByteArray := prog_24_method_22_code
def yX3_pathEnd : MethodName := ⟨RX3, "pathEnd", "(II)I"⟩
def dkwX3_pathEnd_7 : List UInt8 := [167, 255, 190, 29, 172]
abbrev dktX3_pathEnd_7 : List UInt8 := dkwX3_pathEnd_7 ++ []
def dkwX3_pathEnd_6 : List UInt8 := [54, 4, 21, 4, 4, 161, 0, 10, 21, 4, 16, 8, 164, 0, 5, 2, 172, 29, 4, 21, 4, 96, 96, 62]
abbrev dktX3_pathEnd_6 : List UInt8 := dkwX3_pathEnd_6 ++ dktX3_pathEnd_7
def dkwX3_pathEnd_5 : List UInt8 := [54, 4, 21, 4, 154, 0, 21, 42, 42, 29, 4, 96, 28, 182, 0, 194, 182, 0, 212, 153, 0, 6, 4]
abbrev dktX3_pathEnd_5 : List UInt8 := dkwX3_pathEnd_5 ++ dktX3_pathEnd_6
def dkwX3_pathEnd_4 : List UInt8 := [29, 21, 4, 96, 62, 42, 29, 28, 182, 0, 194, 16, 46, 160, 0, 61, 42, 29, 4, 96, 28, 182, 0, 207]
abbrev dktX3_pathEnd_4 : List UInt8 := dkwX3_pathEnd_4 ++ dktX3_pathEnd_5
def dkwX3_pathEnd_3 : List UInt8 := [2, 172, 21, 4, 7, 160, 0, 19, 42, 29, 28, 20, 0, 210, 182, 0, 199, 153, 0, 7, 29, 7, 96, 172]
abbrev dktX3_pathEnd_3 : List UInt8 := dkwX3_pathEnd_3 ++ dktX3_pathEnd_4
def dkwX3_pathEnd_2 : List UInt8 := [167, 255, 241, 42, 29, 28, 182, 0, 207, 54, 4, 21, 4, 4, 161, 0, 10, 21, 4, 16, 8, 164, 0, 5]
abbrev dktX3_pathEnd_2 : List UInt8 := dkwX3_pathEnd_2 ++ dktX3_pathEnd_3
def dkwX3_pathEnd_1 : List UInt8 := [27, 16, 6, 96, 172, 27, 62, 42, 29, 28, 20, 0, 205, 182, 0, 199, 153, 0, 9, 132, 3, 3]
abbrev dktX3_pathEnd_1 : List UInt8 := dkwX3_pathEnd_1 ++ dktX3_pathEnd_2
def dkwX3_pathEnd_0 : List UInt8 := [42, 27, 28, 20, 0, 197, 182, 0, 199, 154, 0, 15, 42, 27, 28, 20, 0, 203, 182, 0, 199, 153, 0, 8]
abbrev dktX3_pathEnd_0 : List UInt8 := dkwX3_pathEnd_0 ++ dktX3_pathEnd_1
theorem dksX3_pathEnd_0 : cX3_pathEnd.data.toList.drop 0 = dktX3_pathEnd_0 := by decide +kernel
theorem dksX3_pathEnd_1 : cX3_pathEnd.data.toList.drop 24 = dktX3_pathEnd_1 := dk_seg dksX3_pathEnd_0 24 rfl rfl
theorem dksX3_pathEnd_2 : cX3_pathEnd.data.toList.drop 46 = dktX3_pathEnd_2 := dk_seg dksX3_pathEnd_1 22 rfl rfl
theorem dksX3_pathEnd_3 : cX3_pathEnd.data.toList.drop 70 = dktX3_pathEnd_3 := dk_seg dksX3_pathEnd_2 24 rfl rfl
theorem dksX3_pathEnd_4 : cX3_pathEnd.data.toList.drop 94 = dktX3_pathEnd_4 := dk_seg dksX3_pathEnd_3 24 rfl rfl
theorem dksX3_pathEnd_5 : cX3_pathEnd.data.toList.drop 118 = dktX3_pathEnd_5 := dk_seg dksX3_pathEnd_4 24 rfl rfl
theorem dksX3_pathEnd_6 : cX3_pathEnd.data.toList.drop 141 = dktX3_pathEnd_6 := dk_seg dksX3_pathEnd_5 23 rfl rfl
theorem dksX3_pathEnd_7 : cX3_pathEnd.data.toList.drop 165 = dktX3_pathEnd_7 := dk_seg dksX3_pathEnd_6 24 rfl rfl
theorem dX3_pathEnd_0 : decode cX3_pathEnd 0 = .ok (.aload_n 0, 1) := dk_42 (dk_at dksX3_pathEnd_0 0 rfl rfl)
theorem dX3_pathEnd_1 : decode cX3_pathEnd 1 = .ok (.iload_n 1, 1) := dk_27 (dk_at dksX3_pathEnd_0 1 rfl rfl)
theorem dX3_pathEnd_2 : decode cX3_pathEnd 2 = .ok (.iload_n 2, 1) := dk_28 (dk_at dksX3_pathEnd_0 2 rfl rfl)
theorem dX3_pathEnd_3 : decode cX3_pathEnd 3 = .ok (.ldc2_w 197, 3) := dk_20 0 197 (dk_at dksX3_pathEnd_0 3 rfl rfl)
theorem dX3_pathEnd_6 : decode cX3_pathEnd 6 = .ok (.invokevirtual 199, 3) := dk_182 0 199 (dk_at dksX3_pathEnd_0 6 rfl rfl)
theorem dX3_pathEnd_9 : decode cX3_pathEnd 9 = .ok (.ifCond .ne 15, 3) := dk_154 0 15 (dk_at dksX3_pathEnd_0 9 rfl rfl)
theorem dX3_pathEnd_12 : decode cX3_pathEnd 12 = .ok (.aload_n 0, 1) := dk_42 (dk_at dksX3_pathEnd_0 12 rfl rfl)
theorem dX3_pathEnd_13 : decode cX3_pathEnd 13 = .ok (.iload_n 1, 1) := dk_27 (dk_at dksX3_pathEnd_0 13 rfl rfl)
theorem dX3_pathEnd_14 : decode cX3_pathEnd 14 = .ok (.iload_n 2, 1) := dk_28 (dk_at dksX3_pathEnd_0 14 rfl rfl)
theorem dX3_pathEnd_15 : decode cX3_pathEnd 15 = .ok (.ldc2_w 203, 3) := dk_20 0 203 (dk_at dksX3_pathEnd_0 15 rfl rfl)
theorem dX3_pathEnd_18 : decode cX3_pathEnd 18 = .ok (.invokevirtual 199, 3) := dk_182 0 199 (dk_at dksX3_pathEnd_0 18 rfl rfl)
theorem dX3_pathEnd_21 : decode cX3_pathEnd 21 = .ok (.ifCond .eq 8, 3) := dk_153 0 8 (dk_at dksX3_pathEnd_0 21 rfl rfl)
theorem dX3_pathEnd_24 : decode cX3_pathEnd 24 = .ok (.iload_n 1, 1) := dk_27 (dk_at dksX3_pathEnd_1 0 rfl rfl)
theorem dX3_pathEnd_25 : decode cX3_pathEnd 25 = .ok (.bipush 6, 2) := dk_16 6 (dk_at dksX3_pathEnd_1 1 rfl rfl)
theorem dX3_pathEnd_27 : decode cX3_pathEnd 27 = .ok (.iadd, 1) := dk_96 (dk_at dksX3_pathEnd_1 3 rfl rfl)
theorem dX3_pathEnd_28 : decode cX3_pathEnd 28 = .ok (.ireturn, 1) := dk_172 (dk_at dksX3_pathEnd_1 4 rfl rfl)
theorem dX3_pathEnd_29 : decode cX3_pathEnd 29 = .ok (.iload_n 1, 1) := dk_27 (dk_at dksX3_pathEnd_1 5 rfl rfl)
theorem dX3_pathEnd_30 : decode cX3_pathEnd 30 = .ok (.istore_n 3, 1) := dk_62 (dk_at dksX3_pathEnd_1 6 rfl rfl)
theorem dX3_pathEnd_31 : decode cX3_pathEnd 31 = .ok (.aload_n 0, 1) := dk_42 (dk_at dksX3_pathEnd_1 7 rfl rfl)
theorem dX3_pathEnd_32 : decode cX3_pathEnd 32 = .ok (.iload_n 3, 1) := dk_29 (dk_at dksX3_pathEnd_1 8 rfl rfl)
theorem dX3_pathEnd_33 : decode cX3_pathEnd 33 = .ok (.iload_n 2, 1) := dk_28 (dk_at dksX3_pathEnd_1 9 rfl rfl)
theorem dX3_pathEnd_34 : decode cX3_pathEnd 34 = .ok (.ldc2_w 205, 3) := dk_20 0 205 (dk_at dksX3_pathEnd_1 10 rfl rfl)
theorem dX3_pathEnd_37 : decode cX3_pathEnd 37 = .ok (.invokevirtual 199, 3) := dk_182 0 199 (dk_at dksX3_pathEnd_1 13 rfl rfl)
theorem dX3_pathEnd_40 : decode cX3_pathEnd 40 = .ok (.ifCond .eq 9, 3) := dk_153 0 9 (dk_at dksX3_pathEnd_1 16 rfl rfl)
theorem dX3_pathEnd_43 : decode cX3_pathEnd 43 = .ok (.iinc 3 3, 3) := dk_132 3 3 (dk_at dksX3_pathEnd_1 19 rfl rfl)
theorem dX3_pathEnd_46 : decode cX3_pathEnd 46 = .ok (.goto (-15), 3) := dk_167 255 241 (dk_at dksX3_pathEnd_2 0 rfl rfl)
theorem dX3_pathEnd_49 : decode cX3_pathEnd 49 = .ok (.aload_n 0, 1) := dk_42 (dk_at dksX3_pathEnd_2 3 rfl rfl)
theorem dX3_pathEnd_50 : decode cX3_pathEnd 50 = .ok (.iload_n 3, 1) := dk_29 (dk_at dksX3_pathEnd_2 4 rfl rfl)
theorem dX3_pathEnd_51 : decode cX3_pathEnd 51 = .ok (.iload_n 2, 1) := dk_28 (dk_at dksX3_pathEnd_2 5 rfl rfl)
theorem dX3_pathEnd_52 : decode cX3_pathEnd 52 = .ok (.invokevirtual 207, 3) := dk_182 0 207 (dk_at dksX3_pathEnd_2 6 rfl rfl)
theorem dX3_pathEnd_55 : decode cX3_pathEnd 55 = .ok (.istore 4, 2) := dk_54 4 (dk_at dksX3_pathEnd_2 9 rfl rfl)
theorem dX3_pathEnd_57 : decode cX3_pathEnd 57 = .ok (.iload 4, 2) := dk_21 4 (dk_at dksX3_pathEnd_2 11 rfl rfl)
theorem dX3_pathEnd_59 : decode cX3_pathEnd 59 = .ok (.iconst 1, 1) := dk_4 (dk_at dksX3_pathEnd_2 13 rfl rfl)
theorem dX3_pathEnd_60 : decode cX3_pathEnd 60 = .ok (.if_icmp .lt 10, 3) := dk_161 0 10 (dk_at dksX3_pathEnd_2 14 rfl rfl)
theorem dX3_pathEnd_63 : decode cX3_pathEnd 63 = .ok (.iload 4, 2) := dk_21 4 (dk_at dksX3_pathEnd_2 17 rfl rfl)
theorem dX3_pathEnd_65 : decode cX3_pathEnd 65 = .ok (.bipush 8, 2) := dk_16 8 (dk_at dksX3_pathEnd_2 19 rfl rfl)
theorem dX3_pathEnd_67 : decode cX3_pathEnd 67 = .ok (.if_icmp .le 5, 3) := dk_164 0 5 (dk_at dksX3_pathEnd_2 21 rfl rfl)
theorem dX3_pathEnd_70 : decode cX3_pathEnd 70 = .ok (.iconst (-1), 1) := dk_2 (dk_at dksX3_pathEnd_3 0 rfl rfl)
theorem dX3_pathEnd_71 : decode cX3_pathEnd 71 = .ok (.ireturn, 1) := dk_172 (dk_at dksX3_pathEnd_3 1 rfl rfl)
theorem dX3_pathEnd_72 : decode cX3_pathEnd 72 = .ok (.iload 4, 2) := dk_21 4 (dk_at dksX3_pathEnd_3 2 rfl rfl)
theorem dX3_pathEnd_74 : decode cX3_pathEnd 74 = .ok (.iconst 4, 1) := dk_7 (dk_at dksX3_pathEnd_3 4 rfl rfl)
theorem dX3_pathEnd_75 : decode cX3_pathEnd 75 = .ok (.if_icmp .ne 19, 3) := dk_160 0 19 (dk_at dksX3_pathEnd_3 5 rfl rfl)
theorem dX3_pathEnd_78 : decode cX3_pathEnd 78 = .ok (.aload_n 0, 1) := dk_42 (dk_at dksX3_pathEnd_3 8 rfl rfl)
theorem dX3_pathEnd_79 : decode cX3_pathEnd 79 = .ok (.iload_n 3, 1) := dk_29 (dk_at dksX3_pathEnd_3 9 rfl rfl)
theorem dX3_pathEnd_80 : decode cX3_pathEnd 80 = .ok (.iload_n 2, 1) := dk_28 (dk_at dksX3_pathEnd_3 10 rfl rfl)
theorem dX3_pathEnd_81 : decode cX3_pathEnd 81 = .ok (.ldc2_w 210, 3) := dk_20 0 210 (dk_at dksX3_pathEnd_3 11 rfl rfl)
theorem dX3_pathEnd_84 : decode cX3_pathEnd 84 = .ok (.invokevirtual 199, 3) := dk_182 0 199 (dk_at dksX3_pathEnd_3 14 rfl rfl)
theorem dX3_pathEnd_87 : decode cX3_pathEnd 87 = .ok (.ifCond .eq 7, 3) := dk_153 0 7 (dk_at dksX3_pathEnd_3 17 rfl rfl)
theorem dX3_pathEnd_90 : decode cX3_pathEnd 90 = .ok (.iload_n 3, 1) := dk_29 (dk_at dksX3_pathEnd_3 20 rfl rfl)
theorem dX3_pathEnd_91 : decode cX3_pathEnd 91 = .ok (.iconst 4, 1) := dk_7 (dk_at dksX3_pathEnd_3 21 rfl rfl)
theorem dX3_pathEnd_92 : decode cX3_pathEnd 92 = .ok (.iadd, 1) := dk_96 (dk_at dksX3_pathEnd_3 22 rfl rfl)
theorem dX3_pathEnd_93 : decode cX3_pathEnd 93 = .ok (.ireturn, 1) := dk_172 (dk_at dksX3_pathEnd_3 23 rfl rfl)
theorem dX3_pathEnd_94 : decode cX3_pathEnd 94 = .ok (.iload_n 3, 1) := dk_29 (dk_at dksX3_pathEnd_4 0 rfl rfl)
theorem dX3_pathEnd_95 : decode cX3_pathEnd 95 = .ok (.iload 4, 2) := dk_21 4 (dk_at dksX3_pathEnd_4 1 rfl rfl)
theorem dX3_pathEnd_97 : decode cX3_pathEnd 97 = .ok (.iadd, 1) := dk_96 (dk_at dksX3_pathEnd_4 3 rfl rfl)
theorem dX3_pathEnd_98 : decode cX3_pathEnd 98 = .ok (.istore_n 3, 1) := dk_62 (dk_at dksX3_pathEnd_4 4 rfl rfl)
theorem dX3_pathEnd_99 : decode cX3_pathEnd 99 = .ok (.aload_n 0, 1) := dk_42 (dk_at dksX3_pathEnd_4 5 rfl rfl)
theorem dX3_pathEnd_100 : decode cX3_pathEnd 100 = .ok (.iload_n 3, 1) := dk_29 (dk_at dksX3_pathEnd_4 6 rfl rfl)
theorem dX3_pathEnd_101 : decode cX3_pathEnd 101 = .ok (.iload_n 2, 1) := dk_28 (dk_at dksX3_pathEnd_4 7 rfl rfl)
theorem dX3_pathEnd_102 : decode cX3_pathEnd 102 = .ok (.invokevirtual 194, 3) := dk_182 0 194 (dk_at dksX3_pathEnd_4 8 rfl rfl)
theorem dX3_pathEnd_105 : decode cX3_pathEnd 105 = .ok (.bipush 46, 2) := dk_16 46 (dk_at dksX3_pathEnd_4 11 rfl rfl)
theorem dX3_pathEnd_107 : decode cX3_pathEnd 107 = .ok (.if_icmp .ne 61, 3) := dk_160 0 61 (dk_at dksX3_pathEnd_4 13 rfl rfl)
theorem dX3_pathEnd_110 : decode cX3_pathEnd 110 = .ok (.aload_n 0, 1) := dk_42 (dk_at dksX3_pathEnd_4 16 rfl rfl)
theorem dX3_pathEnd_111 : decode cX3_pathEnd 111 = .ok (.iload_n 3, 1) := dk_29 (dk_at dksX3_pathEnd_4 17 rfl rfl)
theorem dX3_pathEnd_112 : decode cX3_pathEnd 112 = .ok (.iconst 1, 1) := dk_4 (dk_at dksX3_pathEnd_4 18 rfl rfl)
theorem dX3_pathEnd_113 : decode cX3_pathEnd 113 = .ok (.iadd, 1) := dk_96 (dk_at dksX3_pathEnd_4 19 rfl rfl)
theorem dX3_pathEnd_114 : decode cX3_pathEnd 114 = .ok (.iload_n 2, 1) := dk_28 (dk_at dksX3_pathEnd_4 20 rfl rfl)
theorem dX3_pathEnd_115 : decode cX3_pathEnd 115 = .ok (.invokevirtual 207, 3) := dk_182 0 207 (dk_at dksX3_pathEnd_4 21 rfl rfl)
theorem dX3_pathEnd_118 : decode cX3_pathEnd 118 = .ok (.istore 4, 2) := dk_54 4 (dk_at dksX3_pathEnd_5 0 rfl rfl)
theorem dX3_pathEnd_120 : decode cX3_pathEnd 120 = .ok (.iload 4, 2) := dk_21 4 (dk_at dksX3_pathEnd_5 2 rfl rfl)
theorem dX3_pathEnd_122 : decode cX3_pathEnd 122 = .ok (.ifCond .ne 21, 3) := dk_154 0 21 (dk_at dksX3_pathEnd_5 4 rfl rfl)
theorem dX3_pathEnd_125 : decode cX3_pathEnd 125 = .ok (.aload_n 0, 1) := dk_42 (dk_at dksX3_pathEnd_5 7 rfl rfl)
theorem dX3_pathEnd_126 : decode cX3_pathEnd 126 = .ok (.aload_n 0, 1) := dk_42 (dk_at dksX3_pathEnd_5 8 rfl rfl)
theorem dX3_pathEnd_127 : decode cX3_pathEnd 127 = .ok (.iload_n 3, 1) := dk_29 (dk_at dksX3_pathEnd_5 9 rfl rfl)
theorem dX3_pathEnd_128 : decode cX3_pathEnd 128 = .ok (.iconst 1, 1) := dk_4 (dk_at dksX3_pathEnd_5 10 rfl rfl)
theorem dX3_pathEnd_129 : decode cX3_pathEnd 129 = .ok (.iadd, 1) := dk_96 (dk_at dksX3_pathEnd_5 11 rfl rfl)
theorem dX3_pathEnd_130 : decode cX3_pathEnd 130 = .ok (.iload_n 2, 1) := dk_28 (dk_at dksX3_pathEnd_5 12 rfl rfl)
theorem dX3_pathEnd_131 : decode cX3_pathEnd 131 = .ok (.invokevirtual 194, 3) := dk_182 0 194 (dk_at dksX3_pathEnd_5 13 rfl rfl)
theorem dX3_pathEnd_134 : decode cX3_pathEnd 134 = .ok (.invokevirtual 212, 3) := dk_182 0 212 (dk_at dksX3_pathEnd_5 16 rfl rfl)
theorem dX3_pathEnd_137 : decode cX3_pathEnd 137 = .ok (.ifCond .eq 6, 3) := dk_153 0 6 (dk_at dksX3_pathEnd_5 19 rfl rfl)
theorem dX3_pathEnd_140 : decode cX3_pathEnd 140 = .ok (.iconst 1, 1) := dk_4 (dk_at dksX3_pathEnd_5 22 rfl rfl)
theorem dX3_pathEnd_141 : decode cX3_pathEnd 141 = .ok (.istore 4, 2) := dk_54 4 (dk_at dksX3_pathEnd_6 0 rfl rfl)
theorem dX3_pathEnd_143 : decode cX3_pathEnd 143 = .ok (.iload 4, 2) := dk_21 4 (dk_at dksX3_pathEnd_6 2 rfl rfl)
theorem dX3_pathEnd_145 : decode cX3_pathEnd 145 = .ok (.iconst 1, 1) := dk_4 (dk_at dksX3_pathEnd_6 4 rfl rfl)
theorem dX3_pathEnd_146 : decode cX3_pathEnd 146 = .ok (.if_icmp .lt 10, 3) := dk_161 0 10 (dk_at dksX3_pathEnd_6 5 rfl rfl)
theorem dX3_pathEnd_149 : decode cX3_pathEnd 149 = .ok (.iload 4, 2) := dk_21 4 (dk_at dksX3_pathEnd_6 8 rfl rfl)
theorem dX3_pathEnd_151 : decode cX3_pathEnd 151 = .ok (.bipush 8, 2) := dk_16 8 (dk_at dksX3_pathEnd_6 10 rfl rfl)
theorem dX3_pathEnd_153 : decode cX3_pathEnd 153 = .ok (.if_icmp .le 5, 3) := dk_164 0 5 (dk_at dksX3_pathEnd_6 12 rfl rfl)
theorem dX3_pathEnd_156 : decode cX3_pathEnd 156 = .ok (.iconst (-1), 1) := dk_2 (dk_at dksX3_pathEnd_6 15 rfl rfl)
theorem dX3_pathEnd_157 : decode cX3_pathEnd 157 = .ok (.ireturn, 1) := dk_172 (dk_at dksX3_pathEnd_6 16 rfl rfl)
theorem dX3_pathEnd_158 : decode cX3_pathEnd 158 = .ok (.iload_n 3, 1) := dk_29 (dk_at dksX3_pathEnd_6 17 rfl rfl)
theorem dX3_pathEnd_159 : decode cX3_pathEnd 159 = .ok (.iconst 1, 1) := dk_4 (dk_at dksX3_pathEnd_6 18 rfl rfl)
theorem dX3_pathEnd_160 : decode cX3_pathEnd 160 = .ok (.iload 4, 2) := dk_21 4 (dk_at dksX3_pathEnd_6 19 rfl rfl)
theorem dX3_pathEnd_162 : decode cX3_pathEnd 162 = .ok (.iadd, 1) := dk_96 (dk_at dksX3_pathEnd_6 21 rfl rfl)
theorem dX3_pathEnd_163 : decode cX3_pathEnd 163 = .ok (.iadd, 1) := dk_96 (dk_at dksX3_pathEnd_6 22 rfl rfl)
theorem dX3_pathEnd_164 : decode cX3_pathEnd 164 = .ok (.istore_n 3, 1) := dk_62 (dk_at dksX3_pathEnd_6 23 rfl rfl)
theorem dX3_pathEnd_165 : decode cX3_pathEnd 165 = .ok (.goto (-66), 3) := dk_167 255 190 (dk_at dksX3_pathEnd_7 0 rfl rfl)
theorem dX3_pathEnd_168 : decode cX3_pathEnd 168 = .ok (.iload_n 3, 1) := dk_29 (dk_at dksX3_pathEnd_7 3 rfl rfl)
theorem dX3_pathEnd_169 : decode cX3_pathEnd 169 = .ok (.ireturn, 1) := dk_172 (dk_at dksX3_pathEnd_7 4 rfl rfl)
abbrev cX3_letters : ByteArray := prog_24_method_20_code
def yX3_letters : MethodName := ⟨RX3, "letters", "(II)I"⟩
def dkwX3_letters_1 : List UInt8 := [172]
abbrev dktX3_letters_1 : List UInt8 := dkwX3_letters_1 ++ []
def dkwX3_letters_0 : List UInt8 := [27, 62, 42, 42, 29, 28, 182, 0, 194, 182, 0, 177, 153, 0, 9, 132, 3, 1, 167, 255, 240, 29, 27, 100]
abbrev dktX3_letters_0 : List UInt8 := dkwX3_letters_0 ++ dktX3_letters_1
theorem dksX3_letters_0 : cX3_letters.data.toList.drop 0 = dktX3_letters_0 := by decide +kernel
theorem dksX3_letters_1 : cX3_letters.data.toList.drop 24 = dktX3_letters_1 := dk_seg dksX3_letters_0 24 rfl rfl
theorem dX3_letters_0 : decode cX3_letters 0 = .ok (.iload_n 1, 1) := dk_27 (dk_at dksX3_letters_0 0 rfl rfl)
theorem dX3_letters_1 : decode cX3_letters 1 = .ok (.istore_n 3, 1) := dk_62 (dk_at dksX3_letters_0 1 rfl rfl)
theorem dX3_letters_2 : decode cX3_letters 2 = .ok (.aload_n 0, 1) := dk_42 (dk_at dksX3_letters_0 2 rfl rfl)
theorem dX3_letters_3 : decode cX3_letters 3 = .ok (.aload_n 0, 1) := dk_42 (dk_at dksX3_letters_0 3 rfl rfl)
theorem dX3_letters_4 : decode cX3_letters 4 = .ok (.iload_n 3, 1) := dk_29 (dk_at dksX3_letters_0 4 rfl rfl)
theorem dX3_letters_5 : decode cX3_letters 5 = .ok (.iload_n 2, 1) := dk_28 (dk_at dksX3_letters_0 5 rfl rfl)
theorem dX3_letters_6 : decode cX3_letters 6 = .ok (.invokevirtual 194, 3) := dk_182 0 194 (dk_at dksX3_letters_0 6 rfl rfl)
theorem dX3_letters_9 : decode cX3_letters 9 = .ok (.invokevirtual 177, 3) := dk_182 0 177 (dk_at dksX3_letters_0 9 rfl rfl)
theorem dX3_letters_12 : decode cX3_letters 12 = .ok (.ifCond .eq 9, 3) := dk_153 0 9 (dk_at dksX3_letters_0 12 rfl rfl)
theorem dX3_letters_15 : decode cX3_letters 15 = .ok (.iinc 3 1, 3) := dk_132 3 1 (dk_at dksX3_letters_0 15 rfl rfl)
theorem dX3_letters_18 : decode cX3_letters 18 = .ok (.goto (-16), 3) := dk_167 255 240 (dk_at dksX3_letters_0 18 rfl rfl)
theorem dX3_letters_21 : decode cX3_letters 21 = .ok (.iload_n 3, 1) := dk_29 (dk_at dksX3_letters_0 21 rfl rfl)
theorem dX3_letters_22 : decode cX3_letters 22 = .ok (.iload_n 1, 1) := dk_27 (dk_at dksX3_letters_0 22 rfl rfl)
theorem dX3_letters_23 : decode cX3_letters 23 = .ok (.isub, 1) := dk_100 (dk_at dksX3_letters_0 23 rfl rfl)
theorem dX3_letters_24 : decode cX3_letters 24 = .ok (.ireturn, 1) := dk_172 (dk_at dksX3_letters_1 0 rfl rfl)
abbrev cX3_nameSize : ByteArray := prog_24_method_25_code
def yX3_nameSize : MethodName := ⟨RX3, "nameSize", "(I)I"⟩
def dkwX3_nameSize_0 : List UInt8 := [27, 4, 159, 0, 8, 27, 7, 164, 0, 7, 6, 167, 0, 4, 7, 172]
abbrev dktX3_nameSize_0 : List UInt8 := dkwX3_nameSize_0 ++ []
theorem dksX3_nameSize_0 : cX3_nameSize.data.toList.drop 0 = dktX3_nameSize_0 := by decide +kernel
theorem dX3_nameSize_0 : decode cX3_nameSize 0 = .ok (.iload_n 1, 1) := dk_27 (dk_at dksX3_nameSize_0 0 rfl rfl)
theorem dX3_nameSize_1 : decode cX3_nameSize 1 = .ok (.iconst 1, 1) := dk_4 (dk_at dksX3_nameSize_0 1 rfl rfl)
theorem dX3_nameSize_2 : decode cX3_nameSize 2 = .ok (.if_icmp .eq 8, 3) := dk_159 0 8 (dk_at dksX3_nameSize_0 2 rfl rfl)
theorem dX3_nameSize_5 : decode cX3_nameSize 5 = .ok (.iload_n 1, 1) := dk_27 (dk_at dksX3_nameSize_0 5 rfl rfl)
theorem dX3_nameSize_6 : decode cX3_nameSize 6 = .ok (.iconst 4, 1) := dk_7 (dk_at dksX3_nameSize_0 6 rfl rfl)
theorem dX3_nameSize_7 : decode cX3_nameSize 7 = .ok (.if_icmp .le 7, 3) := dk_164 0 7 (dk_at dksX3_nameSize_0 7 rfl rfl)
theorem dX3_nameSize_10 : decode cX3_nameSize 10 = .ok (.iconst 3, 1) := dk_6 (dk_at dksX3_nameSize_0 10 rfl rfl)
theorem dX3_nameSize_11 : decode cX3_nameSize 11 = .ok (.goto 4, 3) := dk_167 0 4 (dk_at dksX3_nameSize_0 11 rfl rfl)
theorem dX3_nameSize_14 : decode cX3_nameSize 14 = .ok (.iconst 4, 1) := dk_7 (dk_at dksX3_nameSize_0 14 rfl rfl)
theorem dX3_nameSize_15 : decode cX3_nameSize 15 = .ok (.ireturn, 1) := dk_172 (dk_at dksX3_nameSize_0 15 rfl rfl)
abbrev cX3_fit : ByteArray := prog_24_method_29_code
def yX3_fit : MethodName := ⟨RX3, "fit", "(II)I"⟩
def dkwX3_fit_5 : List UInt8 := [42, 180, 0, 86, 21, 4, 27, 79, 28, 4, 100, 172]
abbrev dktX3_fit_5 : List UInt8 := dkwX3_fit_5 ++ []
def dkwX3_fit_4 : List UInt8 := [180, 0, 83, 21, 4, 27, 79, 28, 172, 42, 180, 0, 80, 21, 4, 46, 29, 7, 100, 159, 0, 5, 2, 172]
abbrev dktX3_fit_4 : List UInt8 := dkwX3_fit_4 ++ dktX3_fit_5
def dkwX3_fit_3 : List UInt8 := [21, 4, 79, 29, 16, 6, 160, 0, 25, 42, 180, 0, 83, 21, 4, 46, 155, 0, 5, 2, 172, 42]
abbrev dktX3_fit_3 : List UInt8 := dkwX3_fit_3 ++ dktX3_fit_4
def dkwX3_fit_2 : List UInt8 := [28, 172, 28, 154, 0, 5, 2, 172, 42, 180, 0, 89, 28, 4, 100, 46, 54, 4, 42, 180, 0, 86, 27]
abbrev dktX3_fit_2 : List UInt8 := dkwX3_fit_2 ++ dktX3_fit_3
def dkwX3_fit_1 : List UInt8 := [172, 42, 180, 0, 89, 28, 27, 79, 28, 4, 96, 172, 29, 16, 6, 161, 0, 9, 29, 16, 10, 160, 0, 5]
abbrev dktX3_fit_1 : List UInt8 := dkwX3_fit_1 ++ dktX3_fit_2
def dkwX3_fit_0 : List UInt8 := [42, 180, 0, 80, 27, 46, 62, 29, 5, 164, 0, 27, 29, 16, 6, 162, 0, 21, 28, 7, 160, 0, 5, 2]
abbrev dktX3_fit_0 : List UInt8 := dkwX3_fit_0 ++ dktX3_fit_1
theorem dksX3_fit_0 : cX3_fit.data.toList.drop 0 = dktX3_fit_0 := by decide +kernel
theorem dksX3_fit_1 : cX3_fit.data.toList.drop 24 = dktX3_fit_1 := dk_seg dksX3_fit_0 24 rfl rfl
theorem dksX3_fit_2 : cX3_fit.data.toList.drop 48 = dktX3_fit_2 := dk_seg dksX3_fit_1 24 rfl rfl
theorem dksX3_fit_3 : cX3_fit.data.toList.drop 71 = dktX3_fit_3 := dk_seg dksX3_fit_2 23 rfl rfl
theorem dksX3_fit_4 : cX3_fit.data.toList.drop 93 = dktX3_fit_4 := dk_seg dksX3_fit_3 22 rfl rfl
theorem dksX3_fit_5 : cX3_fit.data.toList.drop 117 = dktX3_fit_5 := dk_seg dksX3_fit_4 24 rfl rfl
theorem dX3_fit_0 : decode cX3_fit 0 = .ok (.aload_n 0, 1) := dk_42 (dk_at dksX3_fit_0 0 rfl rfl)
theorem dX3_fit_1 : decode cX3_fit 1 = .ok (.getfield 80, 3) := dk_180 0 80 (dk_at dksX3_fit_0 1 rfl rfl)
theorem dX3_fit_4 : decode cX3_fit 4 = .ok (.iload_n 1, 1) := dk_27 (dk_at dksX3_fit_0 4 rfl rfl)
theorem dX3_fit_5 : decode cX3_fit 5 = .ok (.iaload, 1) := dk_46 (dk_at dksX3_fit_0 5 rfl rfl)
theorem dX3_fit_6 : decode cX3_fit 6 = .ok (.istore_n 3, 1) := dk_62 (dk_at dksX3_fit_0 6 rfl rfl)
theorem dX3_fit_7 : decode cX3_fit 7 = .ok (.iload_n 3, 1) := dk_29 (dk_at dksX3_fit_0 7 rfl rfl)
theorem dX3_fit_8 : decode cX3_fit 8 = .ok (.iconst 2, 1) := dk_5 (dk_at dksX3_fit_0 8 rfl rfl)
theorem dX3_fit_9 : decode cX3_fit 9 = .ok (.if_icmp .le 27, 3) := dk_164 0 27 (dk_at dksX3_fit_0 9 rfl rfl)
theorem dX3_fit_12 : decode cX3_fit 12 = .ok (.iload_n 3, 1) := dk_29 (dk_at dksX3_fit_0 12 rfl rfl)
theorem dX3_fit_13 : decode cX3_fit 13 = .ok (.bipush 6, 2) := dk_16 6 (dk_at dksX3_fit_0 13 rfl rfl)
theorem dX3_fit_15 : decode cX3_fit 15 = .ok (.if_icmp .ge 21, 3) := dk_162 0 21 (dk_at dksX3_fit_0 15 rfl rfl)
theorem dX3_fit_18 : decode cX3_fit 18 = .ok (.iload_n 2, 1) := dk_28 (dk_at dksX3_fit_0 18 rfl rfl)
theorem dX3_fit_19 : decode cX3_fit 19 = .ok (.iconst 4, 1) := dk_7 (dk_at dksX3_fit_0 19 rfl rfl)
theorem dX3_fit_20 : decode cX3_fit 20 = .ok (.if_icmp .ne 5, 3) := dk_160 0 5 (dk_at dksX3_fit_0 20 rfl rfl)
theorem dX3_fit_23 : decode cX3_fit 23 = .ok (.iconst (-1), 1) := dk_2 (dk_at dksX3_fit_0 23 rfl rfl)
theorem dX3_fit_24 : decode cX3_fit 24 = .ok (.ireturn, 1) := dk_172 (dk_at dksX3_fit_1 0 rfl rfl)
theorem dX3_fit_25 : decode cX3_fit 25 = .ok (.aload_n 0, 1) := dk_42 (dk_at dksX3_fit_1 1 rfl rfl)
theorem dX3_fit_26 : decode cX3_fit 26 = .ok (.getfield 89, 3) := dk_180 0 89 (dk_at dksX3_fit_1 2 rfl rfl)
theorem dX3_fit_29 : decode cX3_fit 29 = .ok (.iload_n 2, 1) := dk_28 (dk_at dksX3_fit_1 5 rfl rfl)
theorem dX3_fit_30 : decode cX3_fit 30 = .ok (.iload_n 1, 1) := dk_27 (dk_at dksX3_fit_1 6 rfl rfl)
theorem dX3_fit_31 : decode cX3_fit 31 = .ok (.iastore, 1) := dk_79 (dk_at dksX3_fit_1 7 rfl rfl)
theorem dX3_fit_32 : decode cX3_fit 32 = .ok (.iload_n 2, 1) := dk_28 (dk_at dksX3_fit_1 8 rfl rfl)
theorem dX3_fit_33 : decode cX3_fit 33 = .ok (.iconst 1, 1) := dk_4 (dk_at dksX3_fit_1 9 rfl rfl)
theorem dX3_fit_34 : decode cX3_fit 34 = .ok (.iadd, 1) := dk_96 (dk_at dksX3_fit_1 10 rfl rfl)
theorem dX3_fit_35 : decode cX3_fit 35 = .ok (.ireturn, 1) := dk_172 (dk_at dksX3_fit_1 11 rfl rfl)
theorem dX3_fit_36 : decode cX3_fit 36 = .ok (.iload_n 3, 1) := dk_29 (dk_at dksX3_fit_1 12 rfl rfl)
theorem dX3_fit_37 : decode cX3_fit 37 = .ok (.bipush 6, 2) := dk_16 6 (dk_at dksX3_fit_1 13 rfl rfl)
theorem dX3_fit_39 : decode cX3_fit 39 = .ok (.if_icmp .lt 9, 3) := dk_161 0 9 (dk_at dksX3_fit_1 15 rfl rfl)
theorem dX3_fit_42 : decode cX3_fit 42 = .ok (.iload_n 3, 1) := dk_29 (dk_at dksX3_fit_1 18 rfl rfl)
theorem dX3_fit_43 : decode cX3_fit 43 = .ok (.bipush 10, 2) := dk_16 10 (dk_at dksX3_fit_1 19 rfl rfl)
theorem dX3_fit_45 : decode cX3_fit 45 = .ok (.if_icmp .ne 5, 3) := dk_160 0 5 (dk_at dksX3_fit_1 21 rfl rfl)
theorem dX3_fit_48 : decode cX3_fit 48 = .ok (.iload_n 2, 1) := dk_28 (dk_at dksX3_fit_2 0 rfl rfl)
theorem dX3_fit_49 : decode cX3_fit 49 = .ok (.ireturn, 1) := dk_172 (dk_at dksX3_fit_2 1 rfl rfl)
theorem dX3_fit_50 : decode cX3_fit 50 = .ok (.iload_n 2, 1) := dk_28 (dk_at dksX3_fit_2 2 rfl rfl)
theorem dX3_fit_51 : decode cX3_fit 51 = .ok (.ifCond .ne 5, 3) := dk_154 0 5 (dk_at dksX3_fit_2 3 rfl rfl)
theorem dX3_fit_54 : decode cX3_fit 54 = .ok (.iconst (-1), 1) := dk_2 (dk_at dksX3_fit_2 6 rfl rfl)
theorem dX3_fit_55 : decode cX3_fit 55 = .ok (.ireturn, 1) := dk_172 (dk_at dksX3_fit_2 7 rfl rfl)
theorem dX3_fit_56 : decode cX3_fit 56 = .ok (.aload_n 0, 1) := dk_42 (dk_at dksX3_fit_2 8 rfl rfl)
theorem dX3_fit_57 : decode cX3_fit 57 = .ok (.getfield 89, 3) := dk_180 0 89 (dk_at dksX3_fit_2 9 rfl rfl)
theorem dX3_fit_60 : decode cX3_fit 60 = .ok (.iload_n 2, 1) := dk_28 (dk_at dksX3_fit_2 12 rfl rfl)
theorem dX3_fit_61 : decode cX3_fit 61 = .ok (.iconst 1, 1) := dk_4 (dk_at dksX3_fit_2 13 rfl rfl)
theorem dX3_fit_62 : decode cX3_fit 62 = .ok (.isub, 1) := dk_100 (dk_at dksX3_fit_2 14 rfl rfl)
theorem dX3_fit_63 : decode cX3_fit 63 = .ok (.iaload, 1) := dk_46 (dk_at dksX3_fit_2 15 rfl rfl)
theorem dX3_fit_64 : decode cX3_fit 64 = .ok (.istore 4, 2) := dk_54 4 (dk_at dksX3_fit_2 16 rfl rfl)
theorem dX3_fit_66 : decode cX3_fit 66 = .ok (.aload_n 0, 1) := dk_42 (dk_at dksX3_fit_2 18 rfl rfl)
theorem dX3_fit_67 : decode cX3_fit 67 = .ok (.getfield 86, 3) := dk_180 0 86 (dk_at dksX3_fit_2 19 rfl rfl)
theorem dX3_fit_70 : decode cX3_fit 70 = .ok (.iload_n 1, 1) := dk_27 (dk_at dksX3_fit_2 22 rfl rfl)
theorem dX3_fit_71 : decode cX3_fit 71 = .ok (.iload 4, 2) := dk_21 4 (dk_at dksX3_fit_3 0 rfl rfl)
theorem dX3_fit_73 : decode cX3_fit 73 = .ok (.iastore, 1) := dk_79 (dk_at dksX3_fit_3 2 rfl rfl)
theorem dX3_fit_74 : decode cX3_fit 74 = .ok (.iload_n 3, 1) := dk_29 (dk_at dksX3_fit_3 3 rfl rfl)
theorem dX3_fit_75 : decode cX3_fit 75 = .ok (.bipush 6, 2) := dk_16 6 (dk_at dksX3_fit_3 4 rfl rfl)
theorem dX3_fit_77 : decode cX3_fit 77 = .ok (.if_icmp .ne 25, 3) := dk_160 0 25 (dk_at dksX3_fit_3 6 rfl rfl)
theorem dX3_fit_80 : decode cX3_fit 80 = .ok (.aload_n 0, 1) := dk_42 (dk_at dksX3_fit_3 9 rfl rfl)
theorem dX3_fit_81 : decode cX3_fit 81 = .ok (.getfield 83, 3) := dk_180 0 83 (dk_at dksX3_fit_3 10 rfl rfl)
theorem dX3_fit_84 : decode cX3_fit 84 = .ok (.iload 4, 2) := dk_21 4 (dk_at dksX3_fit_3 13 rfl rfl)
theorem dX3_fit_86 : decode cX3_fit 86 = .ok (.iaload, 1) := dk_46 (dk_at dksX3_fit_3 15 rfl rfl)
theorem dX3_fit_87 : decode cX3_fit 87 = .ok (.ifCond .lt 5, 3) := dk_155 0 5 (dk_at dksX3_fit_3 16 rfl rfl)
theorem dX3_fit_90 : decode cX3_fit 90 = .ok (.iconst (-1), 1) := dk_2 (dk_at dksX3_fit_3 19 rfl rfl)
theorem dX3_fit_91 : decode cX3_fit 91 = .ok (.ireturn, 1) := dk_172 (dk_at dksX3_fit_3 20 rfl rfl)
theorem dX3_fit_92 : decode cX3_fit 92 = .ok (.aload_n 0, 1) := dk_42 (dk_at dksX3_fit_3 21 rfl rfl)
theorem dX3_fit_93 : decode cX3_fit 93 = .ok (.getfield 83, 3) := dk_180 0 83 (dk_at dksX3_fit_4 0 rfl rfl)
theorem dX3_fit_96 : decode cX3_fit 96 = .ok (.iload 4, 2) := dk_21 4 (dk_at dksX3_fit_4 3 rfl rfl)
theorem dX3_fit_98 : decode cX3_fit 98 = .ok (.iload_n 1, 1) := dk_27 (dk_at dksX3_fit_4 5 rfl rfl)
theorem dX3_fit_99 : decode cX3_fit 99 = .ok (.iastore, 1) := dk_79 (dk_at dksX3_fit_4 6 rfl rfl)
theorem dX3_fit_100 : decode cX3_fit 100 = .ok (.iload_n 2, 1) := dk_28 (dk_at dksX3_fit_4 7 rfl rfl)
theorem dX3_fit_101 : decode cX3_fit 101 = .ok (.ireturn, 1) := dk_172 (dk_at dksX3_fit_4 8 rfl rfl)
theorem dX3_fit_102 : decode cX3_fit 102 = .ok (.aload_n 0, 1) := dk_42 (dk_at dksX3_fit_4 9 rfl rfl)
theorem dX3_fit_103 : decode cX3_fit 103 = .ok (.getfield 80, 3) := dk_180 0 80 (dk_at dksX3_fit_4 10 rfl rfl)
theorem dX3_fit_106 : decode cX3_fit 106 = .ok (.iload 4, 2) := dk_21 4 (dk_at dksX3_fit_4 13 rfl rfl)
theorem dX3_fit_108 : decode cX3_fit 108 = .ok (.iaload, 1) := dk_46 (dk_at dksX3_fit_4 15 rfl rfl)
theorem dX3_fit_109 : decode cX3_fit 109 = .ok (.iload_n 3, 1) := dk_29 (dk_at dksX3_fit_4 16 rfl rfl)
theorem dX3_fit_110 : decode cX3_fit 110 = .ok (.iconst 4, 1) := dk_7 (dk_at dksX3_fit_4 17 rfl rfl)
theorem dX3_fit_111 : decode cX3_fit 111 = .ok (.isub, 1) := dk_100 (dk_at dksX3_fit_4 18 rfl rfl)
theorem dX3_fit_112 : decode cX3_fit 112 = .ok (.if_icmp .eq 5, 3) := dk_159 0 5 (dk_at dksX3_fit_4 19 rfl rfl)
theorem dX3_fit_115 : decode cX3_fit 115 = .ok (.iconst (-1), 1) := dk_2 (dk_at dksX3_fit_4 22 rfl rfl)
theorem dX3_fit_116 : decode cX3_fit 116 = .ok (.ireturn, 1) := dk_172 (dk_at dksX3_fit_4 23 rfl rfl)
theorem dX3_fit_117 : decode cX3_fit 117 = .ok (.aload_n 0, 1) := dk_42 (dk_at dksX3_fit_5 0 rfl rfl)
theorem dX3_fit_118 : decode cX3_fit 118 = .ok (.getfield 86, 3) := dk_180 0 86 (dk_at dksX3_fit_5 1 rfl rfl)
theorem dX3_fit_121 : decode cX3_fit 121 = .ok (.iload 4, 2) := dk_21 4 (dk_at dksX3_fit_5 4 rfl rfl)
theorem dX3_fit_123 : decode cX3_fit 123 = .ok (.iload_n 1, 1) := dk_27 (dk_at dksX3_fit_5 6 rfl rfl)
theorem dX3_fit_124 : decode cX3_fit 124 = .ok (.iastore, 1) := dk_79 (dk_at dksX3_fit_5 7 rfl rfl)
theorem dX3_fit_125 : decode cX3_fit 125 = .ok (.iload_n 2, 1) := dk_28 (dk_at dksX3_fit_5 8 rfl rfl)
theorem dX3_fit_126 : decode cX3_fit 126 = .ok (.iconst 1, 1) := dk_4 (dk_at dksX3_fit_5 9 rfl rfl)
theorem dX3_fit_127 : decode cX3_fit 127 = .ok (.isub, 1) := dk_100 (dk_at dksX3_fit_5 10 rfl rfl)
theorem dX3_fit_128 : decode cX3_fit 128 = .ok (.ireturn, 1) := dk_172 (dk_at dksX3_fit_5 11 rfl rfl)
abbrev cX3_moved : ByteArray := prog_24_method_31_code
def yX3_moved : MethodName := ⟨RX3, "moved", "(II)I"⟩
def dkwX3_moved_0 : List UInt8 := [27, 156, 0, 7, 2, 167, 0, 6, 27, 28, 96, 172]
abbrev dktX3_moved_0 : List UInt8 := dkwX3_moved_0 ++ []
theorem dksX3_moved_0 : cX3_moved.data.toList.drop 0 = dktX3_moved_0 := by decide +kernel
theorem dX3_moved_0 : decode cX3_moved 0 = .ok (.iload_n 1, 1) := dk_27 (dk_at dksX3_moved_0 0 rfl rfl)
theorem dX3_moved_1 : decode cX3_moved 1 = .ok (.ifCond .ge 7, 3) := dk_156 0 7 (dk_at dksX3_moved_0 1 rfl rfl)
theorem dX3_moved_4 : decode cX3_moved 4 = .ok (.iconst (-1), 1) := dk_2 (dk_at dksX3_moved_0 4 rfl rfl)
theorem dX3_moved_5 : decode cX3_moved 5 = .ok (.goto 6, 3) := dk_167 0 6 (dk_at dksX3_moved_0 5 rfl rfl)
theorem dX3_moved_8 : decode cX3_moved 8 = .ok (.iload_n 1, 1) := dk_27 (dk_at dksX3_moved_0 8 rfl rfl)
theorem dX3_moved_9 : decode cX3_moved 9 = .ok (.iload_n 2, 1) := dk_28 (dk_at dksX3_moved_0 9 rfl rfl)
theorem dX3_moved_10 : decode cX3_moved 10 = .ok (.iadd, 1) := dk_96 (dk_at dksX3_moved_0 10 rfl rfl)
theorem dX3_moved_11 : decode cX3_moved 11 = .ok (.ireturn, 1) := dk_172 (dk_at dksX3_moved_0 11 rfl rfl)
abbrev cX3_errorAt : ByteArray := prog_24_method_33_code
def yX3_errorAt : MethodName := ⟨RX3, "errorAt", "()I"⟩
def dkwX3_errorAt_0 : List UInt8 := [42, 42, 180, 0, 19, 182, 0, 162, 172]
abbrev dktX3_errorAt_0 : List UInt8 := dkwX3_errorAt_0 ++ []
theorem dksX3_errorAt_0 : cX3_errorAt.data.toList.drop 0 = dktX3_errorAt_0 := by decide +kernel
theorem dX3_errorAt_0 : decode cX3_errorAt 0 = .ok (.aload_n 0, 1) := dk_42 (dk_at dksX3_errorAt_0 0 rfl rfl)
theorem dX3_errorAt_1 : decode cX3_errorAt 1 = .ok (.aload_n 0, 1) := dk_42 (dk_at dksX3_errorAt_0 1 rfl rfl)
theorem dX3_errorAt_2 : decode cX3_errorAt 2 = .ok (.getfield 19, 3) := dk_180 0 19 (dk_at dksX3_errorAt_0 2 rfl rfl)
theorem dX3_errorAt_5 : decode cX3_errorAt 5 = .ok (.invokevirtual 162, 3) := dk_182 0 162 (dk_at dksX3_errorAt_0 5 rfl rfl)
theorem dX3_errorAt_8 : decode cX3_errorAt 8 = .ok (.ireturn, 1) := dk_172 (dk_at dksX3_errorAt_0 8 rfl rfl)
abbrev cX3_render : ByteArray := prog_24_method_67_code
def yX3_render : MethodName := ⟨RX3, "render", "(II)I"⟩
def dkwX3_render_5 : List UInt8 := [85, 132, 3, 1, 167, 255, 233, 42, 42, 180, 0, 25, 181, 0, 28, 42, 42, 180, 0, 119, 182, 0, 162, 172]
abbrev dktX3_render_5 : List UInt8 := dkwX3_render_5 ++ []
def dkwX3_render_4 : List UInt8 := [181, 0, 119, 3, 62, 29, 42, 180, 0, 116, 162, 0, 21, 42, 180, 0, 110, 29, 42, 180, 0, 107, 29, 52]
abbrev dktX3_render_4 : List UInt8 := dkwX3_render_4 ++ dktX3_render_5
def dkwX3_render_3 : List UInt8 := [182, 1, 143, 42, 180, 0, 128, 153, 0, 12, 42, 42, 180, 0, 128, 182, 0, 158, 172, 42, 42, 180, 0, 116]
abbrev dktX3_render_3 : List UInt8 := dkwX3_render_3 ++ dktX3_render_4
def dkwX3_render_2 : List UInt8 := [42, 4, 181, 0, 122, 42, 3, 181, 0, 116, 42, 3, 181, 0, 128, 42, 6, 28, 182, 1, 57, 42, 27]
abbrev dktX3_render_2 : List UInt8 := dkwX3_render_2 ++ dktX3_render_3
def dkwX3_render_1 : List UInt8 := [42, 28, 182, 0, 169, 153, 0, 9, 42, 5, 182, 0, 158, 172, 42, 3, 181, 0, 25, 42, 3, 181, 0, 125]
abbrev dktX3_render_1 : List UInt8 := dkwX3_render_1 ++ dktX3_render_2
def dkwX3_render_0 : List UInt8 := [27, 155, 0, 8, 27, 6, 164, 0, 9, 42, 4, 182, 0, 158, 172, 42, 180, 0, 65, 27, 51, 153, 0, 11]
abbrev dktX3_render_0 : List UInt8 := dkwX3_render_0 ++ dktX3_render_1
theorem dksX3_render_0 : cX3_render.data.toList.drop 0 = dktX3_render_0 := by decide +kernel
theorem dksX3_render_1 : cX3_render.data.toList.drop 24 = dktX3_render_1 := dk_seg dksX3_render_0 24 rfl rfl
theorem dksX3_render_2 : cX3_render.data.toList.drop 48 = dktX3_render_2 := dk_seg dksX3_render_1 24 rfl rfl
theorem dksX3_render_3 : cX3_render.data.toList.drop 71 = dktX3_render_3 := dk_seg dksX3_render_2 23 rfl rfl
theorem dksX3_render_4 : cX3_render.data.toList.drop 95 = dktX3_render_4 := dk_seg dksX3_render_3 24 rfl rfl
theorem dksX3_render_5 : cX3_render.data.toList.drop 119 = dktX3_render_5 := dk_seg dksX3_render_4 24 rfl rfl
theorem dX3_render_0 : decode cX3_render 0 = .ok (.iload_n 1, 1) := dk_27 (dk_at dksX3_render_0 0 rfl rfl)
theorem dX3_render_1 : decode cX3_render 1 = .ok (.ifCond .lt 8, 3) := dk_155 0 8 (dk_at dksX3_render_0 1 rfl rfl)
theorem dX3_render_4 : decode cX3_render 4 = .ok (.iload_n 1, 1) := dk_27 (dk_at dksX3_render_0 4 rfl rfl)
theorem dX3_render_5 : decode cX3_render 5 = .ok (.iconst 3, 1) := dk_6 (dk_at dksX3_render_0 5 rfl rfl)
theorem dX3_render_6 : decode cX3_render 6 = .ok (.if_icmp .le 9, 3) := dk_164 0 9 (dk_at dksX3_render_0 6 rfl rfl)
theorem dX3_render_9 : decode cX3_render 9 = .ok (.aload_n 0, 1) := dk_42 (dk_at dksX3_render_0 9 rfl rfl)
theorem dX3_render_10 : decode cX3_render 10 = .ok (.iconst 1, 1) := dk_4 (dk_at dksX3_render_0 10 rfl rfl)
theorem dX3_render_11 : decode cX3_render 11 = .ok (.invokevirtual 158, 3) := dk_182 0 158 (dk_at dksX3_render_0 11 rfl rfl)
theorem dX3_render_14 : decode cX3_render 14 = .ok (.ireturn, 1) := dk_172 (dk_at dksX3_render_0 14 rfl rfl)
theorem dX3_render_15 : decode cX3_render 15 = .ok (.aload_n 0, 1) := dk_42 (dk_at dksX3_render_0 15 rfl rfl)
theorem dX3_render_16 : decode cX3_render 16 = .ok (.getfield 65, 3) := dk_180 0 65 (dk_at dksX3_render_0 16 rfl rfl)
theorem dX3_render_19 : decode cX3_render 19 = .ok (.iload_n 1, 1) := dk_27 (dk_at dksX3_render_0 19 rfl rfl)
theorem dX3_render_20 : decode cX3_render 20 = .ok (.baload, 1) := dk_51 (dk_at dksX3_render_0 20 rfl rfl)
theorem dX3_render_21 : decode cX3_render 21 = .ok (.ifCond .eq 11, 3) := dk_153 0 11 (dk_at dksX3_render_0 21 rfl rfl)
theorem dX3_render_24 : decode cX3_render 24 = .ok (.aload_n 0, 1) := dk_42 (dk_at dksX3_render_1 0 rfl rfl)
theorem dX3_render_25 : decode cX3_render 25 = .ok (.iload_n 2, 1) := dk_28 (dk_at dksX3_render_1 1 rfl rfl)
theorem dX3_render_26 : decode cX3_render 26 = .ok (.invokevirtual 169, 3) := dk_182 0 169 (dk_at dksX3_render_1 2 rfl rfl)
theorem dX3_render_29 : decode cX3_render 29 = .ok (.ifCond .eq 9, 3) := dk_153 0 9 (dk_at dksX3_render_1 5 rfl rfl)
theorem dX3_render_32 : decode cX3_render 32 = .ok (.aload_n 0, 1) := dk_42 (dk_at dksX3_render_1 8 rfl rfl)
theorem dX3_render_33 : decode cX3_render 33 = .ok (.iconst 2, 1) := dk_5 (dk_at dksX3_render_1 9 rfl rfl)
theorem dX3_render_34 : decode cX3_render 34 = .ok (.invokevirtual 158, 3) := dk_182 0 158 (dk_at dksX3_render_1 10 rfl rfl)
theorem dX3_render_37 : decode cX3_render 37 = .ok (.ireturn, 1) := dk_172 (dk_at dksX3_render_1 13 rfl rfl)
theorem dX3_render_38 : decode cX3_render 38 = .ok (.aload_n 0, 1) := dk_42 (dk_at dksX3_render_1 14 rfl rfl)
theorem dX3_render_39 : decode cX3_render 39 = .ok (.iconst 0, 1) := dk_3 (dk_at dksX3_render_1 15 rfl rfl)
theorem dX3_render_40 : decode cX3_render 40 = .ok (.putfield 25, 3) := dk_181 0 25 (dk_at dksX3_render_1 16 rfl rfl)
theorem dX3_render_43 : decode cX3_render 43 = .ok (.aload_n 0, 1) := dk_42 (dk_at dksX3_render_1 19 rfl rfl)
theorem dX3_render_44 : decode cX3_render 44 = .ok (.iconst 0, 1) := dk_3 (dk_at dksX3_render_1 20 rfl rfl)
theorem dX3_render_45 : decode cX3_render 45 = .ok (.putfield 125, 3) := dk_181 0 125 (dk_at dksX3_render_1 21 rfl rfl)
theorem dX3_render_48 : decode cX3_render 48 = .ok (.aload_n 0, 1) := dk_42 (dk_at dksX3_render_2 0 rfl rfl)
theorem dX3_render_49 : decode cX3_render 49 = .ok (.iconst 1, 1) := dk_4 (dk_at dksX3_render_2 1 rfl rfl)
theorem dX3_render_50 : decode cX3_render 50 = .ok (.putfield 122, 3) := dk_181 0 122 (dk_at dksX3_render_2 2 rfl rfl)
theorem dX3_render_53 : decode cX3_render 53 = .ok (.aload_n 0, 1) := dk_42 (dk_at dksX3_render_2 5 rfl rfl)
theorem dX3_render_54 : decode cX3_render 54 = .ok (.iconst 0, 1) := dk_3 (dk_at dksX3_render_2 6 rfl rfl)
theorem dX3_render_55 : decode cX3_render 55 = .ok (.putfield 116, 3) := dk_181 0 116 (dk_at dksX3_render_2 7 rfl rfl)
theorem dX3_render_58 : decode cX3_render 58 = .ok (.aload_n 0, 1) := dk_42 (dk_at dksX3_render_2 10 rfl rfl)
theorem dX3_render_59 : decode cX3_render 59 = .ok (.iconst 0, 1) := dk_3 (dk_at dksX3_render_2 11 rfl rfl)
theorem dX3_render_60 : decode cX3_render 60 = .ok (.putfield 128, 3) := dk_181 0 128 (dk_at dksX3_render_2 12 rfl rfl)
theorem dX3_render_63 : decode cX3_render 63 = .ok (.aload_n 0, 1) := dk_42 (dk_at dksX3_render_2 15 rfl rfl)
theorem dX3_render_64 : decode cX3_render 64 = .ok (.iconst 3, 1) := dk_6 (dk_at dksX3_render_2 16 rfl rfl)
theorem dX3_render_65 : decode cX3_render 65 = .ok (.iload_n 2, 1) := dk_28 (dk_at dksX3_render_2 17 rfl rfl)
theorem dX3_render_66 : decode cX3_render 66 = .ok (.invokevirtual 313, 3) := dk_182 1 57 (dk_at dksX3_render_2 18 rfl rfl)
theorem dX3_render_69 : decode cX3_render 69 = .ok (.aload_n 0, 1) := dk_42 (dk_at dksX3_render_2 21 rfl rfl)
theorem dX3_render_70 : decode cX3_render 70 = .ok (.iload_n 1, 1) := dk_27 (dk_at dksX3_render_2 22 rfl rfl)
theorem dX3_render_71 : decode cX3_render 71 = .ok (.invokevirtual 399, 3) := dk_182 1 143 (dk_at dksX3_render_3 0 rfl rfl)
theorem dX3_render_74 : decode cX3_render 74 = .ok (.aload_n 0, 1) := dk_42 (dk_at dksX3_render_3 3 rfl rfl)
theorem dX3_render_75 : decode cX3_render 75 = .ok (.getfield 128, 3) := dk_180 0 128 (dk_at dksX3_render_3 4 rfl rfl)
theorem dX3_render_78 : decode cX3_render 78 = .ok (.ifCond .eq 12, 3) := dk_153 0 12 (dk_at dksX3_render_3 7 rfl rfl)
theorem dX3_render_81 : decode cX3_render 81 = .ok (.aload_n 0, 1) := dk_42 (dk_at dksX3_render_3 10 rfl rfl)
theorem dX3_render_82 : decode cX3_render 82 = .ok (.aload_n 0, 1) := dk_42 (dk_at dksX3_render_3 11 rfl rfl)
theorem dX3_render_83 : decode cX3_render 83 = .ok (.getfield 128, 3) := dk_180 0 128 (dk_at dksX3_render_3 12 rfl rfl)
theorem dX3_render_86 : decode cX3_render 86 = .ok (.invokevirtual 158, 3) := dk_182 0 158 (dk_at dksX3_render_3 15 rfl rfl)
theorem dX3_render_89 : decode cX3_render 89 = .ok (.ireturn, 1) := dk_172 (dk_at dksX3_render_3 18 rfl rfl)
theorem dX3_render_90 : decode cX3_render 90 = .ok (.aload_n 0, 1) := dk_42 (dk_at dksX3_render_3 19 rfl rfl)
theorem dX3_render_91 : decode cX3_render 91 = .ok (.aload_n 0, 1) := dk_42 (dk_at dksX3_render_3 20 rfl rfl)
theorem dX3_render_92 : decode cX3_render 92 = .ok (.getfield 116, 3) := dk_180 0 116 (dk_at dksX3_render_3 21 rfl rfl)
theorem dX3_render_95 : decode cX3_render 95 = .ok (.putfield 119, 3) := dk_181 0 119 (dk_at dksX3_render_4 0 rfl rfl)
theorem dX3_render_98 : decode cX3_render 98 = .ok (.iconst 0, 1) := dk_3 (dk_at dksX3_render_4 3 rfl rfl)
theorem dX3_render_99 : decode cX3_render 99 = .ok (.istore_n 3, 1) := dk_62 (dk_at dksX3_render_4 4 rfl rfl)
theorem dX3_render_100 : decode cX3_render 100 = .ok (.iload_n 3, 1) := dk_29 (dk_at dksX3_render_4 5 rfl rfl)
theorem dX3_render_101 : decode cX3_render 101 = .ok (.aload_n 0, 1) := dk_42 (dk_at dksX3_render_4 6 rfl rfl)
theorem dX3_render_102 : decode cX3_render 102 = .ok (.getfield 116, 3) := dk_180 0 116 (dk_at dksX3_render_4 7 rfl rfl)
theorem dX3_render_105 : decode cX3_render 105 = .ok (.if_icmp .ge 21, 3) := dk_162 0 21 (dk_at dksX3_render_4 10 rfl rfl)
theorem dX3_render_108 : decode cX3_render 108 = .ok (.aload_n 0, 1) := dk_42 (dk_at dksX3_render_4 13 rfl rfl)
theorem dX3_render_109 : decode cX3_render 109 = .ok (.getfield 110, 3) := dk_180 0 110 (dk_at dksX3_render_4 14 rfl rfl)
theorem dX3_render_112 : decode cX3_render 112 = .ok (.iload_n 3, 1) := dk_29 (dk_at dksX3_render_4 17 rfl rfl)
theorem dX3_render_113 : decode cX3_render 113 = .ok (.aload_n 0, 1) := dk_42 (dk_at dksX3_render_4 18 rfl rfl)
theorem dX3_render_114 : decode cX3_render 114 = .ok (.getfield 107, 3) := dk_180 0 107 (dk_at dksX3_render_4 19 rfl rfl)
theorem dX3_render_117 : decode cX3_render 117 = .ok (.iload_n 3, 1) := dk_29 (dk_at dksX3_render_4 22 rfl rfl)
theorem dX3_render_118 : decode cX3_render 118 = .ok (.caload, 1) := dk_52 (dk_at dksX3_render_4 23 rfl rfl)
theorem dX3_render_119 : decode cX3_render 119 = .ok (.castore, 1) := dk_85 (dk_at dksX3_render_5 0 rfl rfl)
theorem dX3_render_120 : decode cX3_render 120 = .ok (.iinc 3 1, 3) := dk_132 3 1 (dk_at dksX3_render_5 1 rfl rfl)
theorem dX3_render_123 : decode cX3_render 123 = .ok (.goto (-23), 3) := dk_167 255 233 (dk_at dksX3_render_5 4 rfl rfl)
theorem dX3_render_126 : decode cX3_render 126 = .ok (.aload_n 0, 1) := dk_42 (dk_at dksX3_render_5 7 rfl rfl)
theorem dX3_render_127 : decode cX3_render 127 = .ok (.aload_n 0, 1) := dk_42 (dk_at dksX3_render_5 8 rfl rfl)
theorem dX3_render_128 : decode cX3_render 128 = .ok (.getfield 25, 3) := dk_180 0 25 (dk_at dksX3_render_5 9 rfl rfl)
theorem dX3_render_131 : decode cX3_render 131 = .ok (.putfield 28, 3) := dk_181 0 28 (dk_at dksX3_render_5 12 rfl rfl)
theorem dX3_render_134 : decode cX3_render 134 = .ok (.aload_n 0, 1) := dk_42 (dk_at dksX3_render_5 15 rfl rfl)
theorem dX3_render_135 : decode cX3_render 135 = .ok (.aload_n 0, 1) := dk_42 (dk_at dksX3_render_5 16 rfl rfl)
theorem dX3_render_136 : decode cX3_render 136 = .ok (.getfield 119, 3) := dk_180 0 119 (dk_at dksX3_render_5 17 rfl rfl)
theorem dX3_render_139 : decode cX3_render 139 = .ok (.invokevirtual 162, 3) := dk_182 0 162 (dk_at dksX3_render_5 20 rfl rfl)
theorem dX3_render_142 : decode cX3_render 142 = .ok (.ireturn, 1) := dk_172 (dk_at dksX3_render_5 23 rfl rfl)
abbrev cX3_load : ByteArray := prog_24_method_37_code
def yX3_load : MethodName := ⟨RX3, "load", "(II)V"⟩
def dkwX3_load_4 : List UInt8 := [132, 3, 1, 167, 255, 224, 177]
abbrev dktX3_load_4 : List UInt8 := dkwX3_load_4 ++ []
def dkwX3_load_3 : List UInt8 := [162, 0, 28, 42, 180, 0, 101, 27, 17, 1, 144, 104, 29, 96, 42, 28, 29, 182, 1, 26, 146, 85]
abbrev dktX3_load_3 : List UInt8 := dkwX3_load_3 ++ dktX3_load_4
def dkwX3_load_2 : List UInt8 := [177, 42, 180, 0, 98, 27, 42, 180, 0, 39, 28, 46, 79, 3, 62, 29, 42, 180, 0, 98, 27, 46]
abbrev dktX3_load_2 : List UInt8 := dkwX3_load_2 ++ dktX3_load_3
def dkwX3_load_1 : List UInt8 := [154, 0, 12, 42, 180, 0, 39, 28, 46, 167, 0, 4, 28, 79, 42, 180, 0, 35, 28, 46, 4, 159, 0, 4]
abbrev dktX3_load_1 : List UInt8 := dkwX3_load_1 ++ dktX3_load_2
def dkwX3_load_0 : List UInt8 := [42, 180, 0, 92, 27, 42, 180, 0, 35, 28, 46, 79, 42, 180, 0, 95, 27, 42, 180, 0, 35, 28, 46]
abbrev dktX3_load_0 : List UInt8 := dkwX3_load_0 ++ dktX3_load_1
theorem dksX3_load_0 : cX3_load.data.toList.drop 0 = dktX3_load_0 := by decide +kernel
theorem dksX3_load_1 : cX3_load.data.toList.drop 23 = dktX3_load_1 := dk_seg dksX3_load_0 23 rfl rfl
theorem dksX3_load_2 : cX3_load.data.toList.drop 47 = dktX3_load_2 := dk_seg dksX3_load_1 24 rfl rfl
theorem dksX3_load_3 : cX3_load.data.toList.drop 69 = dktX3_load_3 := dk_seg dksX3_load_2 22 rfl rfl
theorem dksX3_load_4 : cX3_load.data.toList.drop 91 = dktX3_load_4 := dk_seg dksX3_load_3 22 rfl rfl
theorem dX3_load_0 : decode cX3_load 0 = .ok (.aload_n 0, 1) := dk_42 (dk_at dksX3_load_0 0 rfl rfl)
theorem dX3_load_1 : decode cX3_load 1 = .ok (.getfield 92, 3) := dk_180 0 92 (dk_at dksX3_load_0 1 rfl rfl)
theorem dX3_load_4 : decode cX3_load 4 = .ok (.iload_n 1, 1) := dk_27 (dk_at dksX3_load_0 4 rfl rfl)
theorem dX3_load_5 : decode cX3_load 5 = .ok (.aload_n 0, 1) := dk_42 (dk_at dksX3_load_0 5 rfl rfl)
theorem dX3_load_6 : decode cX3_load 6 = .ok (.getfield 35, 3) := dk_180 0 35 (dk_at dksX3_load_0 6 rfl rfl)
theorem dX3_load_9 : decode cX3_load 9 = .ok (.iload_n 2, 1) := dk_28 (dk_at dksX3_load_0 9 rfl rfl)
theorem dX3_load_10 : decode cX3_load 10 = .ok (.iaload, 1) := dk_46 (dk_at dksX3_load_0 10 rfl rfl)
theorem dX3_load_11 : decode cX3_load 11 = .ok (.iastore, 1) := dk_79 (dk_at dksX3_load_0 11 rfl rfl)
theorem dX3_load_12 : decode cX3_load 12 = .ok (.aload_n 0, 1) := dk_42 (dk_at dksX3_load_0 12 rfl rfl)
theorem dX3_load_13 : decode cX3_load 13 = .ok (.getfield 95, 3) := dk_180 0 95 (dk_at dksX3_load_0 13 rfl rfl)
theorem dX3_load_16 : decode cX3_load 16 = .ok (.iload_n 1, 1) := dk_27 (dk_at dksX3_load_0 16 rfl rfl)
theorem dX3_load_17 : decode cX3_load 17 = .ok (.aload_n 0, 1) := dk_42 (dk_at dksX3_load_0 17 rfl rfl)
theorem dX3_load_18 : decode cX3_load 18 = .ok (.getfield 35, 3) := dk_180 0 35 (dk_at dksX3_load_0 18 rfl rfl)
theorem dX3_load_21 : decode cX3_load 21 = .ok (.iload_n 2, 1) := dk_28 (dk_at dksX3_load_0 21 rfl rfl)
theorem dX3_load_22 : decode cX3_load 22 = .ok (.iaload, 1) := dk_46 (dk_at dksX3_load_0 22 rfl rfl)
theorem dX3_load_23 : decode cX3_load 23 = .ok (.ifCond .ne 12, 3) := dk_154 0 12 (dk_at dksX3_load_1 0 rfl rfl)
theorem dX3_load_26 : decode cX3_load 26 = .ok (.aload_n 0, 1) := dk_42 (dk_at dksX3_load_1 3 rfl rfl)
theorem dX3_load_27 : decode cX3_load 27 = .ok (.getfield 39, 3) := dk_180 0 39 (dk_at dksX3_load_1 4 rfl rfl)
theorem dX3_load_30 : decode cX3_load 30 = .ok (.iload_n 2, 1) := dk_28 (dk_at dksX3_load_1 7 rfl rfl)
theorem dX3_load_31 : decode cX3_load 31 = .ok (.iaload, 1) := dk_46 (dk_at dksX3_load_1 8 rfl rfl)
theorem dX3_load_32 : decode cX3_load 32 = .ok (.goto 4, 3) := dk_167 0 4 (dk_at dksX3_load_1 9 rfl rfl)
theorem dX3_load_35 : decode cX3_load 35 = .ok (.iload_n 2, 1) := dk_28 (dk_at dksX3_load_1 12 rfl rfl)
theorem dX3_load_36 : decode cX3_load 36 = .ok (.iastore, 1) := dk_79 (dk_at dksX3_load_1 13 rfl rfl)
theorem dX3_load_37 : decode cX3_load 37 = .ok (.aload_n 0, 1) := dk_42 (dk_at dksX3_load_1 14 rfl rfl)
theorem dX3_load_38 : decode cX3_load 38 = .ok (.getfield 35, 3) := dk_180 0 35 (dk_at dksX3_load_1 15 rfl rfl)
theorem dX3_load_41 : decode cX3_load 41 = .ok (.iload_n 2, 1) := dk_28 (dk_at dksX3_load_1 18 rfl rfl)
theorem dX3_load_42 : decode cX3_load 42 = .ok (.iaload, 1) := dk_46 (dk_at dksX3_load_1 19 rfl rfl)
theorem dX3_load_43 : decode cX3_load 43 = .ok (.iconst 1, 1) := dk_4 (dk_at dksX3_load_1 20 rfl rfl)
theorem dX3_load_44 : decode cX3_load 44 = .ok (.if_icmp .eq 4, 3) := dk_159 0 4 (dk_at dksX3_load_1 21 rfl rfl)
theorem dX3_load_47 : decode cX3_load 47 = .ok (.return_, 1) := dk_177 (dk_at dksX3_load_2 0 rfl rfl)
theorem dX3_load_48 : decode cX3_load 48 = .ok (.aload_n 0, 1) := dk_42 (dk_at dksX3_load_2 1 rfl rfl)
theorem dX3_load_49 : decode cX3_load 49 = .ok (.getfield 98, 3) := dk_180 0 98 (dk_at dksX3_load_2 2 rfl rfl)
theorem dX3_load_52 : decode cX3_load 52 = .ok (.iload_n 1, 1) := dk_27 (dk_at dksX3_load_2 5 rfl rfl)
theorem dX3_load_53 : decode cX3_load 53 = .ok (.aload_n 0, 1) := dk_42 (dk_at dksX3_load_2 6 rfl rfl)
theorem dX3_load_54 : decode cX3_load 54 = .ok (.getfield 39, 3) := dk_180 0 39 (dk_at dksX3_load_2 7 rfl rfl)
theorem dX3_load_57 : decode cX3_load 57 = .ok (.iload_n 2, 1) := dk_28 (dk_at dksX3_load_2 10 rfl rfl)
theorem dX3_load_58 : decode cX3_load 58 = .ok (.iaload, 1) := dk_46 (dk_at dksX3_load_2 11 rfl rfl)
theorem dX3_load_59 : decode cX3_load 59 = .ok (.iastore, 1) := dk_79 (dk_at dksX3_load_2 12 rfl rfl)
theorem dX3_load_60 : decode cX3_load 60 = .ok (.iconst 0, 1) := dk_3 (dk_at dksX3_load_2 13 rfl rfl)
theorem dX3_load_61 : decode cX3_load 61 = .ok (.istore_n 3, 1) := dk_62 (dk_at dksX3_load_2 14 rfl rfl)
theorem dX3_load_62 : decode cX3_load 62 = .ok (.iload_n 3, 1) := dk_29 (dk_at dksX3_load_2 15 rfl rfl)
theorem dX3_load_63 : decode cX3_load 63 = .ok (.aload_n 0, 1) := dk_42 (dk_at dksX3_load_2 16 rfl rfl)
theorem dX3_load_64 : decode cX3_load 64 = .ok (.getfield 98, 3) := dk_180 0 98 (dk_at dksX3_load_2 17 rfl rfl)
theorem dX3_load_67 : decode cX3_load 67 = .ok (.iload_n 1, 1) := dk_27 (dk_at dksX3_load_2 20 rfl rfl)
theorem dX3_load_68 : decode cX3_load 68 = .ok (.iaload, 1) := dk_46 (dk_at dksX3_load_2 21 rfl rfl)
theorem dX3_load_69 : decode cX3_load 69 = .ok (.if_icmp .ge 28, 3) := dk_162 0 28 (dk_at dksX3_load_3 0 rfl rfl)
theorem dX3_load_72 : decode cX3_load 72 = .ok (.aload_n 0, 1) := dk_42 (dk_at dksX3_load_3 3 rfl rfl)
theorem dX3_load_73 : decode cX3_load 73 = .ok (.getfield 101, 3) := dk_180 0 101 (dk_at dksX3_load_3 4 rfl rfl)
theorem dX3_load_76 : decode cX3_load 76 = .ok (.iload_n 1, 1) := dk_27 (dk_at dksX3_load_3 7 rfl rfl)
theorem dX3_load_77 : decode cX3_load 77 = .ok (.sipush 400, 3) := dk_17 1 144 (dk_at dksX3_load_3 8 rfl rfl)
theorem dX3_load_80 : decode cX3_load 80 = .ok (.imul, 1) := dk_104 (dk_at dksX3_load_3 11 rfl rfl)
theorem dX3_load_81 : decode cX3_load 81 = .ok (.iload_n 3, 1) := dk_29 (dk_at dksX3_load_3 12 rfl rfl)
theorem dX3_load_82 : decode cX3_load 82 = .ok (.iadd, 1) := dk_96 (dk_at dksX3_load_3 13 rfl rfl)
theorem dX3_load_83 : decode cX3_load 83 = .ok (.aload_n 0, 1) := dk_42 (dk_at dksX3_load_3 14 rfl rfl)
theorem dX3_load_84 : decode cX3_load 84 = .ok (.iload_n 2, 1) := dk_28 (dk_at dksX3_load_3 15 rfl rfl)
theorem dX3_load_85 : decode cX3_load 85 = .ok (.iload_n 3, 1) := dk_29 (dk_at dksX3_load_3 16 rfl rfl)
theorem dX3_load_86 : decode cX3_load 86 = .ok (.invokevirtual 282, 3) := dk_182 1 26 (dk_at dksX3_load_3 17 rfl rfl)
theorem dX3_load_89 : decode cX3_load 89 = .ok (.i2c, 1) := dk_146 (dk_at dksX3_load_3 20 rfl rfl)
theorem dX3_load_90 : decode cX3_load 90 = .ok (.castore, 1) := dk_85 (dk_at dksX3_load_3 21 rfl rfl)
theorem dX3_load_91 : decode cX3_load 91 = .ok (.iinc 3 1, 3) := dk_132 3 1 (dk_at dksX3_load_4 0 rfl rfl)
theorem dX3_load_94 : decode cX3_load 94 = .ok (.goto (-32), 3) := dk_167 255 224 (dk_at dksX3_load_4 3 rfl rfl)
theorem dX3_load_97 : decode cX3_load 97 = .ok (.return_, 1) := dk_177 (dk_at dksX3_load_4 6 rfl rfl)
abbrev cX3_dataLetter : ByteArray := prog_24_method_36_code
def yX3_dataLetter : MethodName := ⟨RX3, "dataLetter", "(II)I"⟩
def dkwX3_dataLetter_1 : List UInt8 := [172]
abbrev dktX3_dataLetter_1 : List UInt8 := dkwX3_dataLetter_1 ++ []
def dkwX3_dataLetter_0 : List UInt8 := [42, 180, 0, 42, 27, 16, 50, 104, 28, 7, 108, 96, 46, 16, 8, 28, 7, 112, 104, 122, 17, 0, 255, 126]
abbrev dktX3_dataLetter_0 : List UInt8 := dkwX3_dataLetter_0 ++ dktX3_dataLetter_1
theorem dksX3_dataLetter_0 : cX3_dataLetter.data.toList.drop 0 = dktX3_dataLetter_0 := by decide +kernel
theorem dksX3_dataLetter_1 : cX3_dataLetter.data.toList.drop 24 = dktX3_dataLetter_1 := dk_seg dksX3_dataLetter_0 24 rfl rfl
theorem dX3_dataLetter_0 : decode cX3_dataLetter 0 = .ok (.aload_n 0, 1) := dk_42 (dk_at dksX3_dataLetter_0 0 rfl rfl)
theorem dX3_dataLetter_1 : decode cX3_dataLetter 1 = .ok (.getfield 42, 3) := dk_180 0 42 (dk_at dksX3_dataLetter_0 1 rfl rfl)
theorem dX3_dataLetter_4 : decode cX3_dataLetter 4 = .ok (.iload_n 1, 1) := dk_27 (dk_at dksX3_dataLetter_0 4 rfl rfl)
theorem dX3_dataLetter_5 : decode cX3_dataLetter 5 = .ok (.bipush 50, 2) := dk_16 50 (dk_at dksX3_dataLetter_0 5 rfl rfl)
theorem dX3_dataLetter_7 : decode cX3_dataLetter 7 = .ok (.imul, 1) := dk_104 (dk_at dksX3_dataLetter_0 7 rfl rfl)
theorem dX3_dataLetter_8 : decode cX3_dataLetter 8 = .ok (.iload_n 2, 1) := dk_28 (dk_at dksX3_dataLetter_0 8 rfl rfl)
theorem dX3_dataLetter_9 : decode cX3_dataLetter 9 = .ok (.iconst 4, 1) := dk_7 (dk_at dksX3_dataLetter_0 9 rfl rfl)
theorem dX3_dataLetter_10 : decode cX3_dataLetter 10 = .ok (.idiv, 1) := dk_108 (dk_at dksX3_dataLetter_0 10 rfl rfl)
theorem dX3_dataLetter_11 : decode cX3_dataLetter 11 = .ok (.iadd, 1) := dk_96 (dk_at dksX3_dataLetter_0 11 rfl rfl)
theorem dX3_dataLetter_12 : decode cX3_dataLetter 12 = .ok (.iaload, 1) := dk_46 (dk_at dksX3_dataLetter_0 12 rfl rfl)
theorem dX3_dataLetter_13 : decode cX3_dataLetter 13 = .ok (.bipush 8, 2) := dk_16 8 (dk_at dksX3_dataLetter_0 13 rfl rfl)
theorem dX3_dataLetter_15 : decode cX3_dataLetter 15 = .ok (.iload_n 2, 1) := dk_28 (dk_at dksX3_dataLetter_0 15 rfl rfl)
theorem dX3_dataLetter_16 : decode cX3_dataLetter 16 = .ok (.iconst 4, 1) := dk_7 (dk_at dksX3_dataLetter_0 16 rfl rfl)
theorem dX3_dataLetter_17 : decode cX3_dataLetter 17 = .ok (.irem, 1) := dk_112 (dk_at dksX3_dataLetter_0 17 rfl rfl)
theorem dX3_dataLetter_18 : decode cX3_dataLetter 18 = .ok (.imul, 1) := dk_104 (dk_at dksX3_dataLetter_0 18 rfl rfl)
theorem dX3_dataLetter_19 : decode cX3_dataLetter 19 = .ok (.ishr, 1) := dk_122 (dk_at dksX3_dataLetter_0 19 rfl rfl)
theorem dX3_dataLetter_20 : decode cX3_dataLetter 20 = .ok (.sipush 255, 3) := dk_17 0 255 (dk_at dksX3_dataLetter_0 20 rfl rfl)
theorem dX3_dataLetter_23 : decode cX3_dataLetter 23 = .ok (.iand, 1) := dk_126 (dk_at dksX3_dataLetter_0 23 rfl rfl)
theorem dX3_dataLetter_24 : decode cX3_dataLetter 24 = .ok (.ireturn, 1) := dk_172 (dk_at dksX3_dataLetter_1 0 rfl rfl)
abbrev cX3_go : ByteArray := prog_24_method_66_code
def yX3_go : MethodName := ⟨RX3, "go", "(I)V"⟩
def dkwX3_go_6 : List UInt8 := [180, 0, 125, 46, 46, 61, 167, 255, 121, 177]
abbrev dktX3_go_6 : List UInt8 := dkwX3_go_6 ++ []
def dkwX3_go_5 : List UInt8 := [154, 0, 4, 177, 42, 89, 180, 0, 125, 4, 100, 181, 0, 125, 42, 180, 0, 71, 42, 180, 0, 137, 42]
abbrev dktX3_go_5 : List UInt8 := dkwX3_go_5 ++ dktX3_go_6
def dkwX3_go_4 : List UInt8 := [153, 0, 4, 177, 21, 4, 155, 0, 13, 42, 21, 4, 182, 1, 140, 61, 167, 0, 36, 42, 180, 0, 125]
abbrev dktX3_go_4 : List UInt8 := dkwX3_go_4 ++ dktX3_go_5
def dkwX3_go_3 : List UInt8 := [154, 0, 19, 42, 42, 180, 0, 56, 28, 52, 182, 1, 93, 132, 2, 1, 167, 255, 230, 42, 180, 0, 128]
abbrev dktX3_go_3 : List UInt8 := dkwX3_go_3 ++ dktX3_go_4
def dkwX3_go_2 : List UInt8 := [167, 0, 10, 42, 180, 0, 68, 21, 4, 46, 54, 5, 28, 21, 5, 162, 0, 26, 42, 180, 0, 128]
abbrev dktX3_go_2 : List UInt8 := dkwX3_go_2 ++ dktX3_go_3
def dkwX3_go_1 : List UInt8 := [182, 1, 137, 54, 4, 21, 4, 156, 0, 18, 29, 17, 0, 200, 104, 42, 180, 0, 59, 29, 46, 96]
abbrev dktX3_go_1 : List UInt8 := dkwX3_go_1 ++ dktX3_go_2
def dkwX3_go_0 : List UInt8 := [27, 17, 0, 200, 104, 61, 42, 180, 0, 128, 154, 0, 134, 42, 27, 182, 1, 134, 62, 42, 29, 28]
abbrev dktX3_go_0 : List UInt8 := dkwX3_go_0 ++ dktX3_go_1
theorem dksX3_go_0 : cX3_go.data.toList.drop 0 = dktX3_go_0 := by decide +kernel
theorem dksX3_go_1 : cX3_go.data.toList.drop 22 = dktX3_go_1 := dk_seg dksX3_go_0 22 rfl rfl
theorem dksX3_go_2 : cX3_go.data.toList.drop 44 = dktX3_go_2 := dk_seg dksX3_go_1 22 rfl rfl
theorem dksX3_go_3 : cX3_go.data.toList.drop 66 = dktX3_go_3 := dk_seg dksX3_go_2 22 rfl rfl
theorem dksX3_go_4 : cX3_go.data.toList.drop 89 = dktX3_go_4 := dk_seg dksX3_go_3 23 rfl rfl
theorem dksX3_go_5 : cX3_go.data.toList.drop 112 = dktX3_go_5 := dk_seg dksX3_go_4 23 rfl rfl
theorem dksX3_go_6 : cX3_go.data.toList.drop 135 = dktX3_go_6 := dk_seg dksX3_go_5 23 rfl rfl
theorem dX3_go_0 : decode cX3_go 0 = .ok (.iload_n 1, 1) := dk_27 (dk_at dksX3_go_0 0 rfl rfl)
theorem dX3_go_1 : decode cX3_go 1 = .ok (.sipush 200, 3) := dk_17 0 200 (dk_at dksX3_go_0 1 rfl rfl)
theorem dX3_go_4 : decode cX3_go 4 = .ok (.imul, 1) := dk_104 (dk_at dksX3_go_0 4 rfl rfl)
theorem dX3_go_5 : decode cX3_go 5 = .ok (.istore_n 2, 1) := dk_61 (dk_at dksX3_go_0 5 rfl rfl)
theorem dX3_go_6 : decode cX3_go 6 = .ok (.aload_n 0, 1) := dk_42 (dk_at dksX3_go_0 6 rfl rfl)
theorem dX3_go_7 : decode cX3_go 7 = .ok (.getfield 128, 3) := dk_180 0 128 (dk_at dksX3_go_0 7 rfl rfl)
theorem dX3_go_10 : decode cX3_go 10 = .ok (.ifCond .ne 134, 3) := dk_154 0 134 (dk_at dksX3_go_0 10 rfl rfl)
theorem dX3_go_13 : decode cX3_go 13 = .ok (.aload_n 0, 1) := dk_42 (dk_at dksX3_go_0 13 rfl rfl)
theorem dX3_go_14 : decode cX3_go 14 = .ok (.iload_n 1, 1) := dk_27 (dk_at dksX3_go_0 14 rfl rfl)
theorem dX3_go_15 : decode cX3_go 15 = .ok (.invokevirtual 390, 3) := dk_182 1 134 (dk_at dksX3_go_0 15 rfl rfl)
theorem dX3_go_18 : decode cX3_go 18 = .ok (.istore_n 3, 1) := dk_62 (dk_at dksX3_go_0 18 rfl rfl)
theorem dX3_go_19 : decode cX3_go 19 = .ok (.aload_n 0, 1) := dk_42 (dk_at dksX3_go_0 19 rfl rfl)
theorem dX3_go_20 : decode cX3_go 20 = .ok (.iload_n 3, 1) := dk_29 (dk_at dksX3_go_0 20 rfl rfl)
theorem dX3_go_21 : decode cX3_go 21 = .ok (.iload_n 2, 1) := dk_28 (dk_at dksX3_go_0 21 rfl rfl)
theorem dX3_go_22 : decode cX3_go 22 = .ok (.invokevirtual 393, 3) := dk_182 1 137 (dk_at dksX3_go_1 0 rfl rfl)
theorem dX3_go_25 : decode cX3_go 25 = .ok (.istore 4, 2) := dk_54 4 (dk_at dksX3_go_1 3 rfl rfl)
theorem dX3_go_27 : decode cX3_go 27 = .ok (.iload 4, 2) := dk_21 4 (dk_at dksX3_go_1 5 rfl rfl)
theorem dX3_go_29 : decode cX3_go 29 = .ok (.ifCond .ge 18, 3) := dk_156 0 18 (dk_at dksX3_go_1 7 rfl rfl)
theorem dX3_go_32 : decode cX3_go 32 = .ok (.iload_n 3, 1) := dk_29 (dk_at dksX3_go_1 10 rfl rfl)
theorem dX3_go_33 : decode cX3_go 33 = .ok (.sipush 200, 3) := dk_17 0 200 (dk_at dksX3_go_1 11 rfl rfl)
theorem dX3_go_36 : decode cX3_go 36 = .ok (.imul, 1) := dk_104 (dk_at dksX3_go_1 14 rfl rfl)
theorem dX3_go_37 : decode cX3_go 37 = .ok (.aload_n 0, 1) := dk_42 (dk_at dksX3_go_1 15 rfl rfl)
theorem dX3_go_38 : decode cX3_go 38 = .ok (.getfield 59, 3) := dk_180 0 59 (dk_at dksX3_go_1 16 rfl rfl)
theorem dX3_go_41 : decode cX3_go 41 = .ok (.iload_n 3, 1) := dk_29 (dk_at dksX3_go_1 19 rfl rfl)
theorem dX3_go_42 : decode cX3_go 42 = .ok (.iaload, 1) := dk_46 (dk_at dksX3_go_1 20 rfl rfl)
theorem dX3_go_43 : decode cX3_go 43 = .ok (.iadd, 1) := dk_96 (dk_at dksX3_go_1 21 rfl rfl)
theorem dX3_go_44 : decode cX3_go 44 = .ok (.goto 10, 3) := dk_167 0 10 (dk_at dksX3_go_2 0 rfl rfl)
theorem dX3_go_47 : decode cX3_go 47 = .ok (.aload_n 0, 1) := dk_42 (dk_at dksX3_go_2 3 rfl rfl)
theorem dX3_go_48 : decode cX3_go 48 = .ok (.getfield 68, 3) := dk_180 0 68 (dk_at dksX3_go_2 4 rfl rfl)
theorem dX3_go_51 : decode cX3_go 51 = .ok (.iload 4, 2) := dk_21 4 (dk_at dksX3_go_2 7 rfl rfl)
theorem dX3_go_53 : decode cX3_go 53 = .ok (.iaload, 1) := dk_46 (dk_at dksX3_go_2 9 rfl rfl)
theorem dX3_go_54 : decode cX3_go 54 = .ok (.istore 5, 2) := dk_54 5 (dk_at dksX3_go_2 10 rfl rfl)
theorem dX3_go_56 : decode cX3_go 56 = .ok (.iload_n 2, 1) := dk_28 (dk_at dksX3_go_2 12 rfl rfl)
theorem dX3_go_57 : decode cX3_go 57 = .ok (.iload 5, 2) := dk_21 5 (dk_at dksX3_go_2 13 rfl rfl)
theorem dX3_go_59 : decode cX3_go 59 = .ok (.if_icmp .ge 26, 3) := dk_162 0 26 (dk_at dksX3_go_2 15 rfl rfl)
theorem dX3_go_62 : decode cX3_go 62 = .ok (.aload_n 0, 1) := dk_42 (dk_at dksX3_go_2 18 rfl rfl)
theorem dX3_go_63 : decode cX3_go 63 = .ok (.getfield 128, 3) := dk_180 0 128 (dk_at dksX3_go_2 19 rfl rfl)
theorem dX3_go_66 : decode cX3_go 66 = .ok (.ifCond .ne 19, 3) := dk_154 0 19 (dk_at dksX3_go_3 0 rfl rfl)
theorem dX3_go_69 : decode cX3_go 69 = .ok (.aload_n 0, 1) := dk_42 (dk_at dksX3_go_3 3 rfl rfl)
theorem dX3_go_70 : decode cX3_go 70 = .ok (.aload_n 0, 1) := dk_42 (dk_at dksX3_go_3 4 rfl rfl)
theorem dX3_go_71 : decode cX3_go 71 = .ok (.getfield 56, 3) := dk_180 0 56 (dk_at dksX3_go_3 5 rfl rfl)
theorem dX3_go_74 : decode cX3_go 74 = .ok (.iload_n 2, 1) := dk_28 (dk_at dksX3_go_3 8 rfl rfl)
theorem dX3_go_75 : decode cX3_go 75 = .ok (.caload, 1) := dk_52 (dk_at dksX3_go_3 9 rfl rfl)
theorem dX3_go_76 : decode cX3_go 76 = .ok (.invokevirtual 349, 3) := dk_182 1 93 (dk_at dksX3_go_3 10 rfl rfl)
theorem dX3_go_79 : decode cX3_go 79 = .ok (.iinc 2 1, 3) := dk_132 2 1 (dk_at dksX3_go_3 13 rfl rfl)
theorem dX3_go_82 : decode cX3_go 82 = .ok (.goto (-26), 3) := dk_167 255 230 (dk_at dksX3_go_3 16 rfl rfl)
theorem dX3_go_85 : decode cX3_go 85 = .ok (.aload_n 0, 1) := dk_42 (dk_at dksX3_go_3 19 rfl rfl)
theorem dX3_go_86 : decode cX3_go 86 = .ok (.getfield 128, 3) := dk_180 0 128 (dk_at dksX3_go_3 20 rfl rfl)
theorem dX3_go_89 : decode cX3_go 89 = .ok (.ifCond .eq 4, 3) := dk_153 0 4 (dk_at dksX3_go_4 0 rfl rfl)
theorem dX3_go_92 : decode cX3_go 92 = .ok (.return_, 1) := dk_177 (dk_at dksX3_go_4 3 rfl rfl)
theorem dX3_go_93 : decode cX3_go 93 = .ok (.iload 4, 2) := dk_21 4 (dk_at dksX3_go_4 4 rfl rfl)
theorem dX3_go_95 : decode cX3_go 95 = .ok (.ifCond .lt 13, 3) := dk_155 0 13 (dk_at dksX3_go_4 6 rfl rfl)
theorem dX3_go_98 : decode cX3_go 98 = .ok (.aload_n 0, 1) := dk_42 (dk_at dksX3_go_4 9 rfl rfl)
theorem dX3_go_99 : decode cX3_go 99 = .ok (.iload 4, 2) := dk_21 4 (dk_at dksX3_go_4 10 rfl rfl)
theorem dX3_go_101 : decode cX3_go 101 = .ok (.invokevirtual 396, 3) := dk_182 1 140 (dk_at dksX3_go_4 12 rfl rfl)
theorem dX3_go_104 : decode cX3_go 104 = .ok (.istore_n 2, 1) := dk_61 (dk_at dksX3_go_4 15 rfl rfl)
theorem dX3_go_105 : decode cX3_go 105 = .ok (.goto 36, 3) := dk_167 0 36 (dk_at dksX3_go_4 16 rfl rfl)
theorem dX3_go_108 : decode cX3_go 108 = .ok (.aload_n 0, 1) := dk_42 (dk_at dksX3_go_4 19 rfl rfl)
theorem dX3_go_109 : decode cX3_go 109 = .ok (.getfield 125, 3) := dk_180 0 125 (dk_at dksX3_go_4 20 rfl rfl)
theorem dX3_go_112 : decode cX3_go 112 = .ok (.ifCond .ne 4, 3) := dk_154 0 4 (dk_at dksX3_go_5 0 rfl rfl)
theorem dX3_go_115 : decode cX3_go 115 = .ok (.return_, 1) := dk_177 (dk_at dksX3_go_5 3 rfl rfl)
theorem dX3_go_116 : decode cX3_go 116 = .ok (.aload_n 0, 1) := dk_42 (dk_at dksX3_go_5 4 rfl rfl)
theorem dX3_go_117 : decode cX3_go 117 = .ok (.dup, 1) := dk_89 (dk_at dksX3_go_5 5 rfl rfl)
theorem dX3_go_118 : decode cX3_go 118 = .ok (.getfield 125, 3) := dk_180 0 125 (dk_at dksX3_go_5 6 rfl rfl)
theorem dX3_go_121 : decode cX3_go 121 = .ok (.iconst 1, 1) := dk_4 (dk_at dksX3_go_5 9 rfl rfl)
theorem dX3_go_122 : decode cX3_go 122 = .ok (.isub, 1) := dk_100 (dk_at dksX3_go_5 10 rfl rfl)
theorem dX3_go_123 : decode cX3_go 123 = .ok (.putfield 125, 3) := dk_181 0 125 (dk_at dksX3_go_5 11 rfl rfl)
theorem dX3_go_126 : decode cX3_go 126 = .ok (.aload_n 0, 1) := dk_42 (dk_at dksX3_go_5 14 rfl rfl)
theorem dX3_go_127 : decode cX3_go 127 = .ok (.getfield 71, 3) := dk_180 0 71 (dk_at dksX3_go_5 15 rfl rfl)
theorem dX3_go_130 : decode cX3_go 130 = .ok (.aload_n 0, 1) := dk_42 (dk_at dksX3_go_5 18 rfl rfl)
theorem dX3_go_131 : decode cX3_go 131 = .ok (.getfield 137, 3) := dk_180 0 137 (dk_at dksX3_go_5 19 rfl rfl)
theorem dX3_go_134 : decode cX3_go 134 = .ok (.aload_n 0, 1) := dk_42 (dk_at dksX3_go_5 22 rfl rfl)
theorem dX3_go_135 : decode cX3_go 135 = .ok (.getfield 125, 3) := dk_180 0 125 (dk_at dksX3_go_6 0 rfl rfl)
theorem dX3_go_138 : decode cX3_go 138 = .ok (.iaload, 1) := dk_46 (dk_at dksX3_go_6 3 rfl rfl)
theorem dX3_go_139 : decode cX3_go 139 = .ok (.iaload, 1) := dk_46 (dk_at dksX3_go_6 4 rfl rfl)
theorem dX3_go_140 : decode cX3_go 140 = .ok (.istore_n 2, 1) := dk_61 (dk_at dksX3_go_6 5 rfl rfl)
theorem dX3_go_141 : decode cX3_go 141 = .ok (.goto (-135), 3) := dk_167 255 121 (dk_at dksX3_go_6 6 rfl rfl)
theorem dX3_go_144 : decode cX3_go 144 = .ok (.return_, 1) := dk_177 (dk_at dksX3_go_6 9 rfl rfl)
abbrev cX3_here : ByteArray := prog_24_method_63_code
def yX3_here : MethodName := ⟨RX3, "here", "(I)I"⟩
def dkwX3_here_1 : List UInt8 := [28, 46, 172, 132, 2, 255, 167, 255, 233, 27, 172]
abbrev dktX3_here_1 : List UInt8 := dkwX3_here_1 ++ []
def dkwX3_here_0 : List UInt8 := [42, 180, 0, 125, 4, 100, 61, 28, 155, 0, 25, 42, 180, 0, 155, 28, 51, 153, 0, 10, 42, 180, 0, 134]
abbrev dktX3_here_0 : List UInt8 := dkwX3_here_0 ++ dktX3_here_1
theorem dksX3_here_0 : cX3_here.data.toList.drop 0 = dktX3_here_0 := by decide +kernel
theorem dksX3_here_1 : cX3_here.data.toList.drop 24 = dktX3_here_1 := dk_seg dksX3_here_0 24 rfl rfl
theorem dX3_here_0 : decode cX3_here 0 = .ok (.aload_n 0, 1) := dk_42 (dk_at dksX3_here_0 0 rfl rfl)
theorem dX3_here_1 : decode cX3_here 1 = .ok (.getfield 125, 3) := dk_180 0 125 (dk_at dksX3_here_0 1 rfl rfl)
theorem dX3_here_4 : decode cX3_here 4 = .ok (.iconst 1, 1) := dk_4 (dk_at dksX3_here_0 4 rfl rfl)
theorem dX3_here_5 : decode cX3_here 5 = .ok (.isub, 1) := dk_100 (dk_at dksX3_here_0 5 rfl rfl)
theorem dX3_here_6 : decode cX3_here 6 = .ok (.istore_n 2, 1) := dk_61 (dk_at dksX3_here_0 6 rfl rfl)
theorem dX3_here_7 : decode cX3_here 7 = .ok (.iload_n 2, 1) := dk_28 (dk_at dksX3_here_0 7 rfl rfl)
theorem dX3_here_8 : decode cX3_here 8 = .ok (.ifCond .lt 25, 3) := dk_155 0 25 (dk_at dksX3_here_0 8 rfl rfl)
theorem dX3_here_11 : decode cX3_here 11 = .ok (.aload_n 0, 1) := dk_42 (dk_at dksX3_here_0 11 rfl rfl)
theorem dX3_here_12 : decode cX3_here 12 = .ok (.getfield 155, 3) := dk_180 0 155 (dk_at dksX3_here_0 12 rfl rfl)
theorem dX3_here_15 : decode cX3_here 15 = .ok (.iload_n 2, 1) := dk_28 (dk_at dksX3_here_0 15 rfl rfl)
theorem dX3_here_16 : decode cX3_here 16 = .ok (.baload, 1) := dk_51 (dk_at dksX3_here_0 16 rfl rfl)
theorem dX3_here_17 : decode cX3_here 17 = .ok (.ifCond .eq 10, 3) := dk_153 0 10 (dk_at dksX3_here_0 17 rfl rfl)
theorem dX3_here_20 : decode cX3_here 20 = .ok (.aload_n 0, 1) := dk_42 (dk_at dksX3_here_0 20 rfl rfl)
theorem dX3_here_21 : decode cX3_here 21 = .ok (.getfield 134, 3) := dk_180 0 134 (dk_at dksX3_here_0 21 rfl rfl)
theorem dX3_here_24 : decode cX3_here 24 = .ok (.iload_n 2, 1) := dk_28 (dk_at dksX3_here_1 0 rfl rfl)
theorem dX3_here_25 : decode cX3_here 25 = .ok (.iaload, 1) := dk_46 (dk_at dksX3_here_1 1 rfl rfl)
theorem dX3_here_26 : decode cX3_here 26 = .ok (.ireturn, 1) := dk_172 (dk_at dksX3_here_1 2 rfl rfl)
theorem dX3_here_27 : decode cX3_here 27 = .ok (.iinc 2 (-1), 3) := dk_132 2 255 (dk_at dksX3_here_1 3 rfl rfl)
theorem dX3_here_30 : decode cX3_here 30 = .ok (.goto (-23), 3) := dk_167 255 233 (dk_at dksX3_here_1 6 rfl rfl)
theorem dX3_here_33 : decode cX3_here 33 = .ok (.iload_n 1, 1) := dk_27 (dk_at dksX3_here_1 9 rfl rfl)
theorem dX3_here_34 : decode cX3_here 34 = .ok (.ireturn, 1) := dk_172 (dk_at dksX3_here_1 10 rfl rfl)
abbrev cX3_tagFrom : ByteArray := prog_24_method_65_code
def yX3_tagFrom : MethodName := ⟨RX3, "tagFrom", "(II)I"⟩
def dkwX3_tagFrom_1 : List UInt8 := [29, 46, 28, 161, 0, 5, 29, 172, 132, 3, 1, 167, 255, 226, 2, 172]
abbrev dktX3_tagFrom_1 : List UInt8 := dkwX3_tagFrom_1 ++ []
def dkwX3_tagFrom_0 : List UInt8 := [27, 16, 50, 104, 62, 29, 27, 16, 50, 104, 42, 180, 0, 62, 27, 46, 96, 162, 0, 21, 42, 180, 0, 68]
abbrev dktX3_tagFrom_0 : List UInt8 := dkwX3_tagFrom_0 ++ dktX3_tagFrom_1
theorem dksX3_tagFrom_0 : cX3_tagFrom.data.toList.drop 0 = dktX3_tagFrom_0 := by decide +kernel
theorem dksX3_tagFrom_1 : cX3_tagFrom.data.toList.drop 24 = dktX3_tagFrom_1 := dk_seg dksX3_tagFrom_0 24 rfl rfl
theorem dX3_tagFrom_0 : decode cX3_tagFrom 0 = .ok (.iload_n 1, 1) := dk_27 (dk_at dksX3_tagFrom_0 0 rfl rfl)
theorem dX3_tagFrom_1 : decode cX3_tagFrom 1 = .ok (.bipush 50, 2) := dk_16 50 (dk_at dksX3_tagFrom_0 1 rfl rfl)
theorem dX3_tagFrom_3 : decode cX3_tagFrom 3 = .ok (.imul, 1) := dk_104 (dk_at dksX3_tagFrom_0 3 rfl rfl)
theorem dX3_tagFrom_4 : decode cX3_tagFrom 4 = .ok (.istore_n 3, 1) := dk_62 (dk_at dksX3_tagFrom_0 4 rfl rfl)
theorem dX3_tagFrom_5 : decode cX3_tagFrom 5 = .ok (.iload_n 3, 1) := dk_29 (dk_at dksX3_tagFrom_0 5 rfl rfl)
theorem dX3_tagFrom_6 : decode cX3_tagFrom 6 = .ok (.iload_n 1, 1) := dk_27 (dk_at dksX3_tagFrom_0 6 rfl rfl)
theorem dX3_tagFrom_7 : decode cX3_tagFrom 7 = .ok (.bipush 50, 2) := dk_16 50 (dk_at dksX3_tagFrom_0 7 rfl rfl)
theorem dX3_tagFrom_9 : decode cX3_tagFrom 9 = .ok (.imul, 1) := dk_104 (dk_at dksX3_tagFrom_0 9 rfl rfl)
theorem dX3_tagFrom_10 : decode cX3_tagFrom 10 = .ok (.aload_n 0, 1) := dk_42 (dk_at dksX3_tagFrom_0 10 rfl rfl)
theorem dX3_tagFrom_11 : decode cX3_tagFrom 11 = .ok (.getfield 62, 3) := dk_180 0 62 (dk_at dksX3_tagFrom_0 11 rfl rfl)
theorem dX3_tagFrom_14 : decode cX3_tagFrom 14 = .ok (.iload_n 1, 1) := dk_27 (dk_at dksX3_tagFrom_0 14 rfl rfl)
theorem dX3_tagFrom_15 : decode cX3_tagFrom 15 = .ok (.iaload, 1) := dk_46 (dk_at dksX3_tagFrom_0 15 rfl rfl)
theorem dX3_tagFrom_16 : decode cX3_tagFrom 16 = .ok (.iadd, 1) := dk_96 (dk_at dksX3_tagFrom_0 16 rfl rfl)
theorem dX3_tagFrom_17 : decode cX3_tagFrom 17 = .ok (.if_icmp .ge 21, 3) := dk_162 0 21 (dk_at dksX3_tagFrom_0 17 rfl rfl)
theorem dX3_tagFrom_20 : decode cX3_tagFrom 20 = .ok (.aload_n 0, 1) := dk_42 (dk_at dksX3_tagFrom_0 20 rfl rfl)
theorem dX3_tagFrom_21 : decode cX3_tagFrom 21 = .ok (.getfield 68, 3) := dk_180 0 68 (dk_at dksX3_tagFrom_0 21 rfl rfl)
theorem dX3_tagFrom_24 : decode cX3_tagFrom 24 = .ok (.iload_n 3, 1) := dk_29 (dk_at dksX3_tagFrom_1 0 rfl rfl)
theorem dX3_tagFrom_25 : decode cX3_tagFrom 25 = .ok (.iaload, 1) := dk_46 (dk_at dksX3_tagFrom_1 1 rfl rfl)
theorem dX3_tagFrom_26 : decode cX3_tagFrom 26 = .ok (.iload_n 2, 1) := dk_28 (dk_at dksX3_tagFrom_1 2 rfl rfl)
theorem dX3_tagFrom_27 : decode cX3_tagFrom 27 = .ok (.if_icmp .lt 5, 3) := dk_161 0 5 (dk_at dksX3_tagFrom_1 3 rfl rfl)
theorem dX3_tagFrom_30 : decode cX3_tagFrom 30 = .ok (.iload_n 3, 1) := dk_29 (dk_at dksX3_tagFrom_1 6 rfl rfl)
theorem dX3_tagFrom_31 : decode cX3_tagFrom 31 = .ok (.ireturn, 1) := dk_172 (dk_at dksX3_tagFrom_1 7 rfl rfl)
theorem dX3_tagFrom_32 : decode cX3_tagFrom 32 = .ok (.iinc 3 1, 3) := dk_132 3 1 (dk_at dksX3_tagFrom_1 8 rfl rfl)
theorem dX3_tagFrom_35 : decode cX3_tagFrom 35 = .ok (.goto (-30), 3) := dk_167 255 226 (dk_at dksX3_tagFrom_1 11 rfl rfl)
theorem dX3_tagFrom_38 : decode cX3_tagFrom 38 = .ok (.iconst (-1), 1) := dk_2 (dk_at dksX3_tagFrom_1 14 rfl rfl)
theorem dX3_tagFrom_39 : decode cX3_tagFrom 39 = .ok (.ireturn, 1) := dk_172 (dk_at dksX3_tagFrom_1 15 rfl rfl)
abbrev cX3_emit : ByteArray := prog_24_method_54_code
def yX3_emit : MethodName := ⟨RX3, "emit", "(I)V"⟩
def dkwX3_emit_1 : List UInt8 := [180, 0, 116, 27, 146, 85, 42, 89, 180, 0, 116, 4, 96, 181, 0, 116, 177]
abbrev dktX3_emit_1 : List UInt8 := dkwX3_emit_1 ++ []
def dkwX3_emit_0 : List UInt8 := [42, 180, 0, 116, 17, 1, 144, 160, 0, 11, 42, 7, 181, 0, 128, 167, 0, 24, 42, 180, 0, 107, 42]
abbrev dktX3_emit_0 : List UInt8 := dkwX3_emit_0 ++ dktX3_emit_1
theorem dksX3_emit_0 : cX3_emit.data.toList.drop 0 = dktX3_emit_0 := by decide +kernel
theorem dksX3_emit_1 : cX3_emit.data.toList.drop 23 = dktX3_emit_1 := dk_seg dksX3_emit_0 23 rfl rfl
theorem dX3_emit_0 : decode cX3_emit 0 = .ok (.aload_n 0, 1) := dk_42 (dk_at dksX3_emit_0 0 rfl rfl)
theorem dX3_emit_1 : decode cX3_emit 1 = .ok (.getfield 116, 3) := dk_180 0 116 (dk_at dksX3_emit_0 1 rfl rfl)
theorem dX3_emit_4 : decode cX3_emit 4 = .ok (.sipush 400, 3) := dk_17 1 144 (dk_at dksX3_emit_0 4 rfl rfl)
theorem dX3_emit_7 : decode cX3_emit 7 = .ok (.if_icmp .ne 11, 3) := dk_160 0 11 (dk_at dksX3_emit_0 7 rfl rfl)
theorem dX3_emit_10 : decode cX3_emit 10 = .ok (.aload_n 0, 1) := dk_42 (dk_at dksX3_emit_0 10 rfl rfl)
theorem dX3_emit_11 : decode cX3_emit 11 = .ok (.iconst 4, 1) := dk_7 (dk_at dksX3_emit_0 11 rfl rfl)
theorem dX3_emit_12 : decode cX3_emit 12 = .ok (.putfield 128, 3) := dk_181 0 128 (dk_at dksX3_emit_0 12 rfl rfl)
theorem dX3_emit_15 : decode cX3_emit 15 = .ok (.goto 24, 3) := dk_167 0 24 (dk_at dksX3_emit_0 15 rfl rfl)
theorem dX3_emit_18 : decode cX3_emit 18 = .ok (.aload_n 0, 1) := dk_42 (dk_at dksX3_emit_0 18 rfl rfl)
theorem dX3_emit_19 : decode cX3_emit 19 = .ok (.getfield 107, 3) := dk_180 0 107 (dk_at dksX3_emit_0 19 rfl rfl)
theorem dX3_emit_22 : decode cX3_emit 22 = .ok (.aload_n 0, 1) := dk_42 (dk_at dksX3_emit_0 22 rfl rfl)
theorem dX3_emit_23 : decode cX3_emit 23 = .ok (.getfield 116, 3) := dk_180 0 116 (dk_at dksX3_emit_1 0 rfl rfl)
theorem dX3_emit_26 : decode cX3_emit 26 = .ok (.iload_n 1, 1) := dk_27 (dk_at dksX3_emit_1 3 rfl rfl)
theorem dX3_emit_27 : decode cX3_emit 27 = .ok (.i2c, 1) := dk_146 (dk_at dksX3_emit_1 4 rfl rfl)
theorem dX3_emit_28 : decode cX3_emit 28 = .ok (.castore, 1) := dk_85 (dk_at dksX3_emit_1 5 rfl rfl)
theorem dX3_emit_29 : decode cX3_emit 29 = .ok (.aload_n 0, 1) := dk_42 (dk_at dksX3_emit_1 6 rfl rfl)
theorem dX3_emit_30 : decode cX3_emit 30 = .ok (.dup, 1) := dk_89 (dk_at dksX3_emit_1 7 rfl rfl)
theorem dX3_emit_31 : decode cX3_emit 31 = .ok (.getfield 116, 3) := dk_180 0 116 (dk_at dksX3_emit_1 8 rfl rfl)
theorem dX3_emit_34 : decode cX3_emit 34 = .ok (.iconst 1, 1) := dk_4 (dk_at dksX3_emit_1 11 rfl rfl)
theorem dX3_emit_35 : decode cX3_emit 35 = .ok (.iadd, 1) := dk_96 (dk_at dksX3_emit_1 12 rfl rfl)
theorem dX3_emit_36 : decode cX3_emit 36 = .ok (.putfield 116, 3) := dk_181 0 116 (dk_at dksX3_emit_1 13 rfl rfl)
theorem dX3_emit_39 : decode cX3_emit 39 = .ok (.return_, 1) := dk_177 (dk_at dksX3_emit_1 16 rfl rfl)
abbrev cX3_tag : ByteArray := prog_24_method_64_code
def yX3_tag : MethodName := ⟨RX3, "tag", "(I)I"⟩
def dkwX3_tag_5 : List UInt8 := [167, 0, 4, 3, 182, 1, 130, 42, 180, 0, 71, 27, 46, 172]
abbrev dktX3_tag_5 : List UInt8 := dkwX3_tag_5 ++ []
def dkwX3_tag_4 : List UInt8 := [46, 42, 180, 0, 77, 27, 46, 182, 1, 108, 42, 180, 0, 128, 154, 0, 17, 42, 28, 4, 160, 0, 7, 4]
abbrev dktX3_tag_4 : List UInt8 := dkwX3_tag_4 ++ dktX3_tag_5
def dkwX3_tag_3 : List UInt8 := [160, 0, 13, 42, 27, 42, 182, 1, 124, 182, 1, 127, 172, 28, 5, 162, 0, 40, 42, 42, 180, 0, 74, 27]
abbrev dktX3_tag_3 : List UInt8 := dkwX3_tag_3 ++ dktX3_tag_4
def dkwX3_tag_2 : List UInt8 := [181, 0, 25, 28, 5, 164, 0, 15, 28, 16, 6, 162, 0, 9, 42, 27, 182, 1, 121, 172, 28, 16, 10]
abbrev dktX3_tag_2 : List UInt8 := dkwX3_tag_2 ++ dktX3_tag_3
def dkwX3_tag_1 : List UInt8 := [42, 180, 0, 25, 17, 2, 88, 160, 0, 10, 42, 7, 181, 0, 128, 3, 172, 42, 89, 180, 0, 25, 4, 96]
abbrev dktX3_tag_1 : List UInt8 := dkwX3_tag_1 ++ dktX3_tag_2
def dkwX3_tag_0 : List UInt8 := [42, 180, 0, 80, 27, 46, 61, 28, 8, 164, 0, 15, 28, 16, 10, 162, 0, 9, 42, 27, 182, 1, 118, 172]
abbrev dktX3_tag_0 : List UInt8 := dkwX3_tag_0 ++ dktX3_tag_1
theorem dksX3_tag_0 : cX3_tag.data.toList.drop 0 = dktX3_tag_0 := by decide +kernel
theorem dksX3_tag_1 : cX3_tag.data.toList.drop 24 = dktX3_tag_1 := dk_seg dksX3_tag_0 24 rfl rfl
theorem dksX3_tag_2 : cX3_tag.data.toList.drop 48 = dktX3_tag_2 := dk_seg dksX3_tag_1 24 rfl rfl
theorem dksX3_tag_3 : cX3_tag.data.toList.drop 71 = dktX3_tag_3 := dk_seg dksX3_tag_2 23 rfl rfl
theorem dksX3_tag_4 : cX3_tag.data.toList.drop 95 = dktX3_tag_4 := dk_seg dksX3_tag_3 24 rfl rfl
theorem dksX3_tag_5 : cX3_tag.data.toList.drop 119 = dktX3_tag_5 := dk_seg dksX3_tag_4 24 rfl rfl
theorem dX3_tag_0 : decode cX3_tag 0 = .ok (.aload_n 0, 1) := dk_42 (dk_at dksX3_tag_0 0 rfl rfl)
theorem dX3_tag_1 : decode cX3_tag 1 = .ok (.getfield 80, 3) := dk_180 0 80 (dk_at dksX3_tag_0 1 rfl rfl)
theorem dX3_tag_4 : decode cX3_tag 4 = .ok (.iload_n 1, 1) := dk_27 (dk_at dksX3_tag_0 4 rfl rfl)
theorem dX3_tag_5 : decode cX3_tag 5 = .ok (.iaload, 1) := dk_46 (dk_at dksX3_tag_0 5 rfl rfl)
theorem dX3_tag_6 : decode cX3_tag 6 = .ok (.istore_n 2, 1) := dk_61 (dk_at dksX3_tag_0 6 rfl rfl)
theorem dX3_tag_7 : decode cX3_tag 7 = .ok (.iload_n 2, 1) := dk_28 (dk_at dksX3_tag_0 7 rfl rfl)
theorem dX3_tag_8 : decode cX3_tag 8 = .ok (.iconst 5, 1) := dk_8 (dk_at dksX3_tag_0 8 rfl rfl)
theorem dX3_tag_9 : decode cX3_tag 9 = .ok (.if_icmp .le 15, 3) := dk_164 0 15 (dk_at dksX3_tag_0 9 rfl rfl)
theorem dX3_tag_12 : decode cX3_tag 12 = .ok (.iload_n 2, 1) := dk_28 (dk_at dksX3_tag_0 12 rfl rfl)
theorem dX3_tag_13 : decode cX3_tag 13 = .ok (.bipush 10, 2) := dk_16 10 (dk_at dksX3_tag_0 13 rfl rfl)
theorem dX3_tag_15 : decode cX3_tag 15 = .ok (.if_icmp .ge 9, 3) := dk_162 0 9 (dk_at dksX3_tag_0 15 rfl rfl)
theorem dX3_tag_18 : decode cX3_tag 18 = .ok (.aload_n 0, 1) := dk_42 (dk_at dksX3_tag_0 18 rfl rfl)
theorem dX3_tag_19 : decode cX3_tag 19 = .ok (.iload_n 1, 1) := dk_27 (dk_at dksX3_tag_0 19 rfl rfl)
theorem dX3_tag_20 : decode cX3_tag 20 = .ok (.invokevirtual 374, 3) := dk_182 1 118 (dk_at dksX3_tag_0 20 rfl rfl)
theorem dX3_tag_23 : decode cX3_tag 23 = .ok (.ireturn, 1) := dk_172 (dk_at dksX3_tag_0 23 rfl rfl)
theorem dX3_tag_24 : decode cX3_tag 24 = .ok (.aload_n 0, 1) := dk_42 (dk_at dksX3_tag_1 0 rfl rfl)
theorem dX3_tag_25 : decode cX3_tag 25 = .ok (.getfield 25, 3) := dk_180 0 25 (dk_at dksX3_tag_1 1 rfl rfl)
theorem dX3_tag_28 : decode cX3_tag 28 = .ok (.sipush 600, 3) := dk_17 2 88 (dk_at dksX3_tag_1 4 rfl rfl)
theorem dX3_tag_31 : decode cX3_tag 31 = .ok (.if_icmp .ne 10, 3) := dk_160 0 10 (dk_at dksX3_tag_1 7 rfl rfl)
theorem dX3_tag_34 : decode cX3_tag 34 = .ok (.aload_n 0, 1) := dk_42 (dk_at dksX3_tag_1 10 rfl rfl)
theorem dX3_tag_35 : decode cX3_tag 35 = .ok (.iconst 4, 1) := dk_7 (dk_at dksX3_tag_1 11 rfl rfl)
theorem dX3_tag_36 : decode cX3_tag 36 = .ok (.putfield 128, 3) := dk_181 0 128 (dk_at dksX3_tag_1 12 rfl rfl)
theorem dX3_tag_39 : decode cX3_tag 39 = .ok (.iconst 0, 1) := dk_3 (dk_at dksX3_tag_1 15 rfl rfl)
theorem dX3_tag_40 : decode cX3_tag 40 = .ok (.ireturn, 1) := dk_172 (dk_at dksX3_tag_1 16 rfl rfl)
theorem dX3_tag_41 : decode cX3_tag 41 = .ok (.aload_n 0, 1) := dk_42 (dk_at dksX3_tag_1 17 rfl rfl)
theorem dX3_tag_42 : decode cX3_tag 42 = .ok (.dup, 1) := dk_89 (dk_at dksX3_tag_1 18 rfl rfl)
theorem dX3_tag_43 : decode cX3_tag 43 = .ok (.getfield 25, 3) := dk_180 0 25 (dk_at dksX3_tag_1 19 rfl rfl)
theorem dX3_tag_46 : decode cX3_tag 46 = .ok (.iconst 1, 1) := dk_4 (dk_at dksX3_tag_1 22 rfl rfl)
theorem dX3_tag_47 : decode cX3_tag 47 = .ok (.iadd, 1) := dk_96 (dk_at dksX3_tag_1 23 rfl rfl)
theorem dX3_tag_48 : decode cX3_tag 48 = .ok (.putfield 25, 3) := dk_181 0 25 (dk_at dksX3_tag_2 0 rfl rfl)
theorem dX3_tag_51 : decode cX3_tag 51 = .ok (.iload_n 2, 1) := dk_28 (dk_at dksX3_tag_2 3 rfl rfl)
theorem dX3_tag_52 : decode cX3_tag 52 = .ok (.iconst 2, 1) := dk_5 (dk_at dksX3_tag_2 4 rfl rfl)
theorem dX3_tag_53 : decode cX3_tag 53 = .ok (.if_icmp .le 15, 3) := dk_164 0 15 (dk_at dksX3_tag_2 5 rfl rfl)
theorem dX3_tag_56 : decode cX3_tag 56 = .ok (.iload_n 2, 1) := dk_28 (dk_at dksX3_tag_2 8 rfl rfl)
theorem dX3_tag_57 : decode cX3_tag 57 = .ok (.bipush 6, 2) := dk_16 6 (dk_at dksX3_tag_2 9 rfl rfl)
theorem dX3_tag_59 : decode cX3_tag 59 = .ok (.if_icmp .ge 9, 3) := dk_162 0 9 (dk_at dksX3_tag_2 11 rfl rfl)
theorem dX3_tag_62 : decode cX3_tag 62 = .ok (.aload_n 0, 1) := dk_42 (dk_at dksX3_tag_2 14 rfl rfl)
theorem dX3_tag_63 : decode cX3_tag 63 = .ok (.iload_n 1, 1) := dk_27 (dk_at dksX3_tag_2 15 rfl rfl)
theorem dX3_tag_64 : decode cX3_tag 64 = .ok (.invokevirtual 377, 3) := dk_182 1 121 (dk_at dksX3_tag_2 16 rfl rfl)
theorem dX3_tag_67 : decode cX3_tag 67 = .ok (.ireturn, 1) := dk_172 (dk_at dksX3_tag_2 19 rfl rfl)
theorem dX3_tag_68 : decode cX3_tag 68 = .ok (.iload_n 2, 1) := dk_28 (dk_at dksX3_tag_2 20 rfl rfl)
theorem dX3_tag_69 : decode cX3_tag 69 = .ok (.bipush 10, 2) := dk_16 10 (dk_at dksX3_tag_2 21 rfl rfl)
theorem dX3_tag_71 : decode cX3_tag 71 = .ok (.if_icmp .ne 13, 3) := dk_160 0 13 (dk_at dksX3_tag_3 0 rfl rfl)
theorem dX3_tag_74 : decode cX3_tag 74 = .ok (.aload_n 0, 1) := dk_42 (dk_at dksX3_tag_3 3 rfl rfl)
theorem dX3_tag_75 : decode cX3_tag 75 = .ok (.iload_n 1, 1) := dk_27 (dk_at dksX3_tag_3 4 rfl rfl)
theorem dX3_tag_76 : decode cX3_tag 76 = .ok (.aload_n 0, 1) := dk_42 (dk_at dksX3_tag_3 5 rfl rfl)
theorem dX3_tag_77 : decode cX3_tag 77 = .ok (.invokevirtual 380, 3) := dk_182 1 124 (dk_at dksX3_tag_3 6 rfl rfl)
theorem dX3_tag_80 : decode cX3_tag 80 = .ok (.invokevirtual 383, 3) := dk_182 1 127 (dk_at dksX3_tag_3 9 rfl rfl)
theorem dX3_tag_83 : decode cX3_tag 83 = .ok (.ireturn, 1) := dk_172 (dk_at dksX3_tag_3 12 rfl rfl)
theorem dX3_tag_84 : decode cX3_tag 84 = .ok (.iload_n 2, 1) := dk_28 (dk_at dksX3_tag_3 13 rfl rfl)
theorem dX3_tag_85 : decode cX3_tag 85 = .ok (.iconst 2, 1) := dk_5 (dk_at dksX3_tag_3 14 rfl rfl)
theorem dX3_tag_86 : decode cX3_tag 86 = .ok (.if_icmp .ge 40, 3) := dk_162 0 40 (dk_at dksX3_tag_3 15 rfl rfl)
theorem dX3_tag_89 : decode cX3_tag 89 = .ok (.aload_n 0, 1) := dk_42 (dk_at dksX3_tag_3 18 rfl rfl)
theorem dX3_tag_90 : decode cX3_tag 90 = .ok (.aload_n 0, 1) := dk_42 (dk_at dksX3_tag_3 19 rfl rfl)
theorem dX3_tag_91 : decode cX3_tag 91 = .ok (.getfield 74, 3) := dk_180 0 74 (dk_at dksX3_tag_3 20 rfl rfl)
theorem dX3_tag_94 : decode cX3_tag 94 = .ok (.iload_n 1, 1) := dk_27 (dk_at dksX3_tag_3 23 rfl rfl)
theorem dX3_tag_95 : decode cX3_tag 95 = .ok (.iaload, 1) := dk_46 (dk_at dksX3_tag_4 0 rfl rfl)
theorem dX3_tag_96 : decode cX3_tag 96 = .ok (.aload_n 0, 1) := dk_42 (dk_at dksX3_tag_4 1 rfl rfl)
theorem dX3_tag_97 : decode cX3_tag 97 = .ok (.getfield 77, 3) := dk_180 0 77 (dk_at dksX3_tag_4 2 rfl rfl)
theorem dX3_tag_100 : decode cX3_tag 100 = .ok (.iload_n 1, 1) := dk_27 (dk_at dksX3_tag_4 5 rfl rfl)
theorem dX3_tag_101 : decode cX3_tag 101 = .ok (.iaload, 1) := dk_46 (dk_at dksX3_tag_4 6 rfl rfl)
theorem dX3_tag_102 : decode cX3_tag 102 = .ok (.invokevirtual 364, 3) := dk_182 1 108 (dk_at dksX3_tag_4 7 rfl rfl)
theorem dX3_tag_105 : decode cX3_tag 105 = .ok (.aload_n 0, 1) := dk_42 (dk_at dksX3_tag_4 10 rfl rfl)
theorem dX3_tag_106 : decode cX3_tag 106 = .ok (.getfield 128, 3) := dk_180 0 128 (dk_at dksX3_tag_4 11 rfl rfl)
theorem dX3_tag_109 : decode cX3_tag 109 = .ok (.ifCond .ne 17, 3) := dk_154 0 17 (dk_at dksX3_tag_4 14 rfl rfl)
theorem dX3_tag_112 : decode cX3_tag 112 = .ok (.aload_n 0, 1) := dk_42 (dk_at dksX3_tag_4 17 rfl rfl)
theorem dX3_tag_113 : decode cX3_tag 113 = .ok (.iload_n 2, 1) := dk_28 (dk_at dksX3_tag_4 18 rfl rfl)
theorem dX3_tag_114 : decode cX3_tag 114 = .ok (.iconst 1, 1) := dk_4 (dk_at dksX3_tag_4 19 rfl rfl)
theorem dX3_tag_115 : decode cX3_tag 115 = .ok (.if_icmp .ne 7, 3) := dk_160 0 7 (dk_at dksX3_tag_4 20 rfl rfl)
theorem dX3_tag_118 : decode cX3_tag 118 = .ok (.iconst 1, 1) := dk_4 (dk_at dksX3_tag_4 23 rfl rfl)
theorem dX3_tag_119 : decode cX3_tag 119 = .ok (.goto 4, 3) := dk_167 0 4 (dk_at dksX3_tag_5 0 rfl rfl)
theorem dX3_tag_122 : decode cX3_tag 122 = .ok (.iconst 0, 1) := dk_3 (dk_at dksX3_tag_5 3 rfl rfl)
theorem dX3_tag_123 : decode cX3_tag 123 = .ok (.invokevirtual 386, 3) := dk_182 1 130 (dk_at dksX3_tag_5 4 rfl rfl)
theorem dX3_tag_126 : decode cX3_tag 126 = .ok (.aload_n 0, 1) := dk_42 (dk_at dksX3_tag_5 7 rfl rfl)
theorem dX3_tag_127 : decode cX3_tag 127 = .ok (.getfield 71, 3) := dk_180 0 71 (dk_at dksX3_tag_5 8 rfl rfl)
theorem dX3_tag_130 : decode cX3_tag 130 = .ok (.iload_n 1, 1) := dk_27 (dk_at dksX3_tag_5 11 rfl rfl)
theorem dX3_tag_131 : decode cX3_tag 131 = .ok (.iaload, 1) := dk_46 (dk_at dksX3_tag_5 12 rfl rfl)
theorem dX3_tag_132 : decode cX3_tag 132 = .ok (.ireturn, 1) := dk_172 (dk_at dksX3_tag_5 13 rfl rfl)
abbrev cX3_ends : ByteArray := prog_24_method_60_code
def yX3_ends : MethodName := ⟨RX3, "ends", "(I)I"⟩
def dkwX3_ends_4 : List UInt8 := [181, 0, 125, 42, 180, 0, 71, 42, 180, 0, 86, 29, 46, 46, 172]
abbrev dktX3_ends_4 : List UInt8 := dkwX3_ends_4 ++ []
def dkwX3_ends_3 : List UInt8 := [46, 6, 159, 0, 13, 42, 89, 180, 0, 122, 4, 100, 181, 0, 122, 42, 89, 180, 0, 125, 4, 100]
abbrev dktX3_ends_3 : List UInt8 := dkwX3_ends_3 ++ dktX3_ends_4
def dkwX3_ends_2 : List UInt8 := [28, 182, 1, 115, 153, 0, 10, 42, 180, 0, 71, 29, 46, 172, 21, 4, 154, 0, 23, 42, 180, 0, 80, 29]
abbrev dktX3_ends_2 : List UInt8 := dkwX3_ends_2 ++ dktX3_ends_3
def dkwX3_ends_1 : List UInt8 := [154, 0, 38, 42, 180, 0, 80, 29, 46, 7, 160, 0, 28, 42, 180, 0, 140, 28, 92, 46, 4, 96, 79, 42]
abbrev dktX3_ends_1 : List UInt8 := dkwX3_ends_1 ++ dktX3_ends_2
def dkwX3_ends_0 : List UInt8 := [42, 180, 0, 125, 4, 100, 61, 42, 180, 0, 137, 28, 46, 62, 42, 180, 0, 152, 28, 51, 54, 4, 21, 4]
abbrev dktX3_ends_0 : List UInt8 := dkwX3_ends_0 ++ dktX3_ends_1
theorem dksX3_ends_0 : cX3_ends.data.toList.drop 0 = dktX3_ends_0 := by decide +kernel
theorem dksX3_ends_1 : cX3_ends.data.toList.drop 24 = dktX3_ends_1 := dk_seg dksX3_ends_0 24 rfl rfl
theorem dksX3_ends_2 : cX3_ends.data.toList.drop 48 = dktX3_ends_2 := dk_seg dksX3_ends_1 24 rfl rfl
theorem dksX3_ends_3 : cX3_ends.data.toList.drop 72 = dktX3_ends_3 := dk_seg dksX3_ends_2 24 rfl rfl
theorem dksX3_ends_4 : cX3_ends.data.toList.drop 94 = dktX3_ends_4 := dk_seg dksX3_ends_3 22 rfl rfl
theorem dX3_ends_0 : decode cX3_ends 0 = .ok (.aload_n 0, 1) := dk_42 (dk_at dksX3_ends_0 0 rfl rfl)
theorem dX3_ends_1 : decode cX3_ends 1 = .ok (.getfield 125, 3) := dk_180 0 125 (dk_at dksX3_ends_0 1 rfl rfl)
theorem dX3_ends_4 : decode cX3_ends 4 = .ok (.iconst 1, 1) := dk_4 (dk_at dksX3_ends_0 4 rfl rfl)
theorem dX3_ends_5 : decode cX3_ends 5 = .ok (.isub, 1) := dk_100 (dk_at dksX3_ends_0 5 rfl rfl)
theorem dX3_ends_6 : decode cX3_ends 6 = .ok (.istore_n 2, 1) := dk_61 (dk_at dksX3_ends_0 6 rfl rfl)
theorem dX3_ends_7 : decode cX3_ends 7 = .ok (.aload_n 0, 1) := dk_42 (dk_at dksX3_ends_0 7 rfl rfl)
theorem dX3_ends_8 : decode cX3_ends 8 = .ok (.getfield 137, 3) := dk_180 0 137 (dk_at dksX3_ends_0 8 rfl rfl)
theorem dX3_ends_11 : decode cX3_ends 11 = .ok (.iload_n 2, 1) := dk_28 (dk_at dksX3_ends_0 11 rfl rfl)
theorem dX3_ends_12 : decode cX3_ends 12 = .ok (.iaload, 1) := dk_46 (dk_at dksX3_ends_0 12 rfl rfl)
theorem dX3_ends_13 : decode cX3_ends 13 = .ok (.istore_n 3, 1) := dk_62 (dk_at dksX3_ends_0 13 rfl rfl)
theorem dX3_ends_14 : decode cX3_ends 14 = .ok (.aload_n 0, 1) := dk_42 (dk_at dksX3_ends_0 14 rfl rfl)
theorem dX3_ends_15 : decode cX3_ends 15 = .ok (.getfield 152, 3) := dk_180 0 152 (dk_at dksX3_ends_0 15 rfl rfl)
theorem dX3_ends_18 : decode cX3_ends 18 = .ok (.iload_n 2, 1) := dk_28 (dk_at dksX3_ends_0 18 rfl rfl)
theorem dX3_ends_19 : decode cX3_ends 19 = .ok (.baload, 1) := dk_51 (dk_at dksX3_ends_0 19 rfl rfl)
theorem dX3_ends_20 : decode cX3_ends 20 = .ok (.istore 4, 2) := dk_54 4 (dk_at dksX3_ends_0 20 rfl rfl)
theorem dX3_ends_22 : decode cX3_ends 22 = .ok (.iload 4, 2) := dk_21 4 (dk_at dksX3_ends_0 22 rfl rfl)
theorem dX3_ends_24 : decode cX3_ends 24 = .ok (.ifCond .ne 38, 3) := dk_154 0 38 (dk_at dksX3_ends_1 0 rfl rfl)
theorem dX3_ends_27 : decode cX3_ends 27 = .ok (.aload_n 0, 1) := dk_42 (dk_at dksX3_ends_1 3 rfl rfl)
theorem dX3_ends_28 : decode cX3_ends 28 = .ok (.getfield 80, 3) := dk_180 0 80 (dk_at dksX3_ends_1 4 rfl rfl)
theorem dX3_ends_31 : decode cX3_ends 31 = .ok (.iload_n 3, 1) := dk_29 (dk_at dksX3_ends_1 7 rfl rfl)
theorem dX3_ends_32 : decode cX3_ends 32 = .ok (.iaload, 1) := dk_46 (dk_at dksX3_ends_1 8 rfl rfl)
theorem dX3_ends_33 : decode cX3_ends 33 = .ok (.iconst 4, 1) := dk_7 (dk_at dksX3_ends_1 9 rfl rfl)
theorem dX3_ends_34 : decode cX3_ends 34 = .ok (.if_icmp .ne 28, 3) := dk_160 0 28 (dk_at dksX3_ends_1 10 rfl rfl)
theorem dX3_ends_37 : decode cX3_ends 37 = .ok (.aload_n 0, 1) := dk_42 (dk_at dksX3_ends_1 13 rfl rfl)
theorem dX3_ends_38 : decode cX3_ends 38 = .ok (.getfield 140, 3) := dk_180 0 140 (dk_at dksX3_ends_1 14 rfl rfl)
theorem dX3_ends_41 : decode cX3_ends 41 = .ok (.iload_n 2, 1) := dk_28 (dk_at dksX3_ends_1 17 rfl rfl)
theorem dX3_ends_42 : decode cX3_ends 42 = .ok (.dup2, 1) := dk_92 (dk_at dksX3_ends_1 18 rfl rfl)
theorem dX3_ends_43 : decode cX3_ends 43 = .ok (.iaload, 1) := dk_46 (dk_at dksX3_ends_1 19 rfl rfl)
theorem dX3_ends_44 : decode cX3_ends 44 = .ok (.iconst 1, 1) := dk_4 (dk_at dksX3_ends_1 20 rfl rfl)
theorem dX3_ends_45 : decode cX3_ends 45 = .ok (.iadd, 1) := dk_96 (dk_at dksX3_ends_1 21 rfl rfl)
theorem dX3_ends_46 : decode cX3_ends 46 = .ok (.iastore, 1) := dk_79 (dk_at dksX3_ends_1 22 rfl rfl)
theorem dX3_ends_47 : decode cX3_ends 47 = .ok (.aload_n 0, 1) := dk_42 (dk_at dksX3_ends_1 23 rfl rfl)
theorem dX3_ends_48 : decode cX3_ends 48 = .ok (.iload_n 2, 1) := dk_28 (dk_at dksX3_ends_2 0 rfl rfl)
theorem dX3_ends_49 : decode cX3_ends 49 = .ok (.invokevirtual 371, 3) := dk_182 1 115 (dk_at dksX3_ends_2 1 rfl rfl)
theorem dX3_ends_52 : decode cX3_ends 52 = .ok (.ifCond .eq 10, 3) := dk_153 0 10 (dk_at dksX3_ends_2 4 rfl rfl)
theorem dX3_ends_55 : decode cX3_ends 55 = .ok (.aload_n 0, 1) := dk_42 (dk_at dksX3_ends_2 7 rfl rfl)
theorem dX3_ends_56 : decode cX3_ends 56 = .ok (.getfield 71, 3) := dk_180 0 71 (dk_at dksX3_ends_2 8 rfl rfl)
theorem dX3_ends_59 : decode cX3_ends 59 = .ok (.iload_n 3, 1) := dk_29 (dk_at dksX3_ends_2 11 rfl rfl)
theorem dX3_ends_60 : decode cX3_ends 60 = .ok (.iaload, 1) := dk_46 (dk_at dksX3_ends_2 12 rfl rfl)
theorem dX3_ends_61 : decode cX3_ends 61 = .ok (.ireturn, 1) := dk_172 (dk_at dksX3_ends_2 13 rfl rfl)
theorem dX3_ends_62 : decode cX3_ends 62 = .ok (.iload 4, 2) := dk_21 4 (dk_at dksX3_ends_2 14 rfl rfl)
theorem dX3_ends_64 : decode cX3_ends 64 = .ok (.ifCond .ne 23, 3) := dk_154 0 23 (dk_at dksX3_ends_2 16 rfl rfl)
theorem dX3_ends_67 : decode cX3_ends 67 = .ok (.aload_n 0, 1) := dk_42 (dk_at dksX3_ends_2 19 rfl rfl)
theorem dX3_ends_68 : decode cX3_ends 68 = .ok (.getfield 80, 3) := dk_180 0 80 (dk_at dksX3_ends_2 20 rfl rfl)
theorem dX3_ends_71 : decode cX3_ends 71 = .ok (.iload_n 3, 1) := dk_29 (dk_at dksX3_ends_2 23 rfl rfl)
theorem dX3_ends_72 : decode cX3_ends 72 = .ok (.iaload, 1) := dk_46 (dk_at dksX3_ends_3 0 rfl rfl)
theorem dX3_ends_73 : decode cX3_ends 73 = .ok (.iconst 3, 1) := dk_6 (dk_at dksX3_ends_3 1 rfl rfl)
theorem dX3_ends_74 : decode cX3_ends 74 = .ok (.if_icmp .eq 13, 3) := dk_159 0 13 (dk_at dksX3_ends_3 2 rfl rfl)
theorem dX3_ends_77 : decode cX3_ends 77 = .ok (.aload_n 0, 1) := dk_42 (dk_at dksX3_ends_3 5 rfl rfl)
theorem dX3_ends_78 : decode cX3_ends 78 = .ok (.dup, 1) := dk_89 (dk_at dksX3_ends_3 6 rfl rfl)
theorem dX3_ends_79 : decode cX3_ends 79 = .ok (.getfield 122, 3) := dk_180 0 122 (dk_at dksX3_ends_3 7 rfl rfl)
theorem dX3_ends_82 : decode cX3_ends 82 = .ok (.iconst 1, 1) := dk_4 (dk_at dksX3_ends_3 10 rfl rfl)
theorem dX3_ends_83 : decode cX3_ends 83 = .ok (.isub, 1) := dk_100 (dk_at dksX3_ends_3 11 rfl rfl)
theorem dX3_ends_84 : decode cX3_ends 84 = .ok (.putfield 122, 3) := dk_181 0 122 (dk_at dksX3_ends_3 12 rfl rfl)
theorem dX3_ends_87 : decode cX3_ends 87 = .ok (.aload_n 0, 1) := dk_42 (dk_at dksX3_ends_3 15 rfl rfl)
theorem dX3_ends_88 : decode cX3_ends 88 = .ok (.dup, 1) := dk_89 (dk_at dksX3_ends_3 16 rfl rfl)
theorem dX3_ends_89 : decode cX3_ends 89 = .ok (.getfield 125, 3) := dk_180 0 125 (dk_at dksX3_ends_3 17 rfl rfl)
theorem dX3_ends_92 : decode cX3_ends 92 = .ok (.iconst 1, 1) := dk_4 (dk_at dksX3_ends_3 20 rfl rfl)
theorem dX3_ends_93 : decode cX3_ends 93 = .ok (.isub, 1) := dk_100 (dk_at dksX3_ends_3 21 rfl rfl)
theorem dX3_ends_94 : decode cX3_ends 94 = .ok (.putfield 125, 3) := dk_181 0 125 (dk_at dksX3_ends_4 0 rfl rfl)
theorem dX3_ends_97 : decode cX3_ends 97 = .ok (.aload_n 0, 1) := dk_42 (dk_at dksX3_ends_4 3 rfl rfl)
theorem dX3_ends_98 : decode cX3_ends 98 = .ok (.getfield 71, 3) := dk_180 0 71 (dk_at dksX3_ends_4 4 rfl rfl)
theorem dX3_ends_101 : decode cX3_ends 101 = .ok (.aload_n 0, 1) := dk_42 (dk_at dksX3_ends_4 7 rfl rfl)
theorem dX3_ends_102 : decode cX3_ends 102 = .ok (.getfield 86, 3) := dk_180 0 86 (dk_at dksX3_ends_4 8 rfl rfl)
theorem dX3_ends_105 : decode cX3_ends 105 = .ok (.iload_n 3, 1) := dk_29 (dk_at dksX3_ends_4 11 rfl rfl)
theorem dX3_ends_106 : decode cX3_ends 106 = .ok (.iaload, 1) := dk_46 (dk_at dksX3_ends_4 12 rfl rfl)
theorem dX3_ends_107 : decode cX3_ends 107 = .ok (.iaload, 1) := dk_46 (dk_at dksX3_ends_4 13 rfl rfl)
theorem dX3_ends_108 : decode cX3_ends 108 = .ok (.ireturn, 1) := dk_172 (dk_at dksX3_ends_4 14 rfl rfl)
abbrev cX3_nextTurn : ByteArray := prog_24_method_58_code
def yX3_nextTurn : MethodName := ⟨RX3, "nextTurn", "(I)Z"⟩
def dkwX3_nextTurn_2 : List UInt8 := [182, 1, 57, 4, 172]
abbrev dktX3_nextTurn_2 : List UInt8 := dkwX3_nextTurn_2 ++ []
def dkwX3_nextTurn_1 : List UInt8 := [42, 5, 42, 180, 0, 122, 96, 42, 180, 0, 45, 28, 16, 10, 104, 42, 180, 0, 140, 27, 46, 96, 46]
abbrev dktX3_nextTurn_1 : List UInt8 := dkwX3_nextTurn_1 ++ dktX3_nextTurn_2
def dkwX3_nextTurn_0 : List UInt8 := [42, 180, 0, 143, 27, 46, 61, 42, 180, 0, 140, 27, 46, 42, 180, 0, 39, 28, 46, 161, 0, 5, 3, 172]
abbrev dktX3_nextTurn_0 : List UInt8 := dkwX3_nextTurn_0 ++ dktX3_nextTurn_1
theorem dksX3_nextTurn_0 : cX3_nextTurn.data.toList.drop 0 = dktX3_nextTurn_0 := by decide +kernel
theorem dksX3_nextTurn_1 : cX3_nextTurn.data.toList.drop 24 = dktX3_nextTurn_1 := dk_seg dksX3_nextTurn_0 24 rfl rfl
theorem dksX3_nextTurn_2 : cX3_nextTurn.data.toList.drop 47 = dktX3_nextTurn_2 := dk_seg dksX3_nextTurn_1 23 rfl rfl
theorem dX3_nextTurn_0 : decode cX3_nextTurn 0 = .ok (.aload_n 0, 1) := dk_42 (dk_at dksX3_nextTurn_0 0 rfl rfl)
theorem dX3_nextTurn_1 : decode cX3_nextTurn 1 = .ok (.getfield 143, 3) := dk_180 0 143 (dk_at dksX3_nextTurn_0 1 rfl rfl)
theorem dX3_nextTurn_4 : decode cX3_nextTurn 4 = .ok (.iload_n 1, 1) := dk_27 (dk_at dksX3_nextTurn_0 4 rfl rfl)
theorem dX3_nextTurn_5 : decode cX3_nextTurn 5 = .ok (.iaload, 1) := dk_46 (dk_at dksX3_nextTurn_0 5 rfl rfl)
theorem dX3_nextTurn_6 : decode cX3_nextTurn 6 = .ok (.istore_n 2, 1) := dk_61 (dk_at dksX3_nextTurn_0 6 rfl rfl)
theorem dX3_nextTurn_7 : decode cX3_nextTurn 7 = .ok (.aload_n 0, 1) := dk_42 (dk_at dksX3_nextTurn_0 7 rfl rfl)
theorem dX3_nextTurn_8 : decode cX3_nextTurn 8 = .ok (.getfield 140, 3) := dk_180 0 140 (dk_at dksX3_nextTurn_0 8 rfl rfl)
theorem dX3_nextTurn_11 : decode cX3_nextTurn 11 = .ok (.iload_n 1, 1) := dk_27 (dk_at dksX3_nextTurn_0 11 rfl rfl)
theorem dX3_nextTurn_12 : decode cX3_nextTurn 12 = .ok (.iaload, 1) := dk_46 (dk_at dksX3_nextTurn_0 12 rfl rfl)
theorem dX3_nextTurn_13 : decode cX3_nextTurn 13 = .ok (.aload_n 0, 1) := dk_42 (dk_at dksX3_nextTurn_0 13 rfl rfl)
theorem dX3_nextTurn_14 : decode cX3_nextTurn 14 = .ok (.getfield 39, 3) := dk_180 0 39 (dk_at dksX3_nextTurn_0 14 rfl rfl)
theorem dX3_nextTurn_17 : decode cX3_nextTurn 17 = .ok (.iload_n 2, 1) := dk_28 (dk_at dksX3_nextTurn_0 17 rfl rfl)
theorem dX3_nextTurn_18 : decode cX3_nextTurn 18 = .ok (.iaload, 1) := dk_46 (dk_at dksX3_nextTurn_0 18 rfl rfl)
theorem dX3_nextTurn_19 : decode cX3_nextTurn 19 = .ok (.if_icmp .lt 5, 3) := dk_161 0 5 (dk_at dksX3_nextTurn_0 19 rfl rfl)
theorem dX3_nextTurn_22 : decode cX3_nextTurn 22 = .ok (.iconst 0, 1) := dk_3 (dk_at dksX3_nextTurn_0 22 rfl rfl)
theorem dX3_nextTurn_23 : decode cX3_nextTurn 23 = .ok (.ireturn, 1) := dk_172 (dk_at dksX3_nextTurn_0 23 rfl rfl)
theorem dX3_nextTurn_24 : decode cX3_nextTurn 24 = .ok (.aload_n 0, 1) := dk_42 (dk_at dksX3_nextTurn_1 0 rfl rfl)
theorem dX3_nextTurn_25 : decode cX3_nextTurn 25 = .ok (.iconst 2, 1) := dk_5 (dk_at dksX3_nextTurn_1 1 rfl rfl)
theorem dX3_nextTurn_26 : decode cX3_nextTurn 26 = .ok (.aload_n 0, 1) := dk_42 (dk_at dksX3_nextTurn_1 2 rfl rfl)
theorem dX3_nextTurn_27 : decode cX3_nextTurn 27 = .ok (.getfield 122, 3) := dk_180 0 122 (dk_at dksX3_nextTurn_1 3 rfl rfl)
theorem dX3_nextTurn_30 : decode cX3_nextTurn 30 = .ok (.iadd, 1) := dk_96 (dk_at dksX3_nextTurn_1 6 rfl rfl)
theorem dX3_nextTurn_31 : decode cX3_nextTurn 31 = .ok (.aload_n 0, 1) := dk_42 (dk_at dksX3_nextTurn_1 7 rfl rfl)
theorem dX3_nextTurn_32 : decode cX3_nextTurn 32 = .ok (.getfield 45, 3) := dk_180 0 45 (dk_at dksX3_nextTurn_1 8 rfl rfl)
theorem dX3_nextTurn_35 : decode cX3_nextTurn 35 = .ok (.iload_n 2, 1) := dk_28 (dk_at dksX3_nextTurn_1 11 rfl rfl)
theorem dX3_nextTurn_36 : decode cX3_nextTurn 36 = .ok (.bipush 10, 2) := dk_16 10 (dk_at dksX3_nextTurn_1 12 rfl rfl)
theorem dX3_nextTurn_38 : decode cX3_nextTurn 38 = .ok (.imul, 1) := dk_104 (dk_at dksX3_nextTurn_1 14 rfl rfl)
theorem dX3_nextTurn_39 : decode cX3_nextTurn 39 = .ok (.aload_n 0, 1) := dk_42 (dk_at dksX3_nextTurn_1 15 rfl rfl)
theorem dX3_nextTurn_40 : decode cX3_nextTurn 40 = .ok (.getfield 140, 3) := dk_180 0 140 (dk_at dksX3_nextTurn_1 16 rfl rfl)
theorem dX3_nextTurn_43 : decode cX3_nextTurn 43 = .ok (.iload_n 1, 1) := dk_27 (dk_at dksX3_nextTurn_1 19 rfl rfl)
theorem dX3_nextTurn_44 : decode cX3_nextTurn 44 = .ok (.iaload, 1) := dk_46 (dk_at dksX3_nextTurn_1 20 rfl rfl)
theorem dX3_nextTurn_45 : decode cX3_nextTurn 45 = .ok (.iadd, 1) := dk_96 (dk_at dksX3_nextTurn_1 21 rfl rfl)
theorem dX3_nextTurn_46 : decode cX3_nextTurn 46 = .ok (.iaload, 1) := dk_46 (dk_at dksX3_nextTurn_1 22 rfl rfl)
theorem dX3_nextTurn_47 : decode cX3_nextTurn 47 = .ok (.invokevirtual 313, 3) := dk_182 1 57 (dk_at dksX3_nextTurn_2 0 rfl rfl)
theorem dX3_nextTurn_50 : decode cX3_nextTurn 50 = .ok (.iconst 1, 1) := dk_4 (dk_at dksX3_nextTurn_2 3 rfl rfl)
theorem dX3_nextTurn_51 : decode cX3_nextTurn 51 = .ok (.ireturn, 1) := dk_172 (dk_at dksX3_nextTurn_2 4 rfl rfl)
abbrev cX3_block : ByteArray := prog_24_method_59_code
def yX3_block : MethodName := ⟨RX3, "block", "(I)I"⟩
def dkwX3_block_10 : List UInt8 := [42, 180, 0, 125, 4, 100, 182, 1, 115, 87, 42, 180, 0, 71, 27, 46, 172]
abbrev dktX3_block_10 : List UInt8 := dkwX3_block_10 ++ []
def dkwX3_block_9 : List UInt8 := [182, 1, 67, 167, 0, 31, 42, 180, 0, 143, 42, 180, 0, 125, 4, 100, 42, 180, 0, 95, 5, 46, 79, 42]
abbrev dktX3_block_9 : List UInt8 := dkwX3_block_9 ++ dktX3_block_10
def dkwX3_block_8 : List UInt8 := [89, 180, 0, 122, 4, 96, 181, 0, 122, 28, 8, 160, 0, 17, 42, 5, 42, 180, 0, 122, 96, 5]
abbrev dktX3_block_8 : List UInt8 := dkwX3_block_8 ++ dktX3_block_9
def dkwX3_block_7 : List UInt8 := [180, 0, 71, 42, 180, 0, 83, 27, 46, 46, 172, 28, 6, 160, 0, 10, 42, 180, 0, 71, 27, 46, 172, 42]
abbrev dktX3_block_7 : List UInt8 := dkwX3_block_7 ++ dktX3_block_8
def dkwX3_block_6 : List UInt8 := [42, 27, 16, 50, 108, 27, 3, 29, 154, 0, 7, 4, 167, 0, 4, 3, 182, 1, 111, 29, 154, 0, 15, 42]
abbrev dktX3_block_6 : List UInt8 := dkwX3_block_6 ++ dktX3_block_7
def dkwX3_block_5 : List UInt8 := [154, 0, 24, 42, 180, 0, 83, 27, 46, 156, 0, 15, 42, 180, 0, 71, 42, 180, 0, 86, 27, 46, 46, 172]
abbrev dktX3_block_5 : List UInt8 := dkwX3_block_5 ++ dktX3_block_6
def dkwX3_block_4 : List UInt8 := [164, 0, 21, 42, 180, 0, 39, 42, 180, 0, 95, 5, 46, 46, 158, 0, 7, 4, 167, 0, 4, 3, 62, 29]
abbrev dktX3_block_4 : List UInt8 := dkwX3_block_4 ++ dktX3_block_5
def dkwX3_block_3 : List UInt8 := [42, 180, 0, 92, 5, 46, 155, 0, 7, 4, 167, 0, 36, 3, 167, 0, 32, 42, 180, 0, 92, 5, 46, 4]
abbrev dktX3_block_3 : List UInt8 := dkwX3_block_3 ++ dktX3_block_4
def dkwX3_block_2 : List UInt8 := [160, 0, 19, 42, 5, 182, 1, 86, 154, 0, 7, 4, 167, 0, 58, 3, 167, 0, 54, 28, 8, 160, 0, 20]
abbrev dktX3_block_2 : List UInt8 := dkwX3_block_2 ++ dktX3_block_3
def dkwX3_block_1 : List UInt8 := [16, 6, 96, 42, 180, 0, 77, 27, 46, 182, 1, 108, 42, 180, 0, 128, 153, 0, 5, 3, 172, 28, 6]
abbrev dktX3_block_1 : List UInt8 := dkwX3_block_1 ++ dktX3_block_2
def dkwX3_block_0 : List UInt8 := [42, 180, 0, 80, 27, 46, 61, 42, 42, 180, 0, 74, 27, 46, 28, 6, 160, 0, 7, 7, 167, 0, 5]
abbrev dktX3_block_0 : List UInt8 := dkwX3_block_0 ++ dktX3_block_1
theorem dksX3_block_0 : cX3_block.data.toList.drop 0 = dktX3_block_0 := by decide +kernel
theorem dksX3_block_1 : cX3_block.data.toList.drop 23 = dktX3_block_1 := dk_seg dksX3_block_0 23 rfl rfl
theorem dksX3_block_2 : cX3_block.data.toList.drop 46 = dktX3_block_2 := dk_seg dksX3_block_1 23 rfl rfl
theorem dksX3_block_3 : cX3_block.data.toList.drop 70 = dktX3_block_3 := dk_seg dksX3_block_2 24 rfl rfl
theorem dksX3_block_4 : cX3_block.data.toList.drop 94 = dktX3_block_4 := dk_seg dksX3_block_3 24 rfl rfl
theorem dksX3_block_5 : cX3_block.data.toList.drop 118 = dktX3_block_5 := dk_seg dksX3_block_4 24 rfl rfl
theorem dksX3_block_6 : cX3_block.data.toList.drop 142 = dktX3_block_6 := dk_seg dksX3_block_5 24 rfl rfl
theorem dksX3_block_7 : cX3_block.data.toList.drop 166 = dktX3_block_7 := dk_seg dksX3_block_6 24 rfl rfl
theorem dksX3_block_8 : cX3_block.data.toList.drop 190 = dktX3_block_8 := dk_seg dksX3_block_7 24 rfl rfl
theorem dksX3_block_9 : cX3_block.data.toList.drop 212 = dktX3_block_9 := dk_seg dksX3_block_8 22 rfl rfl
theorem dksX3_block_10 : cX3_block.data.toList.drop 236 = dktX3_block_10 := dk_seg dksX3_block_9 24 rfl rfl
theorem dX3_block_0 : decode cX3_block 0 = .ok (.aload_n 0, 1) := dk_42 (dk_at dksX3_block_0 0 rfl rfl)
theorem dX3_block_1 : decode cX3_block 1 = .ok (.getfield 80, 3) := dk_180 0 80 (dk_at dksX3_block_0 1 rfl rfl)
theorem dX3_block_4 : decode cX3_block 4 = .ok (.iload_n 1, 1) := dk_27 (dk_at dksX3_block_0 4 rfl rfl)
theorem dX3_block_5 : decode cX3_block 5 = .ok (.iaload, 1) := dk_46 (dk_at dksX3_block_0 5 rfl rfl)
theorem dX3_block_6 : decode cX3_block 6 = .ok (.istore_n 2, 1) := dk_61 (dk_at dksX3_block_0 6 rfl rfl)
theorem dX3_block_7 : decode cX3_block 7 = .ok (.aload_n 0, 1) := dk_42 (dk_at dksX3_block_0 7 rfl rfl)
theorem dX3_block_8 : decode cX3_block 8 = .ok (.aload_n 0, 1) := dk_42 (dk_at dksX3_block_0 8 rfl rfl)
theorem dX3_block_9 : decode cX3_block 9 = .ok (.getfield 74, 3) := dk_180 0 74 (dk_at dksX3_block_0 9 rfl rfl)
theorem dX3_block_12 : decode cX3_block 12 = .ok (.iload_n 1, 1) := dk_27 (dk_at dksX3_block_0 12 rfl rfl)
theorem dX3_block_13 : decode cX3_block 13 = .ok (.iaload, 1) := dk_46 (dk_at dksX3_block_0 13 rfl rfl)
theorem dX3_block_14 : decode cX3_block 14 = .ok (.iload_n 2, 1) := dk_28 (dk_at dksX3_block_0 14 rfl rfl)
theorem dX3_block_15 : decode cX3_block 15 = .ok (.iconst 3, 1) := dk_6 (dk_at dksX3_block_0 15 rfl rfl)
theorem dX3_block_16 : decode cX3_block 16 = .ok (.if_icmp .ne 7, 3) := dk_160 0 7 (dk_at dksX3_block_0 16 rfl rfl)
theorem dX3_block_19 : decode cX3_block 19 = .ok (.iconst 4, 1) := dk_7 (dk_at dksX3_block_0 19 rfl rfl)
theorem dX3_block_20 : decode cX3_block 20 = .ok (.goto 5, 3) := dk_167 0 5 (dk_at dksX3_block_0 20 rfl rfl)
theorem dX3_block_23 : decode cX3_block 23 = .ok (.bipush 6, 2) := dk_16 6 (dk_at dksX3_block_1 0 rfl rfl)
theorem dX3_block_25 : decode cX3_block 25 = .ok (.iadd, 1) := dk_96 (dk_at dksX3_block_1 2 rfl rfl)
theorem dX3_block_26 : decode cX3_block 26 = .ok (.aload_n 0, 1) := dk_42 (dk_at dksX3_block_1 3 rfl rfl)
theorem dX3_block_27 : decode cX3_block 27 = .ok (.getfield 77, 3) := dk_180 0 77 (dk_at dksX3_block_1 4 rfl rfl)
theorem dX3_block_30 : decode cX3_block 30 = .ok (.iload_n 1, 1) := dk_27 (dk_at dksX3_block_1 7 rfl rfl)
theorem dX3_block_31 : decode cX3_block 31 = .ok (.iaload, 1) := dk_46 (dk_at dksX3_block_1 8 rfl rfl)
theorem dX3_block_32 : decode cX3_block 32 = .ok (.invokevirtual 364, 3) := dk_182 1 108 (dk_at dksX3_block_1 9 rfl rfl)
theorem dX3_block_35 : decode cX3_block 35 = .ok (.aload_n 0, 1) := dk_42 (dk_at dksX3_block_1 12 rfl rfl)
theorem dX3_block_36 : decode cX3_block 36 = .ok (.getfield 128, 3) := dk_180 0 128 (dk_at dksX3_block_1 13 rfl rfl)
theorem dX3_block_39 : decode cX3_block 39 = .ok (.ifCond .eq 5, 3) := dk_153 0 5 (dk_at dksX3_block_1 16 rfl rfl)
theorem dX3_block_42 : decode cX3_block 42 = .ok (.iconst 0, 1) := dk_3 (dk_at dksX3_block_1 19 rfl rfl)
theorem dX3_block_43 : decode cX3_block 43 = .ok (.ireturn, 1) := dk_172 (dk_at dksX3_block_1 20 rfl rfl)
theorem dX3_block_44 : decode cX3_block 44 = .ok (.iload_n 2, 1) := dk_28 (dk_at dksX3_block_1 21 rfl rfl)
theorem dX3_block_45 : decode cX3_block 45 = .ok (.iconst 3, 1) := dk_6 (dk_at dksX3_block_1 22 rfl rfl)
theorem dX3_block_46 : decode cX3_block 46 = .ok (.if_icmp .ne 19, 3) := dk_160 0 19 (dk_at dksX3_block_2 0 rfl rfl)
theorem dX3_block_49 : decode cX3_block 49 = .ok (.aload_n 0, 1) := dk_42 (dk_at dksX3_block_2 3 rfl rfl)
theorem dX3_block_50 : decode cX3_block 50 = .ok (.iconst 2, 1) := dk_5 (dk_at dksX3_block_2 4 rfl rfl)
theorem dX3_block_51 : decode cX3_block 51 = .ok (.invokevirtual 342, 3) := dk_182 1 86 (dk_at dksX3_block_2 5 rfl rfl)
theorem dX3_block_54 : decode cX3_block 54 = .ok (.ifCond .ne 7, 3) := dk_154 0 7 (dk_at dksX3_block_2 8 rfl rfl)
theorem dX3_block_57 : decode cX3_block 57 = .ok (.iconst 1, 1) := dk_4 (dk_at dksX3_block_2 11 rfl rfl)
theorem dX3_block_58 : decode cX3_block 58 = .ok (.goto 58, 3) := dk_167 0 58 (dk_at dksX3_block_2 12 rfl rfl)
theorem dX3_block_61 : decode cX3_block 61 = .ok (.iconst 0, 1) := dk_3 (dk_at dksX3_block_2 15 rfl rfl)
theorem dX3_block_62 : decode cX3_block 62 = .ok (.goto 54, 3) := dk_167 0 54 (dk_at dksX3_block_2 16 rfl rfl)
theorem dX3_block_65 : decode cX3_block 65 = .ok (.iload_n 2, 1) := dk_28 (dk_at dksX3_block_2 19 rfl rfl)
theorem dX3_block_66 : decode cX3_block 66 = .ok (.iconst 5, 1) := dk_8 (dk_at dksX3_block_2 20 rfl rfl)
theorem dX3_block_67 : decode cX3_block 67 = .ok (.if_icmp .ne 20, 3) := dk_160 0 20 (dk_at dksX3_block_2 21 rfl rfl)
theorem dX3_block_70 : decode cX3_block 70 = .ok (.aload_n 0, 1) := dk_42 (dk_at dksX3_block_3 0 rfl rfl)
theorem dX3_block_71 : decode cX3_block 71 = .ok (.getfield 92, 3) := dk_180 0 92 (dk_at dksX3_block_3 1 rfl rfl)
theorem dX3_block_74 : decode cX3_block 74 = .ok (.iconst 2, 1) := dk_5 (dk_at dksX3_block_3 4 rfl rfl)
theorem dX3_block_75 : decode cX3_block 75 = .ok (.iaload, 1) := dk_46 (dk_at dksX3_block_3 5 rfl rfl)
theorem dX3_block_76 : decode cX3_block 76 = .ok (.ifCond .lt 7, 3) := dk_155 0 7 (dk_at dksX3_block_3 6 rfl rfl)
theorem dX3_block_79 : decode cX3_block 79 = .ok (.iconst 1, 1) := dk_4 (dk_at dksX3_block_3 9 rfl rfl)
theorem dX3_block_80 : decode cX3_block 80 = .ok (.goto 36, 3) := dk_167 0 36 (dk_at dksX3_block_3 10 rfl rfl)
theorem dX3_block_83 : decode cX3_block 83 = .ok (.iconst 0, 1) := dk_3 (dk_at dksX3_block_3 13 rfl rfl)
theorem dX3_block_84 : decode cX3_block 84 = .ok (.goto 32, 3) := dk_167 0 32 (dk_at dksX3_block_3 14 rfl rfl)
theorem dX3_block_87 : decode cX3_block 87 = .ok (.aload_n 0, 1) := dk_42 (dk_at dksX3_block_3 17 rfl rfl)
theorem dX3_block_88 : decode cX3_block 88 = .ok (.getfield 92, 3) := dk_180 0 92 (dk_at dksX3_block_3 18 rfl rfl)
theorem dX3_block_91 : decode cX3_block 91 = .ok (.iconst 2, 1) := dk_5 (dk_at dksX3_block_3 21 rfl rfl)
theorem dX3_block_92 : decode cX3_block 92 = .ok (.iaload, 1) := dk_46 (dk_at dksX3_block_3 22 rfl rfl)
theorem dX3_block_93 : decode cX3_block 93 = .ok (.iconst 1, 1) := dk_4 (dk_at dksX3_block_3 23 rfl rfl)
theorem dX3_block_94 : decode cX3_block 94 = .ok (.if_icmp .le 21, 3) := dk_164 0 21 (dk_at dksX3_block_4 0 rfl rfl)
theorem dX3_block_97 : decode cX3_block 97 = .ok (.aload_n 0, 1) := dk_42 (dk_at dksX3_block_4 3 rfl rfl)
theorem dX3_block_98 : decode cX3_block 98 = .ok (.getfield 39, 3) := dk_180 0 39 (dk_at dksX3_block_4 4 rfl rfl)
theorem dX3_block_101 : decode cX3_block 101 = .ok (.aload_n 0, 1) := dk_42 (dk_at dksX3_block_4 7 rfl rfl)
theorem dX3_block_102 : decode cX3_block 102 = .ok (.getfield 95, 3) := dk_180 0 95 (dk_at dksX3_block_4 8 rfl rfl)
theorem dX3_block_105 : decode cX3_block 105 = .ok (.iconst 2, 1) := dk_5 (dk_at dksX3_block_4 11 rfl rfl)
theorem dX3_block_106 : decode cX3_block 106 = .ok (.iaload, 1) := dk_46 (dk_at dksX3_block_4 12 rfl rfl)
theorem dX3_block_107 : decode cX3_block 107 = .ok (.iaload, 1) := dk_46 (dk_at dksX3_block_4 13 rfl rfl)
theorem dX3_block_108 : decode cX3_block 108 = .ok (.ifCond .le 7, 3) := dk_158 0 7 (dk_at dksX3_block_4 14 rfl rfl)
theorem dX3_block_111 : decode cX3_block 111 = .ok (.iconst 1, 1) := dk_4 (dk_at dksX3_block_4 17 rfl rfl)
theorem dX3_block_112 : decode cX3_block 112 = .ok (.goto 4, 3) := dk_167 0 4 (dk_at dksX3_block_4 18 rfl rfl)
theorem dX3_block_115 : decode cX3_block 115 = .ok (.iconst 0, 1) := dk_3 (dk_at dksX3_block_4 21 rfl rfl)
theorem dX3_block_116 : decode cX3_block 116 = .ok (.istore_n 3, 1) := dk_62 (dk_at dksX3_block_4 22 rfl rfl)
theorem dX3_block_117 : decode cX3_block 117 = .ok (.iload_n 3, 1) := dk_29 (dk_at dksX3_block_4 23 rfl rfl)
theorem dX3_block_118 : decode cX3_block 118 = .ok (.ifCond .ne 24, 3) := dk_154 0 24 (dk_at dksX3_block_5 0 rfl rfl)
theorem dX3_block_121 : decode cX3_block 121 = .ok (.aload_n 0, 1) := dk_42 (dk_at dksX3_block_5 3 rfl rfl)
theorem dX3_block_122 : decode cX3_block 122 = .ok (.getfield 83, 3) := dk_180 0 83 (dk_at dksX3_block_5 4 rfl rfl)
theorem dX3_block_125 : decode cX3_block 125 = .ok (.iload_n 1, 1) := dk_27 (dk_at dksX3_block_5 7 rfl rfl)
theorem dX3_block_126 : decode cX3_block 126 = .ok (.iaload, 1) := dk_46 (dk_at dksX3_block_5 8 rfl rfl)
theorem dX3_block_127 : decode cX3_block 127 = .ok (.ifCond .ge 15, 3) := dk_156 0 15 (dk_at dksX3_block_5 9 rfl rfl)
theorem dX3_block_130 : decode cX3_block 130 = .ok (.aload_n 0, 1) := dk_42 (dk_at dksX3_block_5 12 rfl rfl)
theorem dX3_block_131 : decode cX3_block 131 = .ok (.getfield 71, 3) := dk_180 0 71 (dk_at dksX3_block_5 13 rfl rfl)
theorem dX3_block_134 : decode cX3_block 134 = .ok (.aload_n 0, 1) := dk_42 (dk_at dksX3_block_5 16 rfl rfl)
theorem dX3_block_135 : decode cX3_block 135 = .ok (.getfield 86, 3) := dk_180 0 86 (dk_at dksX3_block_5 17 rfl rfl)
theorem dX3_block_138 : decode cX3_block 138 = .ok (.iload_n 1, 1) := dk_27 (dk_at dksX3_block_5 20 rfl rfl)
theorem dX3_block_139 : decode cX3_block 139 = .ok (.iaload, 1) := dk_46 (dk_at dksX3_block_5 21 rfl rfl)
theorem dX3_block_140 : decode cX3_block 140 = .ok (.iaload, 1) := dk_46 (dk_at dksX3_block_5 22 rfl rfl)
theorem dX3_block_141 : decode cX3_block 141 = .ok (.ireturn, 1) := dk_172 (dk_at dksX3_block_5 23 rfl rfl)
theorem dX3_block_142 : decode cX3_block 142 = .ok (.aload_n 0, 1) := dk_42 (dk_at dksX3_block_6 0 rfl rfl)
theorem dX3_block_143 : decode cX3_block 143 = .ok (.iload_n 1, 1) := dk_27 (dk_at dksX3_block_6 1 rfl rfl)
theorem dX3_block_144 : decode cX3_block 144 = .ok (.bipush 50, 2) := dk_16 50 (dk_at dksX3_block_6 2 rfl rfl)
theorem dX3_block_146 : decode cX3_block 146 = .ok (.idiv, 1) := dk_108 (dk_at dksX3_block_6 4 rfl rfl)
theorem dX3_block_147 : decode cX3_block 147 = .ok (.iload_n 1, 1) := dk_27 (dk_at dksX3_block_6 5 rfl rfl)
theorem dX3_block_148 : decode cX3_block 148 = .ok (.iconst 0, 1) := dk_3 (dk_at dksX3_block_6 6 rfl rfl)
theorem dX3_block_149 : decode cX3_block 149 = .ok (.iload_n 3, 1) := dk_29 (dk_at dksX3_block_6 7 rfl rfl)
theorem dX3_block_150 : decode cX3_block 150 = .ok (.ifCond .ne 7, 3) := dk_154 0 7 (dk_at dksX3_block_6 8 rfl rfl)
theorem dX3_block_153 : decode cX3_block 153 = .ok (.iconst 1, 1) := dk_4 (dk_at dksX3_block_6 11 rfl rfl)
theorem dX3_block_154 : decode cX3_block 154 = .ok (.goto 4, 3) := dk_167 0 4 (dk_at dksX3_block_6 12 rfl rfl)
theorem dX3_block_157 : decode cX3_block 157 = .ok (.iconst 0, 1) := dk_3 (dk_at dksX3_block_6 15 rfl rfl)
theorem dX3_block_158 : decode cX3_block 158 = .ok (.invokevirtual 367, 3) := dk_182 1 111 (dk_at dksX3_block_6 16 rfl rfl)
theorem dX3_block_161 : decode cX3_block 161 = .ok (.iload_n 3, 1) := dk_29 (dk_at dksX3_block_6 19 rfl rfl)
theorem dX3_block_162 : decode cX3_block 162 = .ok (.ifCond .ne 15, 3) := dk_154 0 15 (dk_at dksX3_block_6 20 rfl rfl)
theorem dX3_block_165 : decode cX3_block 165 = .ok (.aload_n 0, 1) := dk_42 (dk_at dksX3_block_6 23 rfl rfl)
theorem dX3_block_166 : decode cX3_block 166 = .ok (.getfield 71, 3) := dk_180 0 71 (dk_at dksX3_block_7 0 rfl rfl)
theorem dX3_block_169 : decode cX3_block 169 = .ok (.aload_n 0, 1) := dk_42 (dk_at dksX3_block_7 3 rfl rfl)
theorem dX3_block_170 : decode cX3_block 170 = .ok (.getfield 83, 3) := dk_180 0 83 (dk_at dksX3_block_7 4 rfl rfl)
theorem dX3_block_173 : decode cX3_block 173 = .ok (.iload_n 1, 1) := dk_27 (dk_at dksX3_block_7 7 rfl rfl)
theorem dX3_block_174 : decode cX3_block 174 = .ok (.iaload, 1) := dk_46 (dk_at dksX3_block_7 8 rfl rfl)
theorem dX3_block_175 : decode cX3_block 175 = .ok (.iaload, 1) := dk_46 (dk_at dksX3_block_7 9 rfl rfl)
theorem dX3_block_176 : decode cX3_block 176 = .ok (.ireturn, 1) := dk_172 (dk_at dksX3_block_7 10 rfl rfl)
theorem dX3_block_177 : decode cX3_block 177 = .ok (.iload_n 2, 1) := dk_28 (dk_at dksX3_block_7 11 rfl rfl)
theorem dX3_block_178 : decode cX3_block 178 = .ok (.iconst 3, 1) := dk_6 (dk_at dksX3_block_7 12 rfl rfl)
theorem dX3_block_179 : decode cX3_block 179 = .ok (.if_icmp .ne 10, 3) := dk_160 0 10 (dk_at dksX3_block_7 13 rfl rfl)
theorem dX3_block_182 : decode cX3_block 182 = .ok (.aload_n 0, 1) := dk_42 (dk_at dksX3_block_7 16 rfl rfl)
theorem dX3_block_183 : decode cX3_block 183 = .ok (.getfield 71, 3) := dk_180 0 71 (dk_at dksX3_block_7 17 rfl rfl)
theorem dX3_block_186 : decode cX3_block 186 = .ok (.iload_n 1, 1) := dk_27 (dk_at dksX3_block_7 20 rfl rfl)
theorem dX3_block_187 : decode cX3_block 187 = .ok (.iaload, 1) := dk_46 (dk_at dksX3_block_7 21 rfl rfl)
theorem dX3_block_188 : decode cX3_block 188 = .ok (.ireturn, 1) := dk_172 (dk_at dksX3_block_7 22 rfl rfl)
theorem dX3_block_189 : decode cX3_block 189 = .ok (.aload_n 0, 1) := dk_42 (dk_at dksX3_block_7 23 rfl rfl)
theorem dX3_block_190 : decode cX3_block 190 = .ok (.dup, 1) := dk_89 (dk_at dksX3_block_8 0 rfl rfl)
theorem dX3_block_191 : decode cX3_block 191 = .ok (.getfield 122, 3) := dk_180 0 122 (dk_at dksX3_block_8 1 rfl rfl)
theorem dX3_block_194 : decode cX3_block 194 = .ok (.iconst 1, 1) := dk_4 (dk_at dksX3_block_8 4 rfl rfl)
theorem dX3_block_195 : decode cX3_block 195 = .ok (.iadd, 1) := dk_96 (dk_at dksX3_block_8 5 rfl rfl)
theorem dX3_block_196 : decode cX3_block 196 = .ok (.putfield 122, 3) := dk_181 0 122 (dk_at dksX3_block_8 6 rfl rfl)
theorem dX3_block_199 : decode cX3_block 199 = .ok (.iload_n 2, 1) := dk_28 (dk_at dksX3_block_8 9 rfl rfl)
theorem dX3_block_200 : decode cX3_block 200 = .ok (.iconst 5, 1) := dk_8 (dk_at dksX3_block_8 10 rfl rfl)
theorem dX3_block_201 : decode cX3_block 201 = .ok (.if_icmp .ne 17, 3) := dk_160 0 17 (dk_at dksX3_block_8 11 rfl rfl)
theorem dX3_block_204 : decode cX3_block 204 = .ok (.aload_n 0, 1) := dk_42 (dk_at dksX3_block_8 14 rfl rfl)
theorem dX3_block_205 : decode cX3_block 205 = .ok (.iconst 2, 1) := dk_5 (dk_at dksX3_block_8 15 rfl rfl)
theorem dX3_block_206 : decode cX3_block 206 = .ok (.aload_n 0, 1) := dk_42 (dk_at dksX3_block_8 16 rfl rfl)
theorem dX3_block_207 : decode cX3_block 207 = .ok (.getfield 122, 3) := dk_180 0 122 (dk_at dksX3_block_8 17 rfl rfl)
theorem dX3_block_210 : decode cX3_block 210 = .ok (.iadd, 1) := dk_96 (dk_at dksX3_block_8 20 rfl rfl)
theorem dX3_block_211 : decode cX3_block 211 = .ok (.iconst 2, 1) := dk_5 (dk_at dksX3_block_8 21 rfl rfl)
theorem dX3_block_212 : decode cX3_block 212 = .ok (.invokevirtual 323, 3) := dk_182 1 67 (dk_at dksX3_block_9 0 rfl rfl)
theorem dX3_block_215 : decode cX3_block 215 = .ok (.goto 31, 3) := dk_167 0 31 (dk_at dksX3_block_9 3 rfl rfl)
theorem dX3_block_218 : decode cX3_block 218 = .ok (.aload_n 0, 1) := dk_42 (dk_at dksX3_block_9 6 rfl rfl)
theorem dX3_block_219 : decode cX3_block 219 = .ok (.getfield 143, 3) := dk_180 0 143 (dk_at dksX3_block_9 7 rfl rfl)
theorem dX3_block_222 : decode cX3_block 222 = .ok (.aload_n 0, 1) := dk_42 (dk_at dksX3_block_9 10 rfl rfl)
theorem dX3_block_223 : decode cX3_block 223 = .ok (.getfield 125, 3) := dk_180 0 125 (dk_at dksX3_block_9 11 rfl rfl)
theorem dX3_block_226 : decode cX3_block 226 = .ok (.iconst 1, 1) := dk_4 (dk_at dksX3_block_9 14 rfl rfl)
theorem dX3_block_227 : decode cX3_block 227 = .ok (.isub, 1) := dk_100 (dk_at dksX3_block_9 15 rfl rfl)
theorem dX3_block_228 : decode cX3_block 228 = .ok (.aload_n 0, 1) := dk_42 (dk_at dksX3_block_9 16 rfl rfl)
theorem dX3_block_229 : decode cX3_block 229 = .ok (.getfield 95, 3) := dk_180 0 95 (dk_at dksX3_block_9 17 rfl rfl)
theorem dX3_block_232 : decode cX3_block 232 = .ok (.iconst 2, 1) := dk_5 (dk_at dksX3_block_9 20 rfl rfl)
theorem dX3_block_233 : decode cX3_block 233 = .ok (.iaload, 1) := dk_46 (dk_at dksX3_block_9 21 rfl rfl)
theorem dX3_block_234 : decode cX3_block 234 = .ok (.iastore, 1) := dk_79 (dk_at dksX3_block_9 22 rfl rfl)
theorem dX3_block_235 : decode cX3_block 235 = .ok (.aload_n 0, 1) := dk_42 (dk_at dksX3_block_9 23 rfl rfl)
theorem dX3_block_236 : decode cX3_block 236 = .ok (.aload_n 0, 1) := dk_42 (dk_at dksX3_block_10 0 rfl rfl)
theorem dX3_block_237 : decode cX3_block 237 = .ok (.getfield 125, 3) := dk_180 0 125 (dk_at dksX3_block_10 1 rfl rfl)
theorem dX3_block_240 : decode cX3_block 240 = .ok (.iconst 1, 1) := dk_4 (dk_at dksX3_block_10 4 rfl rfl)
theorem dX3_block_241 : decode cX3_block 241 = .ok (.isub, 1) := dk_100 (dk_at dksX3_block_10 5 rfl rfl)
theorem dX3_block_242 : decode cX3_block 242 = .ok (.invokevirtual 371, 3) := dk_182 1 115 (dk_at dksX3_block_10 6 rfl rfl)
theorem dX3_block_245 : decode cX3_block 245 = .ok (.pop, 1) := dk_87 (dk_at dksX3_block_10 9 rfl rfl)
theorem dX3_block_246 : decode cX3_block 246 = .ok (.aload_n 0, 1) := dk_42 (dk_at dksX3_block_10 10 rfl rfl)
theorem dX3_block_247 : decode cX3_block 247 = .ok (.getfield 71, 3) := dk_180 0 71 (dk_at dksX3_block_10 11 rfl rfl)
theorem dX3_block_250 : decode cX3_block 250 = .ok (.iload_n 1, 1) := dk_27 (dk_at dksX3_block_10 14 rfl rfl)
theorem dX3_block_251 : decode cX3_block 251 = .ok (.iaload, 1) := dk_46 (dk_at dksX3_block_10 15 rfl rfl)
theorem dX3_block_252 : decode cX3_block 252 = .ok (.ireturn, 1) := dk_172 (dk_at dksX3_block_10 16 rfl rfl)
abbrev cX3_expr : ByteArray := prog_24_method_53_code
def yX3_expr : MethodName := ⟨RX3, "expr", "(II)V"⟩
def dkwX3_expr_9 : List UInt8 := [180, 0, 95, 4, 46, 167, 0, 4, 2, 182, 1, 74, 177]
abbrev dktX3_expr_9 : List UInt8 := dkwX3_expr_9 ++ []
def dkwX3_expr_8 : List UInt8 := [16, 6, 160, 0, 33, 42, 5, 3, 182, 1, 67, 42, 5, 42, 180, 0, 92, 4, 46, 154, 0, 12, 42]
abbrev dktX3_expr_8 : List UInt8 := dkwX3_expr_8 ++ dktX3_expr_9
def dkwX3_expr_7 : List UInt8 := [180, 0, 95, 4, 46, 96, 182, 1, 64, 167, 0, 13, 29, 7, 160, 0, 8, 42, 5, 182, 1, 54, 29]
abbrev dktX3_expr_7 : List UInt8 := dkwX3_expr_7 ++ dktX3_expr_8
def dkwX3_expr_6 : List UInt8 := [46, 154, 0, 33, 42, 180, 0, 92, 4, 46, 154, 0, 24, 42, 5, 42, 180, 0, 95, 3, 46, 42]
abbrev dktX3_expr_6 : List UInt8 := dkwX3_expr_6 ++ dktX3_expr_7
def dkwX3_expr_5 : List UInt8 := [182, 1, 89, 153, 0, 7, 4, 167, 0, 4, 3, 182, 1, 64, 29, 7, 160, 0, 42, 42, 180, 0, 92, 3]
abbrev dktX3_expr_5 : List UInt8 := dkwX3_expr_5 ++ dktX3_expr_6
def dkwX3_expr_4 : List UInt8 := [182, 1, 86, 153, 0, 7, 4, 167, 0, 4, 3, 182, 1, 64, 29, 8, 160, 0, 20, 42, 5, 42]
abbrev dktX3_expr_4 : List UInt8 := dkwX3_expr_4 ++ dktX3_expr_5
def dkwX3_expr_3 : List UInt8 := [29, 5, 160, 0, 13, 42, 5, 42, 3, 182, 1, 51, 182, 1, 64, 29, 6, 160, 0, 21, 42, 5, 42, 3]
abbrev dktX3_expr_3 : List UInt8 := dkwX3_expr_3 ++ dktX3_expr_4
def dkwX3_expr_2 : List UInt8 := [29, 6, 164, 0, 13, 42, 4, 21, 5, 4, 96, 28, 182, 1, 80, 29, 4, 160, 0, 7, 42, 182, 1, 83]
abbrev dktX3_expr_2 : List UInt8 := dkwX3_expr_2 ++ dktX3_expr_3
def dkwX3_expr_1 : List UInt8 := [182, 0, 236, 96, 54, 4, 42, 21, 4, 28, 182, 0, 233, 54, 5, 42, 3, 21, 4, 21, 5, 182, 1, 80]
abbrev dktX3_expr_1 : List UInt8 := dkwX3_expr_1 ++ dktX3_expr_2
def dkwX3_expr_0 : List UInt8 := [42, 27, 28, 182, 0, 230, 62, 29, 154, 0, 11, 42, 5, 27, 28, 182, 1, 80, 177, 27, 42, 29]
abbrev dktX3_expr_0 : List UInt8 := dkwX3_expr_0 ++ dktX3_expr_1
theorem dksX3_expr_0 : cX3_expr.data.toList.drop 0 = dktX3_expr_0 := by decide +kernel
theorem dksX3_expr_1 : cX3_expr.data.toList.drop 22 = dktX3_expr_1 := dk_seg dksX3_expr_0 22 rfl rfl
theorem dksX3_expr_2 : cX3_expr.data.toList.drop 46 = dktX3_expr_2 := dk_seg dksX3_expr_1 24 rfl rfl
theorem dksX3_expr_3 : cX3_expr.data.toList.drop 70 = dktX3_expr_3 := dk_seg dksX3_expr_2 24 rfl rfl
theorem dksX3_expr_4 : cX3_expr.data.toList.drop 94 = dktX3_expr_4 := dk_seg dksX3_expr_3 24 rfl rfl
theorem dksX3_expr_5 : cX3_expr.data.toList.drop 116 = dktX3_expr_5 := dk_seg dksX3_expr_4 22 rfl rfl
theorem dksX3_expr_6 : cX3_expr.data.toList.drop 140 = dktX3_expr_6 := dk_seg dksX3_expr_5 24 rfl rfl
theorem dksX3_expr_7 : cX3_expr.data.toList.drop 162 = dktX3_expr_7 := dk_seg dksX3_expr_6 22 rfl rfl
theorem dksX3_expr_8 : cX3_expr.data.toList.drop 185 = dktX3_expr_8 := dk_seg dksX3_expr_7 23 rfl rfl
theorem dksX3_expr_9 : cX3_expr.data.toList.drop 208 = dktX3_expr_9 := dk_seg dksX3_expr_8 23 rfl rfl
theorem dX3_expr_0 : decode cX3_expr 0 = .ok (.aload_n 0, 1) := dk_42 (dk_at dksX3_expr_0 0 rfl rfl)
theorem dX3_expr_1 : decode cX3_expr 1 = .ok (.iload_n 1, 1) := dk_27 (dk_at dksX3_expr_0 1 rfl rfl)
theorem dX3_expr_2 : decode cX3_expr 2 = .ok (.iload_n 2, 1) := dk_28 (dk_at dksX3_expr_0 2 rfl rfl)
theorem dX3_expr_3 : decode cX3_expr 3 = .ok (.invokevirtual 230, 3) := dk_182 0 230 (dk_at dksX3_expr_0 3 rfl rfl)
theorem dX3_expr_6 : decode cX3_expr 6 = .ok (.istore_n 3, 1) := dk_62 (dk_at dksX3_expr_0 6 rfl rfl)
theorem dX3_expr_7 : decode cX3_expr 7 = .ok (.iload_n 3, 1) := dk_29 (dk_at dksX3_expr_0 7 rfl rfl)
theorem dX3_expr_8 : decode cX3_expr 8 = .ok (.ifCond .ne 11, 3) := dk_154 0 11 (dk_at dksX3_expr_0 8 rfl rfl)
theorem dX3_expr_11 : decode cX3_expr 11 = .ok (.aload_n 0, 1) := dk_42 (dk_at dksX3_expr_0 11 rfl rfl)
theorem dX3_expr_12 : decode cX3_expr 12 = .ok (.iconst 2, 1) := dk_5 (dk_at dksX3_expr_0 12 rfl rfl)
theorem dX3_expr_13 : decode cX3_expr 13 = .ok (.iload_n 1, 1) := dk_27 (dk_at dksX3_expr_0 13 rfl rfl)
theorem dX3_expr_14 : decode cX3_expr 14 = .ok (.iload_n 2, 1) := dk_28 (dk_at dksX3_expr_0 14 rfl rfl)
theorem dX3_expr_15 : decode cX3_expr 15 = .ok (.invokevirtual 336, 3) := dk_182 1 80 (dk_at dksX3_expr_0 15 rfl rfl)
theorem dX3_expr_18 : decode cX3_expr 18 = .ok (.return_, 1) := dk_177 (dk_at dksX3_expr_0 18 rfl rfl)
theorem dX3_expr_19 : decode cX3_expr 19 = .ok (.iload_n 1, 1) := dk_27 (dk_at dksX3_expr_0 19 rfl rfl)
theorem dX3_expr_20 : decode cX3_expr 20 = .ok (.aload_n 0, 1) := dk_42 (dk_at dksX3_expr_0 20 rfl rfl)
theorem dX3_expr_21 : decode cX3_expr 21 = .ok (.iload_n 3, 1) := dk_29 (dk_at dksX3_expr_0 21 rfl rfl)
theorem dX3_expr_22 : decode cX3_expr 22 = .ok (.invokevirtual 236, 3) := dk_182 0 236 (dk_at dksX3_expr_1 0 rfl rfl)
theorem dX3_expr_25 : decode cX3_expr 25 = .ok (.iadd, 1) := dk_96 (dk_at dksX3_expr_1 3 rfl rfl)
theorem dX3_expr_26 : decode cX3_expr 26 = .ok (.istore 4, 2) := dk_54 4 (dk_at dksX3_expr_1 4 rfl rfl)
theorem dX3_expr_28 : decode cX3_expr 28 = .ok (.aload_n 0, 1) := dk_42 (dk_at dksX3_expr_1 6 rfl rfl)
theorem dX3_expr_29 : decode cX3_expr 29 = .ok (.iload 4, 2) := dk_21 4 (dk_at dksX3_expr_1 7 rfl rfl)
theorem dX3_expr_31 : decode cX3_expr 31 = .ok (.iload_n 2, 1) := dk_28 (dk_at dksX3_expr_1 9 rfl rfl)
theorem dX3_expr_32 : decode cX3_expr 32 = .ok (.invokevirtual 233, 3) := dk_182 0 233 (dk_at dksX3_expr_1 10 rfl rfl)
theorem dX3_expr_35 : decode cX3_expr 35 = .ok (.istore 5, 2) := dk_54 5 (dk_at dksX3_expr_1 13 rfl rfl)
theorem dX3_expr_37 : decode cX3_expr 37 = .ok (.aload_n 0, 1) := dk_42 (dk_at dksX3_expr_1 15 rfl rfl)
theorem dX3_expr_38 : decode cX3_expr 38 = .ok (.iconst 0, 1) := dk_3 (dk_at dksX3_expr_1 16 rfl rfl)
theorem dX3_expr_39 : decode cX3_expr 39 = .ok (.iload 4, 2) := dk_21 4 (dk_at dksX3_expr_1 17 rfl rfl)
theorem dX3_expr_41 : decode cX3_expr 41 = .ok (.iload 5, 2) := dk_21 5 (dk_at dksX3_expr_1 19 rfl rfl)
theorem dX3_expr_43 : decode cX3_expr 43 = .ok (.invokevirtual 336, 3) := dk_182 1 80 (dk_at dksX3_expr_1 21 rfl rfl)
theorem dX3_expr_46 : decode cX3_expr 46 = .ok (.iload_n 3, 1) := dk_29 (dk_at dksX3_expr_2 0 rfl rfl)
theorem dX3_expr_47 : decode cX3_expr 47 = .ok (.iconst 3, 1) := dk_6 (dk_at dksX3_expr_2 1 rfl rfl)
theorem dX3_expr_48 : decode cX3_expr 48 = .ok (.if_icmp .le 13, 3) := dk_164 0 13 (dk_at dksX3_expr_2 2 rfl rfl)
theorem dX3_expr_51 : decode cX3_expr 51 = .ok (.aload_n 0, 1) := dk_42 (dk_at dksX3_expr_2 5 rfl rfl)
theorem dX3_expr_52 : decode cX3_expr 52 = .ok (.iconst 1, 1) := dk_4 (dk_at dksX3_expr_2 6 rfl rfl)
theorem dX3_expr_53 : decode cX3_expr 53 = .ok (.iload 5, 2) := dk_21 5 (dk_at dksX3_expr_2 7 rfl rfl)
theorem dX3_expr_55 : decode cX3_expr 55 = .ok (.iconst 1, 1) := dk_4 (dk_at dksX3_expr_2 9 rfl rfl)
theorem dX3_expr_56 : decode cX3_expr 56 = .ok (.iadd, 1) := dk_96 (dk_at dksX3_expr_2 10 rfl rfl)
theorem dX3_expr_57 : decode cX3_expr 57 = .ok (.iload_n 2, 1) := dk_28 (dk_at dksX3_expr_2 11 rfl rfl)
theorem dX3_expr_58 : decode cX3_expr 58 = .ok (.invokevirtual 336, 3) := dk_182 1 80 (dk_at dksX3_expr_2 12 rfl rfl)
theorem dX3_expr_61 : decode cX3_expr 61 = .ok (.iload_n 3, 1) := dk_29 (dk_at dksX3_expr_2 15 rfl rfl)
theorem dX3_expr_62 : decode cX3_expr 62 = .ok (.iconst 1, 1) := dk_4 (dk_at dksX3_expr_2 16 rfl rfl)
theorem dX3_expr_63 : decode cX3_expr 63 = .ok (.if_icmp .ne 7, 3) := dk_160 0 7 (dk_at dksX3_expr_2 17 rfl rfl)
theorem dX3_expr_66 : decode cX3_expr 66 = .ok (.aload_n 0, 1) := dk_42 (dk_at dksX3_expr_2 20 rfl rfl)
theorem dX3_expr_67 : decode cX3_expr 67 = .ok (.invokevirtual 339, 3) := dk_182 1 83 (dk_at dksX3_expr_2 21 rfl rfl)
theorem dX3_expr_70 : decode cX3_expr 70 = .ok (.iload_n 3, 1) := dk_29 (dk_at dksX3_expr_3 0 rfl rfl)
theorem dX3_expr_71 : decode cX3_expr 71 = .ok (.iconst 2, 1) := dk_5 (dk_at dksX3_expr_3 1 rfl rfl)
theorem dX3_expr_72 : decode cX3_expr 72 = .ok (.if_icmp .ne 13, 3) := dk_160 0 13 (dk_at dksX3_expr_3 2 rfl rfl)
theorem dX3_expr_75 : decode cX3_expr 75 = .ok (.aload_n 0, 1) := dk_42 (dk_at dksX3_expr_3 5 rfl rfl)
theorem dX3_expr_76 : decode cX3_expr 76 = .ok (.iconst 2, 1) := dk_5 (dk_at dksX3_expr_3 6 rfl rfl)
theorem dX3_expr_77 : decode cX3_expr 77 = .ok (.aload_n 0, 1) := dk_42 (dk_at dksX3_expr_3 7 rfl rfl)
theorem dX3_expr_78 : decode cX3_expr 78 = .ok (.iconst 0, 1) := dk_3 (dk_at dksX3_expr_3 8 rfl rfl)
theorem dX3_expr_79 : decode cX3_expr 79 = .ok (.invokevirtual 307, 3) := dk_182 1 51 (dk_at dksX3_expr_3 9 rfl rfl)
theorem dX3_expr_82 : decode cX3_expr 82 = .ok (.invokevirtual 320, 3) := dk_182 1 64 (dk_at dksX3_expr_3 12 rfl rfl)
theorem dX3_expr_85 : decode cX3_expr 85 = .ok (.iload_n 3, 1) := dk_29 (dk_at dksX3_expr_3 15 rfl rfl)
theorem dX3_expr_86 : decode cX3_expr 86 = .ok (.iconst 3, 1) := dk_6 (dk_at dksX3_expr_3 16 rfl rfl)
theorem dX3_expr_87 : decode cX3_expr 87 = .ok (.if_icmp .ne 21, 3) := dk_160 0 21 (dk_at dksX3_expr_3 17 rfl rfl)
theorem dX3_expr_90 : decode cX3_expr 90 = .ok (.aload_n 0, 1) := dk_42 (dk_at dksX3_expr_3 20 rfl rfl)
theorem dX3_expr_91 : decode cX3_expr 91 = .ok (.iconst 2, 1) := dk_5 (dk_at dksX3_expr_3 21 rfl rfl)
theorem dX3_expr_92 : decode cX3_expr 92 = .ok (.aload_n 0, 1) := dk_42 (dk_at dksX3_expr_3 22 rfl rfl)
theorem dX3_expr_93 : decode cX3_expr 93 = .ok (.iconst 0, 1) := dk_3 (dk_at dksX3_expr_3 23 rfl rfl)
theorem dX3_expr_94 : decode cX3_expr 94 = .ok (.invokevirtual 342, 3) := dk_182 1 86 (dk_at dksX3_expr_4 0 rfl rfl)
theorem dX3_expr_97 : decode cX3_expr 97 = .ok (.ifCond .eq 7, 3) := dk_153 0 7 (dk_at dksX3_expr_4 3 rfl rfl)
theorem dX3_expr_100 : decode cX3_expr 100 = .ok (.iconst 1, 1) := dk_4 (dk_at dksX3_expr_4 6 rfl rfl)
theorem dX3_expr_101 : decode cX3_expr 101 = .ok (.goto 4, 3) := dk_167 0 4 (dk_at dksX3_expr_4 7 rfl rfl)
theorem dX3_expr_104 : decode cX3_expr 104 = .ok (.iconst 0, 1) := dk_3 (dk_at dksX3_expr_4 10 rfl rfl)
theorem dX3_expr_105 : decode cX3_expr 105 = .ok (.invokevirtual 320, 3) := dk_182 1 64 (dk_at dksX3_expr_4 11 rfl rfl)
theorem dX3_expr_108 : decode cX3_expr 108 = .ok (.iload_n 3, 1) := dk_29 (dk_at dksX3_expr_4 14 rfl rfl)
theorem dX3_expr_109 : decode cX3_expr 109 = .ok (.iconst 5, 1) := dk_8 (dk_at dksX3_expr_4 15 rfl rfl)
theorem dX3_expr_110 : decode cX3_expr 110 = .ok (.if_icmp .ne 20, 3) := dk_160 0 20 (dk_at dksX3_expr_4 16 rfl rfl)
theorem dX3_expr_113 : decode cX3_expr 113 = .ok (.aload_n 0, 1) := dk_42 (dk_at dksX3_expr_4 19 rfl rfl)
theorem dX3_expr_114 : decode cX3_expr 114 = .ok (.iconst 2, 1) := dk_5 (dk_at dksX3_expr_4 20 rfl rfl)
theorem dX3_expr_115 : decode cX3_expr 115 = .ok (.aload_n 0, 1) := dk_42 (dk_at dksX3_expr_4 21 rfl rfl)
theorem dX3_expr_116 : decode cX3_expr 116 = .ok (.invokevirtual 345, 3) := dk_182 1 89 (dk_at dksX3_expr_5 0 rfl rfl)
theorem dX3_expr_119 : decode cX3_expr 119 = .ok (.ifCond .eq 7, 3) := dk_153 0 7 (dk_at dksX3_expr_5 3 rfl rfl)
theorem dX3_expr_122 : decode cX3_expr 122 = .ok (.iconst 1, 1) := dk_4 (dk_at dksX3_expr_5 6 rfl rfl)
theorem dX3_expr_123 : decode cX3_expr 123 = .ok (.goto 4, 3) := dk_167 0 4 (dk_at dksX3_expr_5 7 rfl rfl)
theorem dX3_expr_126 : decode cX3_expr 126 = .ok (.iconst 0, 1) := dk_3 (dk_at dksX3_expr_5 10 rfl rfl)
theorem dX3_expr_127 : decode cX3_expr 127 = .ok (.invokevirtual 320, 3) := dk_182 1 64 (dk_at dksX3_expr_5 11 rfl rfl)
theorem dX3_expr_130 : decode cX3_expr 130 = .ok (.iload_n 3, 1) := dk_29 (dk_at dksX3_expr_5 14 rfl rfl)
theorem dX3_expr_131 : decode cX3_expr 131 = .ok (.iconst 4, 1) := dk_7 (dk_at dksX3_expr_5 15 rfl rfl)
theorem dX3_expr_132 : decode cX3_expr 132 = .ok (.if_icmp .ne 42, 3) := dk_160 0 42 (dk_at dksX3_expr_5 16 rfl rfl)
theorem dX3_expr_135 : decode cX3_expr 135 = .ok (.aload_n 0, 1) := dk_42 (dk_at dksX3_expr_5 19 rfl rfl)
theorem dX3_expr_136 : decode cX3_expr 136 = .ok (.getfield 92, 3) := dk_180 0 92 (dk_at dksX3_expr_5 20 rfl rfl)
theorem dX3_expr_139 : decode cX3_expr 139 = .ok (.iconst 0, 1) := dk_3 (dk_at dksX3_expr_5 23 rfl rfl)
theorem dX3_expr_140 : decode cX3_expr 140 = .ok (.iaload, 1) := dk_46 (dk_at dksX3_expr_6 0 rfl rfl)
theorem dX3_expr_141 : decode cX3_expr 141 = .ok (.ifCond .ne 33, 3) := dk_154 0 33 (dk_at dksX3_expr_6 1 rfl rfl)
theorem dX3_expr_144 : decode cX3_expr 144 = .ok (.aload_n 0, 1) := dk_42 (dk_at dksX3_expr_6 4 rfl rfl)
theorem dX3_expr_145 : decode cX3_expr 145 = .ok (.getfield 92, 3) := dk_180 0 92 (dk_at dksX3_expr_6 5 rfl rfl)
theorem dX3_expr_148 : decode cX3_expr 148 = .ok (.iconst 1, 1) := dk_4 (dk_at dksX3_expr_6 8 rfl rfl)
theorem dX3_expr_149 : decode cX3_expr 149 = .ok (.iaload, 1) := dk_46 (dk_at dksX3_expr_6 9 rfl rfl)
theorem dX3_expr_150 : decode cX3_expr 150 = .ok (.ifCond .ne 24, 3) := dk_154 0 24 (dk_at dksX3_expr_6 10 rfl rfl)
theorem dX3_expr_153 : decode cX3_expr 153 = .ok (.aload_n 0, 1) := dk_42 (dk_at dksX3_expr_6 13 rfl rfl)
theorem dX3_expr_154 : decode cX3_expr 154 = .ok (.iconst 2, 1) := dk_5 (dk_at dksX3_expr_6 14 rfl rfl)
theorem dX3_expr_155 : decode cX3_expr 155 = .ok (.aload_n 0, 1) := dk_42 (dk_at dksX3_expr_6 15 rfl rfl)
theorem dX3_expr_156 : decode cX3_expr 156 = .ok (.getfield 95, 3) := dk_180 0 95 (dk_at dksX3_expr_6 16 rfl rfl)
theorem dX3_expr_159 : decode cX3_expr 159 = .ok (.iconst 0, 1) := dk_3 (dk_at dksX3_expr_6 19 rfl rfl)
theorem dX3_expr_160 : decode cX3_expr 160 = .ok (.iaload, 1) := dk_46 (dk_at dksX3_expr_6 20 rfl rfl)
theorem dX3_expr_161 : decode cX3_expr 161 = .ok (.aload_n 0, 1) := dk_42 (dk_at dksX3_expr_6 21 rfl rfl)
theorem dX3_expr_162 : decode cX3_expr 162 = .ok (.getfield 95, 3) := dk_180 0 95 (dk_at dksX3_expr_7 0 rfl rfl)
theorem dX3_expr_165 : decode cX3_expr 165 = .ok (.iconst 1, 1) := dk_4 (dk_at dksX3_expr_7 3 rfl rfl)
theorem dX3_expr_166 : decode cX3_expr 166 = .ok (.iaload, 1) := dk_46 (dk_at dksX3_expr_7 4 rfl rfl)
theorem dX3_expr_167 : decode cX3_expr 167 = .ok (.iadd, 1) := dk_96 (dk_at dksX3_expr_7 5 rfl rfl)
theorem dX3_expr_168 : decode cX3_expr 168 = .ok (.invokevirtual 320, 3) := dk_182 1 64 (dk_at dksX3_expr_7 6 rfl rfl)
theorem dX3_expr_171 : decode cX3_expr 171 = .ok (.goto 13, 3) := dk_167 0 13 (dk_at dksX3_expr_7 9 rfl rfl)
theorem dX3_expr_174 : decode cX3_expr 174 = .ok (.iload_n 3, 1) := dk_29 (dk_at dksX3_expr_7 12 rfl rfl)
theorem dX3_expr_175 : decode cX3_expr 175 = .ok (.iconst 4, 1) := dk_7 (dk_at dksX3_expr_7 13 rfl rfl)
theorem dX3_expr_176 : decode cX3_expr 176 = .ok (.if_icmp .ne 8, 3) := dk_160 0 8 (dk_at dksX3_expr_7 14 rfl rfl)
theorem dX3_expr_179 : decode cX3_expr 179 = .ok (.aload_n 0, 1) := dk_42 (dk_at dksX3_expr_7 17 rfl rfl)
theorem dX3_expr_180 : decode cX3_expr 180 = .ok (.iconst 2, 1) := dk_5 (dk_at dksX3_expr_7 18 rfl rfl)
theorem dX3_expr_181 : decode cX3_expr 181 = .ok (.invokevirtual 310, 3) := dk_182 1 54 (dk_at dksX3_expr_7 19 rfl rfl)
theorem dX3_expr_184 : decode cX3_expr 184 = .ok (.iload_n 3, 1) := dk_29 (dk_at dksX3_expr_7 22 rfl rfl)
theorem dX3_expr_185 : decode cX3_expr 185 = .ok (.bipush 6, 2) := dk_16 6 (dk_at dksX3_expr_8 0 rfl rfl)
theorem dX3_expr_187 : decode cX3_expr 187 = .ok (.if_icmp .ne 33, 3) := dk_160 0 33 (dk_at dksX3_expr_8 2 rfl rfl)
theorem dX3_expr_190 : decode cX3_expr 190 = .ok (.aload_n 0, 1) := dk_42 (dk_at dksX3_expr_8 5 rfl rfl)
theorem dX3_expr_191 : decode cX3_expr 191 = .ok (.iconst 2, 1) := dk_5 (dk_at dksX3_expr_8 6 rfl rfl)
theorem dX3_expr_192 : decode cX3_expr 192 = .ok (.iconst 0, 1) := dk_3 (dk_at dksX3_expr_8 7 rfl rfl)
theorem dX3_expr_193 : decode cX3_expr 193 = .ok (.invokevirtual 323, 3) := dk_182 1 67 (dk_at dksX3_expr_8 8 rfl rfl)
theorem dX3_expr_196 : decode cX3_expr 196 = .ok (.aload_n 0, 1) := dk_42 (dk_at dksX3_expr_8 11 rfl rfl)
theorem dX3_expr_197 : decode cX3_expr 197 = .ok (.iconst 2, 1) := dk_5 (dk_at dksX3_expr_8 12 rfl rfl)
theorem dX3_expr_198 : decode cX3_expr 198 = .ok (.aload_n 0, 1) := dk_42 (dk_at dksX3_expr_8 13 rfl rfl)
theorem dX3_expr_199 : decode cX3_expr 199 = .ok (.getfield 92, 3) := dk_180 0 92 (dk_at dksX3_expr_8 14 rfl rfl)
theorem dX3_expr_202 : decode cX3_expr 202 = .ok (.iconst 1, 1) := dk_4 (dk_at dksX3_expr_8 17 rfl rfl)
theorem dX3_expr_203 : decode cX3_expr 203 = .ok (.iaload, 1) := dk_46 (dk_at dksX3_expr_8 18 rfl rfl)
theorem dX3_expr_204 : decode cX3_expr 204 = .ok (.ifCond .ne 12, 3) := dk_154 0 12 (dk_at dksX3_expr_8 19 rfl rfl)
theorem dX3_expr_207 : decode cX3_expr 207 = .ok (.aload_n 0, 1) := dk_42 (dk_at dksX3_expr_8 22 rfl rfl)
theorem dX3_expr_208 : decode cX3_expr 208 = .ok (.getfield 95, 3) := dk_180 0 95 (dk_at dksX3_expr_9 0 rfl rfl)
theorem dX3_expr_211 : decode cX3_expr 211 = .ok (.iconst 1, 1) := dk_4 (dk_at dksX3_expr_9 3 rfl rfl)
theorem dX3_expr_212 : decode cX3_expr 212 = .ok (.iaload, 1) := dk_46 (dk_at dksX3_expr_9 4 rfl rfl)
theorem dX3_expr_213 : decode cX3_expr 213 = .ok (.goto 4, 3) := dk_167 0 4 (dk_at dksX3_expr_9 5 rfl rfl)
theorem dX3_expr_216 : decode cX3_expr 216 = .ok (.iconst (-1), 1) := dk_2 (dk_at dksX3_expr_9 8 rfl rfl)
theorem dX3_expr_217 : decode cX3_expr 217 = .ok (.invokevirtual 330, 3) := dk_182 1 74 (dk_at dksX3_expr_9 9 rfl rfl)
theorem dX3_expr_220 : decode cX3_expr 220 = .ok (.return_, 1) := dk_177 (dk_at dksX3_expr_9 12 rfl rfl)
abbrev cX3_operand : ByteArray := prog_24_method_50_code
def yX3_operand : MethodName := ⟨RX3, "operand", "(III)V"⟩
def dkwX3_operand_6 : List UInt8 := [182, 1, 77, 177]
abbrev dktX3_operand_6 : List UInt8 := dkwX3_operand_6 ++ []
def dkwX3_operand_5 : List UInt8 := [54, 4, 132, 5, 1, 167, 255, 229, 42, 27, 21, 4, 182, 1, 64, 167, 0, 10, 42, 27, 28, 29]
abbrev dktX3_operand_5 : List UInt8 := dkwX3_operand_5 ++ dktX3_operand_6
def dkwX3_operand_4 : List UInt8 := [54, 5, 21, 5, 29, 162, 0, 27, 21, 4, 16, 10, 104, 42, 180, 0, 56, 21, 5, 52, 96, 16, 48, 100]
abbrev dktX3_operand_4 : List UInt8 := dkwX3_operand_4 ++ dktX3_operand_5
def dkwX3_operand_3 : List UInt8 := [167, 255, 218, 167, 0, 69, 42, 42, 180, 0, 56, 28, 52, 182, 0, 212, 153, 0, 49, 3, 54, 4, 28]
abbrev dktX3_operand_3 : List UInt8 := dkwX3_operand_3 ++ dktX3_operand_4
def dkwX3_operand_2 : List UInt8 := [17, 1, 144, 104, 21, 4, 96, 42, 180, 0, 56, 28, 4, 96, 21, 4, 96, 52, 85, 132, 4, 1]
abbrev dktX3_operand_2 : List UInt8 := dkwX3_operand_2 ++ dktX3_operand_3
def dkwX3_operand_1 : List UInt8 := [28, 100, 5, 100, 79, 3, 54, 4, 21, 4, 42, 180, 0, 98, 27, 46, 162, 0, 33, 42, 180, 0, 101, 27]
abbrev dktX3_operand_1 : List UInt8 := dkwX3_operand_1 ++ dktX3_operand_2
def dkwX3_operand_0 : List UInt8 := [42, 180, 0, 56, 28, 52, 16, 34, 160, 0, 68, 42, 180, 0, 92, 27, 4, 79, 42, 180, 0, 98, 27, 29]
abbrev dktX3_operand_0 : List UInt8 := dkwX3_operand_0 ++ dktX3_operand_1
theorem dksX3_operand_0 : cX3_operand.data.toList.drop 0 = dktX3_operand_0 := by decide +kernel
theorem dksX3_operand_1 : cX3_operand.data.toList.drop 24 = dktX3_operand_1 := dk_seg dksX3_operand_0 24 rfl rfl
theorem dksX3_operand_2 : cX3_operand.data.toList.drop 48 = dktX3_operand_2 := dk_seg dksX3_operand_1 24 rfl rfl
theorem dksX3_operand_3 : cX3_operand.data.toList.drop 70 = dktX3_operand_3 := dk_seg dksX3_operand_2 22 rfl rfl
theorem dksX3_operand_4 : cX3_operand.data.toList.drop 93 = dktX3_operand_4 := dk_seg dksX3_operand_3 23 rfl rfl
theorem dksX3_operand_5 : cX3_operand.data.toList.drop 117 = dktX3_operand_5 := dk_seg dksX3_operand_4 24 rfl rfl
theorem dksX3_operand_6 : cX3_operand.data.toList.drop 139 = dktX3_operand_6 := dk_seg dksX3_operand_5 22 rfl rfl
theorem dX3_operand_0 : decode cX3_operand 0 = .ok (.aload_n 0, 1) := dk_42 (dk_at dksX3_operand_0 0 rfl rfl)
theorem dX3_operand_1 : decode cX3_operand 1 = .ok (.getfield 56, 3) := dk_180 0 56 (dk_at dksX3_operand_0 1 rfl rfl)
theorem dX3_operand_4 : decode cX3_operand 4 = .ok (.iload_n 2, 1) := dk_28 (dk_at dksX3_operand_0 4 rfl rfl)
theorem dX3_operand_5 : decode cX3_operand 5 = .ok (.caload, 1) := dk_52 (dk_at dksX3_operand_0 5 rfl rfl)
theorem dX3_operand_6 : decode cX3_operand 6 = .ok (.bipush 34, 2) := dk_16 34 (dk_at dksX3_operand_0 6 rfl rfl)
theorem dX3_operand_8 : decode cX3_operand 8 = .ok (.if_icmp .ne 68, 3) := dk_160 0 68 (dk_at dksX3_operand_0 8 rfl rfl)
theorem dX3_operand_11 : decode cX3_operand 11 = .ok (.aload_n 0, 1) := dk_42 (dk_at dksX3_operand_0 11 rfl rfl)
theorem dX3_operand_12 : decode cX3_operand 12 = .ok (.getfield 92, 3) := dk_180 0 92 (dk_at dksX3_operand_0 12 rfl rfl)
theorem dX3_operand_15 : decode cX3_operand 15 = .ok (.iload_n 1, 1) := dk_27 (dk_at dksX3_operand_0 15 rfl rfl)
theorem dX3_operand_16 : decode cX3_operand 16 = .ok (.iconst 1, 1) := dk_4 (dk_at dksX3_operand_0 16 rfl rfl)
theorem dX3_operand_17 : decode cX3_operand 17 = .ok (.iastore, 1) := dk_79 (dk_at dksX3_operand_0 17 rfl rfl)
theorem dX3_operand_18 : decode cX3_operand 18 = .ok (.aload_n 0, 1) := dk_42 (dk_at dksX3_operand_0 18 rfl rfl)
theorem dX3_operand_19 : decode cX3_operand 19 = .ok (.getfield 98, 3) := dk_180 0 98 (dk_at dksX3_operand_0 19 rfl rfl)
theorem dX3_operand_22 : decode cX3_operand 22 = .ok (.iload_n 1, 1) := dk_27 (dk_at dksX3_operand_0 22 rfl rfl)
theorem dX3_operand_23 : decode cX3_operand 23 = .ok (.iload_n 3, 1) := dk_29 (dk_at dksX3_operand_0 23 rfl rfl)
theorem dX3_operand_24 : decode cX3_operand 24 = .ok (.iload_n 2, 1) := dk_28 (dk_at dksX3_operand_1 0 rfl rfl)
theorem dX3_operand_25 : decode cX3_operand 25 = .ok (.isub, 1) := dk_100 (dk_at dksX3_operand_1 1 rfl rfl)
theorem dX3_operand_26 : decode cX3_operand 26 = .ok (.iconst 2, 1) := dk_5 (dk_at dksX3_operand_1 2 rfl rfl)
theorem dX3_operand_27 : decode cX3_operand 27 = .ok (.isub, 1) := dk_100 (dk_at dksX3_operand_1 3 rfl rfl)
theorem dX3_operand_28 : decode cX3_operand 28 = .ok (.iastore, 1) := dk_79 (dk_at dksX3_operand_1 4 rfl rfl)
theorem dX3_operand_29 : decode cX3_operand 29 = .ok (.iconst 0, 1) := dk_3 (dk_at dksX3_operand_1 5 rfl rfl)
theorem dX3_operand_30 : decode cX3_operand 30 = .ok (.istore 4, 2) := dk_54 4 (dk_at dksX3_operand_1 6 rfl rfl)
theorem dX3_operand_32 : decode cX3_operand 32 = .ok (.iload 4, 2) := dk_21 4 (dk_at dksX3_operand_1 8 rfl rfl)
theorem dX3_operand_34 : decode cX3_operand 34 = .ok (.aload_n 0, 1) := dk_42 (dk_at dksX3_operand_1 10 rfl rfl)
theorem dX3_operand_35 : decode cX3_operand 35 = .ok (.getfield 98, 3) := dk_180 0 98 (dk_at dksX3_operand_1 11 rfl rfl)
theorem dX3_operand_38 : decode cX3_operand 38 = .ok (.iload_n 1, 1) := dk_27 (dk_at dksX3_operand_1 14 rfl rfl)
theorem dX3_operand_39 : decode cX3_operand 39 = .ok (.iaload, 1) := dk_46 (dk_at dksX3_operand_1 15 rfl rfl)
theorem dX3_operand_40 : decode cX3_operand 40 = .ok (.if_icmp .ge 33, 3) := dk_162 0 33 (dk_at dksX3_operand_1 16 rfl rfl)
theorem dX3_operand_43 : decode cX3_operand 43 = .ok (.aload_n 0, 1) := dk_42 (dk_at dksX3_operand_1 19 rfl rfl)
theorem dX3_operand_44 : decode cX3_operand 44 = .ok (.getfield 101, 3) := dk_180 0 101 (dk_at dksX3_operand_1 20 rfl rfl)
theorem dX3_operand_47 : decode cX3_operand 47 = .ok (.iload_n 1, 1) := dk_27 (dk_at dksX3_operand_1 23 rfl rfl)
theorem dX3_operand_48 : decode cX3_operand 48 = .ok (.sipush 400, 3) := dk_17 1 144 (dk_at dksX3_operand_2 0 rfl rfl)
theorem dX3_operand_51 : decode cX3_operand 51 = .ok (.imul, 1) := dk_104 (dk_at dksX3_operand_2 3 rfl rfl)
theorem dX3_operand_52 : decode cX3_operand 52 = .ok (.iload 4, 2) := dk_21 4 (dk_at dksX3_operand_2 4 rfl rfl)
theorem dX3_operand_54 : decode cX3_operand 54 = .ok (.iadd, 1) := dk_96 (dk_at dksX3_operand_2 6 rfl rfl)
theorem dX3_operand_55 : decode cX3_operand 55 = .ok (.aload_n 0, 1) := dk_42 (dk_at dksX3_operand_2 7 rfl rfl)
theorem dX3_operand_56 : decode cX3_operand 56 = .ok (.getfield 56, 3) := dk_180 0 56 (dk_at dksX3_operand_2 8 rfl rfl)
theorem dX3_operand_59 : decode cX3_operand 59 = .ok (.iload_n 2, 1) := dk_28 (dk_at dksX3_operand_2 11 rfl rfl)
theorem dX3_operand_60 : decode cX3_operand 60 = .ok (.iconst 1, 1) := dk_4 (dk_at dksX3_operand_2 12 rfl rfl)
theorem dX3_operand_61 : decode cX3_operand 61 = .ok (.iadd, 1) := dk_96 (dk_at dksX3_operand_2 13 rfl rfl)
theorem dX3_operand_62 : decode cX3_operand 62 = .ok (.iload 4, 2) := dk_21 4 (dk_at dksX3_operand_2 14 rfl rfl)
theorem dX3_operand_64 : decode cX3_operand 64 = .ok (.iadd, 1) := dk_96 (dk_at dksX3_operand_2 16 rfl rfl)
theorem dX3_operand_65 : decode cX3_operand 65 = .ok (.caload, 1) := dk_52 (dk_at dksX3_operand_2 17 rfl rfl)
theorem dX3_operand_66 : decode cX3_operand 66 = .ok (.castore, 1) := dk_85 (dk_at dksX3_operand_2 18 rfl rfl)
theorem dX3_operand_67 : decode cX3_operand 67 = .ok (.iinc 4 1, 3) := dk_132 4 1 (dk_at dksX3_operand_2 19 rfl rfl)
theorem dX3_operand_70 : decode cX3_operand 70 = .ok (.goto (-38), 3) := dk_167 255 218 (dk_at dksX3_operand_3 0 rfl rfl)
theorem dX3_operand_73 : decode cX3_operand 73 = .ok (.goto 69, 3) := dk_167 0 69 (dk_at dksX3_operand_3 3 rfl rfl)
theorem dX3_operand_76 : decode cX3_operand 76 = .ok (.aload_n 0, 1) := dk_42 (dk_at dksX3_operand_3 6 rfl rfl)
theorem dX3_operand_77 : decode cX3_operand 77 = .ok (.aload_n 0, 1) := dk_42 (dk_at dksX3_operand_3 7 rfl rfl)
theorem dX3_operand_78 : decode cX3_operand 78 = .ok (.getfield 56, 3) := dk_180 0 56 (dk_at dksX3_operand_3 8 rfl rfl)
theorem dX3_operand_81 : decode cX3_operand 81 = .ok (.iload_n 2, 1) := dk_28 (dk_at dksX3_operand_3 11 rfl rfl)
theorem dX3_operand_82 : decode cX3_operand 82 = .ok (.caload, 1) := dk_52 (dk_at dksX3_operand_3 12 rfl rfl)
theorem dX3_operand_83 : decode cX3_operand 83 = .ok (.invokevirtual 212, 3) := dk_182 0 212 (dk_at dksX3_operand_3 13 rfl rfl)
theorem dX3_operand_86 : decode cX3_operand 86 = .ok (.ifCond .eq 49, 3) := dk_153 0 49 (dk_at dksX3_operand_3 16 rfl rfl)
theorem dX3_operand_89 : decode cX3_operand 89 = .ok (.iconst 0, 1) := dk_3 (dk_at dksX3_operand_3 19 rfl rfl)
theorem dX3_operand_90 : decode cX3_operand 90 = .ok (.istore 4, 2) := dk_54 4 (dk_at dksX3_operand_3 20 rfl rfl)
theorem dX3_operand_92 : decode cX3_operand 92 = .ok (.iload_n 2, 1) := dk_28 (dk_at dksX3_operand_3 22 rfl rfl)
theorem dX3_operand_93 : decode cX3_operand 93 = .ok (.istore 5, 2) := dk_54 5 (dk_at dksX3_operand_4 0 rfl rfl)
theorem dX3_operand_95 : decode cX3_operand 95 = .ok (.iload 5, 2) := dk_21 5 (dk_at dksX3_operand_4 2 rfl rfl)
theorem dX3_operand_97 : decode cX3_operand 97 = .ok (.iload_n 3, 1) := dk_29 (dk_at dksX3_operand_4 4 rfl rfl)
theorem dX3_operand_98 : decode cX3_operand 98 = .ok (.if_icmp .ge 27, 3) := dk_162 0 27 (dk_at dksX3_operand_4 5 rfl rfl)
theorem dX3_operand_101 : decode cX3_operand 101 = .ok (.iload 4, 2) := dk_21 4 (dk_at dksX3_operand_4 8 rfl rfl)
theorem dX3_operand_103 : decode cX3_operand 103 = .ok (.bipush 10, 2) := dk_16 10 (dk_at dksX3_operand_4 10 rfl rfl)
theorem dX3_operand_105 : decode cX3_operand 105 = .ok (.imul, 1) := dk_104 (dk_at dksX3_operand_4 12 rfl rfl)
theorem dX3_operand_106 : decode cX3_operand 106 = .ok (.aload_n 0, 1) := dk_42 (dk_at dksX3_operand_4 13 rfl rfl)
theorem dX3_operand_107 : decode cX3_operand 107 = .ok (.getfield 56, 3) := dk_180 0 56 (dk_at dksX3_operand_4 14 rfl rfl)
theorem dX3_operand_110 : decode cX3_operand 110 = .ok (.iload 5, 2) := dk_21 5 (dk_at dksX3_operand_4 17 rfl rfl)
theorem dX3_operand_112 : decode cX3_operand 112 = .ok (.caload, 1) := dk_52 (dk_at dksX3_operand_4 19 rfl rfl)
theorem dX3_operand_113 : decode cX3_operand 113 = .ok (.iadd, 1) := dk_96 (dk_at dksX3_operand_4 20 rfl rfl)
theorem dX3_operand_114 : decode cX3_operand 114 = .ok (.bipush 48, 2) := dk_16 48 (dk_at dksX3_operand_4 21 rfl rfl)
theorem dX3_operand_116 : decode cX3_operand 116 = .ok (.isub, 1) := dk_100 (dk_at dksX3_operand_4 23 rfl rfl)
theorem dX3_operand_117 : decode cX3_operand 117 = .ok (.istore 4, 2) := dk_54 4 (dk_at dksX3_operand_5 0 rfl rfl)
theorem dX3_operand_119 : decode cX3_operand 119 = .ok (.iinc 5 1, 3) := dk_132 5 1 (dk_at dksX3_operand_5 2 rfl rfl)
theorem dX3_operand_122 : decode cX3_operand 122 = .ok (.goto (-27), 3) := dk_167 255 229 (dk_at dksX3_operand_5 5 rfl rfl)
theorem dX3_operand_125 : decode cX3_operand 125 = .ok (.aload_n 0, 1) := dk_42 (dk_at dksX3_operand_5 8 rfl rfl)
theorem dX3_operand_126 : decode cX3_operand 126 = .ok (.iload_n 1, 1) := dk_27 (dk_at dksX3_operand_5 9 rfl rfl)
theorem dX3_operand_127 : decode cX3_operand 127 = .ok (.iload 4, 2) := dk_21 4 (dk_at dksX3_operand_5 10 rfl rfl)
theorem dX3_operand_129 : decode cX3_operand 129 = .ok (.invokevirtual 320, 3) := dk_182 1 64 (dk_at dksX3_operand_5 12 rfl rfl)
theorem dX3_operand_132 : decode cX3_operand 132 = .ok (.goto 10, 3) := dk_167 0 10 (dk_at dksX3_operand_5 15 rfl rfl)
theorem dX3_operand_135 : decode cX3_operand 135 = .ok (.aload_n 0, 1) := dk_42 (dk_at dksX3_operand_5 18 rfl rfl)
theorem dX3_operand_136 : decode cX3_operand 136 = .ok (.iload_n 1, 1) := dk_27 (dk_at dksX3_operand_5 19 rfl rfl)
theorem dX3_operand_137 : decode cX3_operand 137 = .ok (.iload_n 2, 1) := dk_28 (dk_at dksX3_operand_5 20 rfl rfl)
theorem dX3_operand_138 : decode cX3_operand 138 = .ok (.iload_n 3, 1) := dk_29 (dk_at dksX3_operand_5 21 rfl rfl)
theorem dX3_operand_139 : decode cX3_operand 139 = .ok (.invokevirtual 333, 3) := dk_182 1 77 (dk_at dksX3_operand_6 0 rfl rfl)
theorem dX3_operand_142 : decode cX3_operand 142 = .ok (.return_, 1) := dk_177 (dk_at dksX3_operand_6 3 rfl rfl)
abbrev cX3_setNumber : ByteArray := prog_24_method_35_code
def yX3_setNumber : MethodName := ⟨RX3, "setNumber", "(II)V"⟩
def dkwX3_setNumber_0 : List UInt8 := [42, 180, 0, 92, 27, 3, 79, 42, 180, 0, 95, 27, 28, 79, 177]
abbrev dktX3_setNumber_0 : List UInt8 := dkwX3_setNumber_0 ++ []
theorem dksX3_setNumber_0 : cX3_setNumber.data.toList.drop 0 = dktX3_setNumber_0 := by decide +kernel
theorem dX3_setNumber_0 : decode cX3_setNumber 0 = .ok (.aload_n 0, 1) := dk_42 (dk_at dksX3_setNumber_0 0 rfl rfl)
theorem dX3_setNumber_1 : decode cX3_setNumber 1 = .ok (.getfield 92, 3) := dk_180 0 92 (dk_at dksX3_setNumber_0 1 rfl rfl)
theorem dX3_setNumber_4 : decode cX3_setNumber 4 = .ok (.iload_n 1, 1) := dk_27 (dk_at dksX3_setNumber_0 4 rfl rfl)
theorem dX3_setNumber_5 : decode cX3_setNumber 5 = .ok (.iconst 0, 1) := dk_3 (dk_at dksX3_setNumber_0 5 rfl rfl)
theorem dX3_setNumber_6 : decode cX3_setNumber 6 = .ok (.iastore, 1) := dk_79 (dk_at dksX3_setNumber_0 6 rfl rfl)
theorem dX3_setNumber_7 : decode cX3_setNumber 7 = .ok (.aload_n 0, 1) := dk_42 (dk_at dksX3_setNumber_0 7 rfl rfl)
theorem dX3_setNumber_8 : decode cX3_setNumber 8 = .ok (.getfield 95, 3) := dk_180 0 95 (dk_at dksX3_setNumber_0 8 rfl rfl)
theorem dX3_setNumber_11 : decode cX3_setNumber 11 = .ok (.iload_n 1, 1) := dk_27 (dk_at dksX3_setNumber_0 11 rfl rfl)
theorem dX3_setNumber_12 : decode cX3_setNumber 12 = .ok (.iload_n 2, 1) := dk_28 (dk_at dksX3_setNumber_0 12 rfl rfl)
theorem dX3_setNumber_13 : decode cX3_setNumber 13 = .ok (.iastore, 1) := dk_79 (dk_at dksX3_setNumber_0 13 rfl rfl)
theorem dX3_setNumber_14 : decode cX3_setNumber 14 = .ok (.return_, 1) := dk_177 (dk_at dksX3_setNumber_0 14 rfl rfl)
abbrev cX3_path : ByteArray := prog_24_method_49_code
def yX3_path : MethodName := ⟨RX3, "path", "(III)V"⟩
def dkwX3_path_11 : List UInt8 := [21, 6, 96, 96, 54, 5, 167, 255, 185, 177]
abbrev dktX3_path_11 : List UInt8 := dkwX3_path_11 ++ []
def dkwX3_path_10 : List UInt8 := [4, 54, 6, 42, 27, 42, 180, 0, 56, 21, 5, 4, 96, 52, 16, 48, 100, 182, 1, 74, 21, 5, 4]
abbrev dktX3_path_10 : List UInt8 := dkwX3_path_10 ++ dktX3_path_11
def dkwX3_path_9 : List UInt8 := [182, 0, 207, 54, 6, 21, 6, 158, 0, 17, 42, 27, 21, 5, 4, 96, 21, 6, 182, 1, 70, 167, 0, 23]
abbrev dktX3_path_9 : List UInt8 := dkwX3_path_9 ++ dktX3_path_10
def dkwX3_path_8 : List UInt8 := [21, 6, 96, 54, 5, 42, 21, 5, 29, 182, 0, 194, 16, 46, 160, 0, 65, 42, 21, 5, 4, 96, 29]
abbrev dktX3_path_8 : List UInt8 := dkwX3_path_8 ++ dktX3_path_9
def dkwX3_path_7 : List UInt8 := [7, 96, 29, 182, 0, 194, 16, 46, 159, 0, 4, 177, 42, 27, 21, 5, 21, 6, 182, 1, 70, 21, 5]
abbrev dktX3_path_7 : List UInt8 := dkwX3_path_7 ++ dktX3_path_8
def dkwX3_path_6 : List UInt8 := [54, 6, 21, 6, 7, 160, 0, 31, 42, 21, 5, 29, 20, 0, 210, 182, 0, 199, 153, 0, 18, 42, 21, 5]
abbrev dktX3_path_6 : List UInt8 := dkwX3_path_6 ++ dktX3_path_7
def dkwX3_path_5 : List UInt8 := [167, 0, 17, 42, 27, 5, 42, 180, 0, 122, 96, 21, 4, 100, 182, 1, 67, 42, 21, 5, 29, 182, 0, 207]
abbrev dktX3_path_5 : List UInt8 := dkwX3_path_5 ++ dktX3_path_6
def dkwX3_path_4 : List UInt8 := [132, 5, 3, 132, 4, 1, 167, 255, 237, 21, 4, 42, 180, 0, 122, 161, 0, 11, 42, 27, 182, 1, 54]
abbrev dktX3_path_4 : List UInt8 := dkwX3_path_4 ++ dktX3_path_5
def dkwX3_path_3 : List UInt8 := [182, 1, 64, 177, 3, 54, 4, 28, 54, 5, 42, 21, 5, 29, 20, 0, 205, 182, 0, 199, 153, 0, 12]
abbrev dktX3_path_3 : List UInt8 := dkwX3_path_3 ++ dktX3_path_4
def dkwX3_path_2 : List UInt8 := [180, 0, 140, 21, 4, 46, 167, 0, 18, 42, 180, 0, 140, 21, 4, 46, 154, 0, 7, 4, 167, 0, 4, 3]
abbrev dktX3_path_2 : List UInt8 := dkwX3_path_2 ++ dktX3_path_3
def dkwX3_path_1 : List UInt8 := [182, 1, 54, 167, 0, 46, 42, 27, 42, 180, 0, 56, 28, 4, 96, 52, 16, 105, 160, 0, 13, 42]
abbrev dktX3_path_1 : List UInt8 := dkwX3_path_1 ++ dktX3_path_2
def dkwX3_path_0 : List UInt8 := [42, 180, 0, 56, 28, 52, 16, 64, 160, 0, 66, 42, 182, 1, 61, 54, 4, 21, 4, 156, 0, 11, 42, 27]
abbrev dktX3_path_0 : List UInt8 := dkwX3_path_0 ++ dktX3_path_1
theorem dksX3_path_0 : cX3_path.data.toList.drop 0 = dktX3_path_0 := by decide +kernel
theorem dksX3_path_1 : cX3_path.data.toList.drop 24 = dktX3_path_1 := dk_seg dksX3_path_0 24 rfl rfl
theorem dksX3_path_2 : cX3_path.data.toList.drop 46 = dktX3_path_2 := dk_seg dksX3_path_1 22 rfl rfl
theorem dksX3_path_3 : cX3_path.data.toList.drop 70 = dktX3_path_3 := dk_seg dksX3_path_2 24 rfl rfl
theorem dksX3_path_4 : cX3_path.data.toList.drop 93 = dktX3_path_4 := dk_seg dksX3_path_3 23 rfl rfl
theorem dksX3_path_5 : cX3_path.data.toList.drop 116 = dktX3_path_5 := dk_seg dksX3_path_4 23 rfl rfl
theorem dksX3_path_6 : cX3_path.data.toList.drop 140 = dktX3_path_6 := dk_seg dksX3_path_5 24 rfl rfl
theorem dksX3_path_7 : cX3_path.data.toList.drop 164 = dktX3_path_7 := dk_seg dksX3_path_6 24 rfl rfl
theorem dksX3_path_8 : cX3_path.data.toList.drop 187 = dktX3_path_8 := dk_seg dksX3_path_7 23 rfl rfl
theorem dksX3_path_9 : cX3_path.data.toList.drop 210 = dktX3_path_9 := dk_seg dksX3_path_8 23 rfl rfl
theorem dksX3_path_10 : cX3_path.data.toList.drop 234 = dktX3_path_10 := dk_seg dksX3_path_9 24 rfl rfl
theorem dksX3_path_11 : cX3_path.data.toList.drop 257 = dktX3_path_11 := dk_seg dksX3_path_10 23 rfl rfl
theorem dX3_path_0 : decode cX3_path 0 = .ok (.aload_n 0, 1) := dk_42 (dk_at dksX3_path_0 0 rfl rfl)
theorem dX3_path_1 : decode cX3_path 1 = .ok (.getfield 56, 3) := dk_180 0 56 (dk_at dksX3_path_0 1 rfl rfl)
theorem dX3_path_4 : decode cX3_path 4 = .ok (.iload_n 2, 1) := dk_28 (dk_at dksX3_path_0 4 rfl rfl)
theorem dX3_path_5 : decode cX3_path 5 = .ok (.caload, 1) := dk_52 (dk_at dksX3_path_0 5 rfl rfl)
theorem dX3_path_6 : decode cX3_path 6 = .ok (.bipush 64, 2) := dk_16 64 (dk_at dksX3_path_0 6 rfl rfl)
theorem dX3_path_8 : decode cX3_path 8 = .ok (.if_icmp .ne 66, 3) := dk_160 0 66 (dk_at dksX3_path_0 8 rfl rfl)
theorem dX3_path_11 : decode cX3_path 11 = .ok (.aload_n 0, 1) := dk_42 (dk_at dksX3_path_0 11 rfl rfl)
theorem dX3_path_12 : decode cX3_path 12 = .ok (.invokevirtual 317, 3) := dk_182 1 61 (dk_at dksX3_path_0 12 rfl rfl)
theorem dX3_path_15 : decode cX3_path 15 = .ok (.istore 4, 2) := dk_54 4 (dk_at dksX3_path_0 15 rfl rfl)
theorem dX3_path_17 : decode cX3_path 17 = .ok (.iload 4, 2) := dk_21 4 (dk_at dksX3_path_0 17 rfl rfl)
theorem dX3_path_19 : decode cX3_path 19 = .ok (.ifCond .ge 11, 3) := dk_156 0 11 (dk_at dksX3_path_0 19 rfl rfl)
theorem dX3_path_22 : decode cX3_path 22 = .ok (.aload_n 0, 1) := dk_42 (dk_at dksX3_path_0 22 rfl rfl)
theorem dX3_path_23 : decode cX3_path 23 = .ok (.iload_n 1, 1) := dk_27 (dk_at dksX3_path_0 23 rfl rfl)
theorem dX3_path_24 : decode cX3_path 24 = .ok (.invokevirtual 310, 3) := dk_182 1 54 (dk_at dksX3_path_1 0 rfl rfl)
theorem dX3_path_27 : decode cX3_path 27 = .ok (.goto 46, 3) := dk_167 0 46 (dk_at dksX3_path_1 3 rfl rfl)
theorem dX3_path_30 : decode cX3_path 30 = .ok (.aload_n 0, 1) := dk_42 (dk_at dksX3_path_1 6 rfl rfl)
theorem dX3_path_31 : decode cX3_path 31 = .ok (.iload_n 1, 1) := dk_27 (dk_at dksX3_path_1 7 rfl rfl)
theorem dX3_path_32 : decode cX3_path 32 = .ok (.aload_n 0, 1) := dk_42 (dk_at dksX3_path_1 8 rfl rfl)
theorem dX3_path_33 : decode cX3_path 33 = .ok (.getfield 56, 3) := dk_180 0 56 (dk_at dksX3_path_1 9 rfl rfl)
theorem dX3_path_36 : decode cX3_path 36 = .ok (.iload_n 2, 1) := dk_28 (dk_at dksX3_path_1 12 rfl rfl)
theorem dX3_path_37 : decode cX3_path 37 = .ok (.iconst 1, 1) := dk_4 (dk_at dksX3_path_1 13 rfl rfl)
theorem dX3_path_38 : decode cX3_path 38 = .ok (.iadd, 1) := dk_96 (dk_at dksX3_path_1 14 rfl rfl)
theorem dX3_path_39 : decode cX3_path 39 = .ok (.caload, 1) := dk_52 (dk_at dksX3_path_1 15 rfl rfl)
theorem dX3_path_40 : decode cX3_path 40 = .ok (.bipush 105, 2) := dk_16 105 (dk_at dksX3_path_1 16 rfl rfl)
theorem dX3_path_42 : decode cX3_path 42 = .ok (.if_icmp .ne 13, 3) := dk_160 0 13 (dk_at dksX3_path_1 18 rfl rfl)
theorem dX3_path_45 : decode cX3_path 45 = .ok (.aload_n 0, 1) := dk_42 (dk_at dksX3_path_1 21 rfl rfl)
theorem dX3_path_46 : decode cX3_path 46 = .ok (.getfield 140, 3) := dk_180 0 140 (dk_at dksX3_path_2 0 rfl rfl)
theorem dX3_path_49 : decode cX3_path 49 = .ok (.iload 4, 2) := dk_21 4 (dk_at dksX3_path_2 3 rfl rfl)
theorem dX3_path_51 : decode cX3_path 51 = .ok (.iaload, 1) := dk_46 (dk_at dksX3_path_2 5 rfl rfl)
theorem dX3_path_52 : decode cX3_path 52 = .ok (.goto 18, 3) := dk_167 0 18 (dk_at dksX3_path_2 6 rfl rfl)
theorem dX3_path_55 : decode cX3_path 55 = .ok (.aload_n 0, 1) := dk_42 (dk_at dksX3_path_2 9 rfl rfl)
theorem dX3_path_56 : decode cX3_path 56 = .ok (.getfield 140, 3) := dk_180 0 140 (dk_at dksX3_path_2 10 rfl rfl)
theorem dX3_path_59 : decode cX3_path 59 = .ok (.iload 4, 2) := dk_21 4 (dk_at dksX3_path_2 13 rfl rfl)
theorem dX3_path_61 : decode cX3_path 61 = .ok (.iaload, 1) := dk_46 (dk_at dksX3_path_2 15 rfl rfl)
theorem dX3_path_62 : decode cX3_path 62 = .ok (.ifCond .ne 7, 3) := dk_154 0 7 (dk_at dksX3_path_2 16 rfl rfl)
theorem dX3_path_65 : decode cX3_path 65 = .ok (.iconst 1, 1) := dk_4 (dk_at dksX3_path_2 19 rfl rfl)
theorem dX3_path_66 : decode cX3_path 66 = .ok (.goto 4, 3) := dk_167 0 4 (dk_at dksX3_path_2 20 rfl rfl)
theorem dX3_path_69 : decode cX3_path 69 = .ok (.iconst 0, 1) := dk_3 (dk_at dksX3_path_2 23 rfl rfl)
theorem dX3_path_70 : decode cX3_path 70 = .ok (.invokevirtual 320, 3) := dk_182 1 64 (dk_at dksX3_path_3 0 rfl rfl)
theorem dX3_path_73 : decode cX3_path 73 = .ok (.return_, 1) := dk_177 (dk_at dksX3_path_3 3 rfl rfl)
theorem dX3_path_74 : decode cX3_path 74 = .ok (.iconst 0, 1) := dk_3 (dk_at dksX3_path_3 4 rfl rfl)
theorem dX3_path_75 : decode cX3_path 75 = .ok (.istore 4, 2) := dk_54 4 (dk_at dksX3_path_3 5 rfl rfl)
theorem dX3_path_77 : decode cX3_path 77 = .ok (.iload_n 2, 1) := dk_28 (dk_at dksX3_path_3 7 rfl rfl)
theorem dX3_path_78 : decode cX3_path 78 = .ok (.istore 5, 2) := dk_54 5 (dk_at dksX3_path_3 8 rfl rfl)
theorem dX3_path_80 : decode cX3_path 80 = .ok (.aload_n 0, 1) := dk_42 (dk_at dksX3_path_3 10 rfl rfl)
theorem dX3_path_81 : decode cX3_path 81 = .ok (.iload 5, 2) := dk_21 5 (dk_at dksX3_path_3 11 rfl rfl)
theorem dX3_path_83 : decode cX3_path 83 = .ok (.iload_n 3, 1) := dk_29 (dk_at dksX3_path_3 13 rfl rfl)
theorem dX3_path_84 : decode cX3_path 84 = .ok (.ldc2_w 205, 3) := dk_20 0 205 (dk_at dksX3_path_3 14 rfl rfl)
theorem dX3_path_87 : decode cX3_path 87 = .ok (.invokevirtual 199, 3) := dk_182 0 199 (dk_at dksX3_path_3 17 rfl rfl)
theorem dX3_path_90 : decode cX3_path 90 = .ok (.ifCond .eq 12, 3) := dk_153 0 12 (dk_at dksX3_path_3 20 rfl rfl)
theorem dX3_path_93 : decode cX3_path 93 = .ok (.iinc 5 3, 3) := dk_132 5 3 (dk_at dksX3_path_4 0 rfl rfl)
theorem dX3_path_96 : decode cX3_path 96 = .ok (.iinc 4 1, 3) := dk_132 4 1 (dk_at dksX3_path_4 3 rfl rfl)
theorem dX3_path_99 : decode cX3_path 99 = .ok (.goto (-19), 3) := dk_167 255 237 (dk_at dksX3_path_4 6 rfl rfl)
theorem dX3_path_102 : decode cX3_path 102 = .ok (.iload 4, 2) := dk_21 4 (dk_at dksX3_path_4 9 rfl rfl)
theorem dX3_path_104 : decode cX3_path 104 = .ok (.aload_n 0, 1) := dk_42 (dk_at dksX3_path_4 11 rfl rfl)
theorem dX3_path_105 : decode cX3_path 105 = .ok (.getfield 122, 3) := dk_180 0 122 (dk_at dksX3_path_4 12 rfl rfl)
theorem dX3_path_108 : decode cX3_path 108 = .ok (.if_icmp .lt 11, 3) := dk_161 0 11 (dk_at dksX3_path_4 15 rfl rfl)
theorem dX3_path_111 : decode cX3_path 111 = .ok (.aload_n 0, 1) := dk_42 (dk_at dksX3_path_4 18 rfl rfl)
theorem dX3_path_112 : decode cX3_path 112 = .ok (.iload_n 1, 1) := dk_27 (dk_at dksX3_path_4 19 rfl rfl)
theorem dX3_path_113 : decode cX3_path 113 = .ok (.invokevirtual 310, 3) := dk_182 1 54 (dk_at dksX3_path_4 20 rfl rfl)
theorem dX3_path_116 : decode cX3_path 116 = .ok (.goto 17, 3) := dk_167 0 17 (dk_at dksX3_path_5 0 rfl rfl)
theorem dX3_path_119 : decode cX3_path 119 = .ok (.aload_n 0, 1) := dk_42 (dk_at dksX3_path_5 3 rfl rfl)
theorem dX3_path_120 : decode cX3_path 120 = .ok (.iload_n 1, 1) := dk_27 (dk_at dksX3_path_5 4 rfl rfl)
theorem dX3_path_121 : decode cX3_path 121 = .ok (.iconst 2, 1) := dk_5 (dk_at dksX3_path_5 5 rfl rfl)
theorem dX3_path_122 : decode cX3_path 122 = .ok (.aload_n 0, 1) := dk_42 (dk_at dksX3_path_5 6 rfl rfl)
theorem dX3_path_123 : decode cX3_path 123 = .ok (.getfield 122, 3) := dk_180 0 122 (dk_at dksX3_path_5 7 rfl rfl)
theorem dX3_path_126 : decode cX3_path 126 = .ok (.iadd, 1) := dk_96 (dk_at dksX3_path_5 10 rfl rfl)
theorem dX3_path_127 : decode cX3_path 127 = .ok (.iload 4, 2) := dk_21 4 (dk_at dksX3_path_5 11 rfl rfl)
theorem dX3_path_129 : decode cX3_path 129 = .ok (.isub, 1) := dk_100 (dk_at dksX3_path_5 13 rfl rfl)
theorem dX3_path_130 : decode cX3_path 130 = .ok (.invokevirtual 323, 3) := dk_182 1 67 (dk_at dksX3_path_5 14 rfl rfl)
theorem dX3_path_133 : decode cX3_path 133 = .ok (.aload_n 0, 1) := dk_42 (dk_at dksX3_path_5 17 rfl rfl)
theorem dX3_path_134 : decode cX3_path 134 = .ok (.iload 5, 2) := dk_21 5 (dk_at dksX3_path_5 18 rfl rfl)
theorem dX3_path_136 : decode cX3_path 136 = .ok (.iload_n 3, 1) := dk_29 (dk_at dksX3_path_5 20 rfl rfl)
theorem dX3_path_137 : decode cX3_path 137 = .ok (.invokevirtual 207, 3) := dk_182 0 207 (dk_at dksX3_path_5 21 rfl rfl)
theorem dX3_path_140 : decode cX3_path 140 = .ok (.istore 6, 2) := dk_54 6 (dk_at dksX3_path_6 0 rfl rfl)
theorem dX3_path_142 : decode cX3_path 142 = .ok (.iload 6, 2) := dk_21 6 (dk_at dksX3_path_6 2 rfl rfl)
theorem dX3_path_144 : decode cX3_path 144 = .ok (.iconst 4, 1) := dk_7 (dk_at dksX3_path_6 4 rfl rfl)
theorem dX3_path_145 : decode cX3_path 145 = .ok (.if_icmp .ne 31, 3) := dk_160 0 31 (dk_at dksX3_path_6 5 rfl rfl)
theorem dX3_path_148 : decode cX3_path 148 = .ok (.aload_n 0, 1) := dk_42 (dk_at dksX3_path_6 8 rfl rfl)
theorem dX3_path_149 : decode cX3_path 149 = .ok (.iload 5, 2) := dk_21 5 (dk_at dksX3_path_6 9 rfl rfl)
theorem dX3_path_151 : decode cX3_path 151 = .ok (.iload_n 3, 1) := dk_29 (dk_at dksX3_path_6 11 rfl rfl)
theorem dX3_path_152 : decode cX3_path 152 = .ok (.ldc2_w 210, 3) := dk_20 0 210 (dk_at dksX3_path_6 12 rfl rfl)
theorem dX3_path_155 : decode cX3_path 155 = .ok (.invokevirtual 199, 3) := dk_182 0 199 (dk_at dksX3_path_6 15 rfl rfl)
theorem dX3_path_158 : decode cX3_path 158 = .ok (.ifCond .eq 18, 3) := dk_153 0 18 (dk_at dksX3_path_6 18 rfl rfl)
theorem dX3_path_161 : decode cX3_path 161 = .ok (.aload_n 0, 1) := dk_42 (dk_at dksX3_path_6 21 rfl rfl)
theorem dX3_path_162 : decode cX3_path 162 = .ok (.iload 5, 2) := dk_21 5 (dk_at dksX3_path_6 22 rfl rfl)
theorem dX3_path_164 : decode cX3_path 164 = .ok (.iconst 4, 1) := dk_7 (dk_at dksX3_path_7 0 rfl rfl)
theorem dX3_path_165 : decode cX3_path 165 = .ok (.iadd, 1) := dk_96 (dk_at dksX3_path_7 1 rfl rfl)
theorem dX3_path_166 : decode cX3_path 166 = .ok (.iload_n 3, 1) := dk_29 (dk_at dksX3_path_7 2 rfl rfl)
theorem dX3_path_167 : decode cX3_path 167 = .ok (.invokevirtual 194, 3) := dk_182 0 194 (dk_at dksX3_path_7 3 rfl rfl)
theorem dX3_path_170 : decode cX3_path 170 = .ok (.bipush 46, 2) := dk_16 46 (dk_at dksX3_path_7 6 rfl rfl)
theorem dX3_path_172 : decode cX3_path 172 = .ok (.if_icmp .eq 4, 3) := dk_159 0 4 (dk_at dksX3_path_7 8 rfl rfl)
theorem dX3_path_175 : decode cX3_path 175 = .ok (.return_, 1) := dk_177 (dk_at dksX3_path_7 11 rfl rfl)
theorem dX3_path_176 : decode cX3_path 176 = .ok (.aload_n 0, 1) := dk_42 (dk_at dksX3_path_7 12 rfl rfl)
theorem dX3_path_177 : decode cX3_path 177 = .ok (.iload_n 1, 1) := dk_27 (dk_at dksX3_path_7 13 rfl rfl)
theorem dX3_path_178 : decode cX3_path 178 = .ok (.iload 5, 2) := dk_21 5 (dk_at dksX3_path_7 14 rfl rfl)
theorem dX3_path_180 : decode cX3_path 180 = .ok (.iload 6, 2) := dk_21 6 (dk_at dksX3_path_7 16 rfl rfl)
theorem dX3_path_182 : decode cX3_path 182 = .ok (.invokevirtual 326, 3) := dk_182 1 70 (dk_at dksX3_path_7 18 rfl rfl)
theorem dX3_path_185 : decode cX3_path 185 = .ok (.iload 5, 2) := dk_21 5 (dk_at dksX3_path_7 21 rfl rfl)
theorem dX3_path_187 : decode cX3_path 187 = .ok (.iload 6, 2) := dk_21 6 (dk_at dksX3_path_8 0 rfl rfl)
theorem dX3_path_189 : decode cX3_path 189 = .ok (.iadd, 1) := dk_96 (dk_at dksX3_path_8 2 rfl rfl)
theorem dX3_path_190 : decode cX3_path 190 = .ok (.istore 5, 2) := dk_54 5 (dk_at dksX3_path_8 3 rfl rfl)
theorem dX3_path_192 : decode cX3_path 192 = .ok (.aload_n 0, 1) := dk_42 (dk_at dksX3_path_8 5 rfl rfl)
theorem dX3_path_193 : decode cX3_path 193 = .ok (.iload 5, 2) := dk_21 5 (dk_at dksX3_path_8 6 rfl rfl)
theorem dX3_path_195 : decode cX3_path 195 = .ok (.iload_n 3, 1) := dk_29 (dk_at dksX3_path_8 8 rfl rfl)
theorem dX3_path_196 : decode cX3_path 196 = .ok (.invokevirtual 194, 3) := dk_182 0 194 (dk_at dksX3_path_8 9 rfl rfl)
theorem dX3_path_199 : decode cX3_path 199 = .ok (.bipush 46, 2) := dk_16 46 (dk_at dksX3_path_8 12 rfl rfl)
theorem dX3_path_201 : decode cX3_path 201 = .ok (.if_icmp .ne 65, 3) := dk_160 0 65 (dk_at dksX3_path_8 14 rfl rfl)
theorem dX3_path_204 : decode cX3_path 204 = .ok (.aload_n 0, 1) := dk_42 (dk_at dksX3_path_8 17 rfl rfl)
theorem dX3_path_205 : decode cX3_path 205 = .ok (.iload 5, 2) := dk_21 5 (dk_at dksX3_path_8 18 rfl rfl)
theorem dX3_path_207 : decode cX3_path 207 = .ok (.iconst 1, 1) := dk_4 (dk_at dksX3_path_8 20 rfl rfl)
theorem dX3_path_208 : decode cX3_path 208 = .ok (.iadd, 1) := dk_96 (dk_at dksX3_path_8 21 rfl rfl)
theorem dX3_path_209 : decode cX3_path 209 = .ok (.iload_n 3, 1) := dk_29 (dk_at dksX3_path_8 22 rfl rfl)
theorem dX3_path_210 : decode cX3_path 210 = .ok (.invokevirtual 207, 3) := dk_182 0 207 (dk_at dksX3_path_9 0 rfl rfl)
theorem dX3_path_213 : decode cX3_path 213 = .ok (.istore 6, 2) := dk_54 6 (dk_at dksX3_path_9 3 rfl rfl)
theorem dX3_path_215 : decode cX3_path 215 = .ok (.iload 6, 2) := dk_21 6 (dk_at dksX3_path_9 5 rfl rfl)
theorem dX3_path_217 : decode cX3_path 217 = .ok (.ifCond .le 17, 3) := dk_158 0 17 (dk_at dksX3_path_9 7 rfl rfl)
theorem dX3_path_220 : decode cX3_path 220 = .ok (.aload_n 0, 1) := dk_42 (dk_at dksX3_path_9 10 rfl rfl)
theorem dX3_path_221 : decode cX3_path 221 = .ok (.iload_n 1, 1) := dk_27 (dk_at dksX3_path_9 11 rfl rfl)
theorem dX3_path_222 : decode cX3_path 222 = .ok (.iload 5, 2) := dk_21 5 (dk_at dksX3_path_9 12 rfl rfl)
theorem dX3_path_224 : decode cX3_path 224 = .ok (.iconst 1, 1) := dk_4 (dk_at dksX3_path_9 14 rfl rfl)
theorem dX3_path_225 : decode cX3_path 225 = .ok (.iadd, 1) := dk_96 (dk_at dksX3_path_9 15 rfl rfl)
theorem dX3_path_226 : decode cX3_path 226 = .ok (.iload 6, 2) := dk_21 6 (dk_at dksX3_path_9 16 rfl rfl)
theorem dX3_path_228 : decode cX3_path 228 = .ok (.invokevirtual 326, 3) := dk_182 1 70 (dk_at dksX3_path_9 18 rfl rfl)
theorem dX3_path_231 : decode cX3_path 231 = .ok (.goto 23, 3) := dk_167 0 23 (dk_at dksX3_path_9 21 rfl rfl)
theorem dX3_path_234 : decode cX3_path 234 = .ok (.iconst 1, 1) := dk_4 (dk_at dksX3_path_10 0 rfl rfl)
theorem dX3_path_235 : decode cX3_path 235 = .ok (.istore 6, 2) := dk_54 6 (dk_at dksX3_path_10 1 rfl rfl)
theorem dX3_path_237 : decode cX3_path 237 = .ok (.aload_n 0, 1) := dk_42 (dk_at dksX3_path_10 3 rfl rfl)
theorem dX3_path_238 : decode cX3_path 238 = .ok (.iload_n 1, 1) := dk_27 (dk_at dksX3_path_10 4 rfl rfl)
theorem dX3_path_239 : decode cX3_path 239 = .ok (.aload_n 0, 1) := dk_42 (dk_at dksX3_path_10 5 rfl rfl)
theorem dX3_path_240 : decode cX3_path 240 = .ok (.getfield 56, 3) := dk_180 0 56 (dk_at dksX3_path_10 6 rfl rfl)
theorem dX3_path_243 : decode cX3_path 243 = .ok (.iload 5, 2) := dk_21 5 (dk_at dksX3_path_10 9 rfl rfl)
theorem dX3_path_245 : decode cX3_path 245 = .ok (.iconst 1, 1) := dk_4 (dk_at dksX3_path_10 11 rfl rfl)
theorem dX3_path_246 : decode cX3_path 246 = .ok (.iadd, 1) := dk_96 (dk_at dksX3_path_10 12 rfl rfl)
theorem dX3_path_247 : decode cX3_path 247 = .ok (.caload, 1) := dk_52 (dk_at dksX3_path_10 13 rfl rfl)
theorem dX3_path_248 : decode cX3_path 248 = .ok (.bipush 48, 2) := dk_16 48 (dk_at dksX3_path_10 14 rfl rfl)
theorem dX3_path_250 : decode cX3_path 250 = .ok (.isub, 1) := dk_100 (dk_at dksX3_path_10 16 rfl rfl)
theorem dX3_path_251 : decode cX3_path 251 = .ok (.invokevirtual 330, 3) := dk_182 1 74 (dk_at dksX3_path_10 17 rfl rfl)
theorem dX3_path_254 : decode cX3_path 254 = .ok (.iload 5, 2) := dk_21 5 (dk_at dksX3_path_10 20 rfl rfl)
theorem dX3_path_256 : decode cX3_path 256 = .ok (.iconst 1, 1) := dk_4 (dk_at dksX3_path_10 22 rfl rfl)
theorem dX3_path_257 : decode cX3_path 257 = .ok (.iload 6, 2) := dk_21 6 (dk_at dksX3_path_11 0 rfl rfl)
theorem dX3_path_259 : decode cX3_path 259 = .ok (.iadd, 1) := dk_96 (dk_at dksX3_path_11 2 rfl rfl)
theorem dX3_path_260 : decode cX3_path 260 = .ok (.iadd, 1) := dk_96 (dk_at dksX3_path_11 3 rfl rfl)
theorem dX3_path_261 : decode cX3_path 261 = .ok (.istore 5, 2) := dk_54 5 (dk_at dksX3_path_11 4 rfl rfl)
theorem dX3_path_263 : decode cX3_path 263 = .ok (.goto (-71), 3) := dk_167 255 185 (dk_at dksX3_path_11 6 rfl rfl)
theorem dX3_path_266 : decode cX3_path 266 = .ok (.return_, 1) := dk_177 (dk_at dksX3_path_11 9 rfl rfl)
abbrev cX3_loop : ByteArray := prog_24_method_48_code
def yX3_loop : MethodName := ⟨RX3, "loop", "()I"⟩
def dkwX3_loop_2 : List UInt8 := [172, 132, 1, 255, 167, 255, 212, 2, 172]
abbrev dktX3_loop_2 : List UInt8 := dkwX3_loop_2 ++ []
def dkwX3_loop_1 : List UInt8 := [180, 0, 80, 42, 180, 0, 137, 27, 46, 46, 7, 160, 0, 14, 42, 180, 0, 152, 27, 51, 154, 0, 5, 27]
abbrev dktX3_loop_1 : List UInt8 := dkwX3_loop_1 ++ dktX3_loop_2
def dkwX3_loop_0 : List UInt8 := [42, 180, 0, 125, 4, 100, 60, 27, 155, 0, 46, 42, 180, 0, 155, 27, 51, 153, 0, 5, 2, 172, 42]
abbrev dktX3_loop_0 : List UInt8 := dkwX3_loop_0 ++ dktX3_loop_1
theorem dksX3_loop_0 : cX3_loop.data.toList.drop 0 = dktX3_loop_0 := by decide +kernel
theorem dksX3_loop_1 : cX3_loop.data.toList.drop 23 = dktX3_loop_1 := dk_seg dksX3_loop_0 23 rfl rfl
theorem dksX3_loop_2 : cX3_loop.data.toList.drop 47 = dktX3_loop_2 := dk_seg dksX3_loop_1 24 rfl rfl
theorem dX3_loop_0 : decode cX3_loop 0 = .ok (.aload_n 0, 1) := dk_42 (dk_at dksX3_loop_0 0 rfl rfl)
theorem dX3_loop_1 : decode cX3_loop 1 = .ok (.getfield 125, 3) := dk_180 0 125 (dk_at dksX3_loop_0 1 rfl rfl)
theorem dX3_loop_4 : decode cX3_loop 4 = .ok (.iconst 1, 1) := dk_4 (dk_at dksX3_loop_0 4 rfl rfl)
theorem dX3_loop_5 : decode cX3_loop 5 = .ok (.isub, 1) := dk_100 (dk_at dksX3_loop_0 5 rfl rfl)
theorem dX3_loop_6 : decode cX3_loop 6 = .ok (.istore_n 1, 1) := dk_60 (dk_at dksX3_loop_0 6 rfl rfl)
theorem dX3_loop_7 : decode cX3_loop 7 = .ok (.iload_n 1, 1) := dk_27 (dk_at dksX3_loop_0 7 rfl rfl)
theorem dX3_loop_8 : decode cX3_loop 8 = .ok (.ifCond .lt 46, 3) := dk_155 0 46 (dk_at dksX3_loop_0 8 rfl rfl)
theorem dX3_loop_11 : decode cX3_loop 11 = .ok (.aload_n 0, 1) := dk_42 (dk_at dksX3_loop_0 11 rfl rfl)
theorem dX3_loop_12 : decode cX3_loop 12 = .ok (.getfield 155, 3) := dk_180 0 155 (dk_at dksX3_loop_0 12 rfl rfl)
theorem dX3_loop_15 : decode cX3_loop 15 = .ok (.iload_n 1, 1) := dk_27 (dk_at dksX3_loop_0 15 rfl rfl)
theorem dX3_loop_16 : decode cX3_loop 16 = .ok (.baload, 1) := dk_51 (dk_at dksX3_loop_0 16 rfl rfl)
theorem dX3_loop_17 : decode cX3_loop 17 = .ok (.ifCond .eq 5, 3) := dk_153 0 5 (dk_at dksX3_loop_0 17 rfl rfl)
theorem dX3_loop_20 : decode cX3_loop 20 = .ok (.iconst (-1), 1) := dk_2 (dk_at dksX3_loop_0 20 rfl rfl)
theorem dX3_loop_21 : decode cX3_loop 21 = .ok (.ireturn, 1) := dk_172 (dk_at dksX3_loop_0 21 rfl rfl)
theorem dX3_loop_22 : decode cX3_loop 22 = .ok (.aload_n 0, 1) := dk_42 (dk_at dksX3_loop_0 22 rfl rfl)
theorem dX3_loop_23 : decode cX3_loop 23 = .ok (.getfield 80, 3) := dk_180 0 80 (dk_at dksX3_loop_1 0 rfl rfl)
theorem dX3_loop_26 : decode cX3_loop 26 = .ok (.aload_n 0, 1) := dk_42 (dk_at dksX3_loop_1 3 rfl rfl)
theorem dX3_loop_27 : decode cX3_loop 27 = .ok (.getfield 137, 3) := dk_180 0 137 (dk_at dksX3_loop_1 4 rfl rfl)
theorem dX3_loop_30 : decode cX3_loop 30 = .ok (.iload_n 1, 1) := dk_27 (dk_at dksX3_loop_1 7 rfl rfl)
theorem dX3_loop_31 : decode cX3_loop 31 = .ok (.iaload, 1) := dk_46 (dk_at dksX3_loop_1 8 rfl rfl)
theorem dX3_loop_32 : decode cX3_loop 32 = .ok (.iaload, 1) := dk_46 (dk_at dksX3_loop_1 9 rfl rfl)
theorem dX3_loop_33 : decode cX3_loop 33 = .ok (.iconst 4, 1) := dk_7 (dk_at dksX3_loop_1 10 rfl rfl)
theorem dX3_loop_34 : decode cX3_loop 34 = .ok (.if_icmp .ne 14, 3) := dk_160 0 14 (dk_at dksX3_loop_1 11 rfl rfl)
theorem dX3_loop_37 : decode cX3_loop 37 = .ok (.aload_n 0, 1) := dk_42 (dk_at dksX3_loop_1 14 rfl rfl)
theorem dX3_loop_38 : decode cX3_loop 38 = .ok (.getfield 152, 3) := dk_180 0 152 (dk_at dksX3_loop_1 15 rfl rfl)
theorem dX3_loop_41 : decode cX3_loop 41 = .ok (.iload_n 1, 1) := dk_27 (dk_at dksX3_loop_1 18 rfl rfl)
theorem dX3_loop_42 : decode cX3_loop 42 = .ok (.baload, 1) := dk_51 (dk_at dksX3_loop_1 19 rfl rfl)
theorem dX3_loop_43 : decode cX3_loop 43 = .ok (.ifCond .ne 5, 3) := dk_154 0 5 (dk_at dksX3_loop_1 20 rfl rfl)
theorem dX3_loop_46 : decode cX3_loop 46 = .ok (.iload_n 1, 1) := dk_27 (dk_at dksX3_loop_1 23 rfl rfl)
theorem dX3_loop_47 : decode cX3_loop 47 = .ok (.ireturn, 1) := dk_172 (dk_at dksX3_loop_2 0 rfl rfl)
theorem dX3_loop_48 : decode cX3_loop 48 = .ok (.iinc 1 (-1), 3) := dk_132 1 255 (dk_at dksX3_loop_2 1 rfl rfl)
theorem dX3_loop_51 : decode cX3_loop 51 = .ok (.goto (-44), 3) := dk_167 255 212 (dk_at dksX3_loop_2 4 rfl rfl)
theorem dX3_loop_54 : decode cX3_loop 54 = .ok (.iconst (-1), 1) := dk_2 (dk_at dksX3_loop_2 7 rfl rfl)
theorem dX3_loop_55 : decode cX3_loop 55 = .ok (.ireturn, 1) := dk_172 (dk_at dksX3_loop_2 8 rfl rfl)
abbrev cX3_nothing : ByteArray := prog_24_method_34_code
def yX3_nothing : MethodName := ⟨RX3, "nothing", "(I)V"⟩
def dkwX3_nothing_0 : List UInt8 := [42, 180, 0, 92, 27, 2, 79, 177]
abbrev dktX3_nothing_0 : List UInt8 := dkwX3_nothing_0 ++ []
theorem dksX3_nothing_0 : cX3_nothing.data.toList.drop 0 = dktX3_nothing_0 := by decide +kernel
theorem dX3_nothing_0 : decode cX3_nothing 0 = .ok (.aload_n 0, 1) := dk_42 (dk_at dksX3_nothing_0 0 rfl rfl)
theorem dX3_nothing_1 : decode cX3_nothing 1 = .ok (.getfield 92, 3) := dk_180 0 92 (dk_at dksX3_nothing_0 1 rfl rfl)
theorem dX3_nothing_4 : decode cX3_nothing 4 = .ok (.iload_n 1, 1) := dk_27 (dk_at dksX3_nothing_0 4 rfl rfl)
theorem dX3_nothing_5 : decode cX3_nothing 5 = .ok (.iconst (-1), 1) := dk_2 (dk_at dksX3_nothing_0 5 rfl rfl)
theorem dX3_nothing_6 : decode cX3_nothing 6 = .ok (.iastore, 1) := dk_79 (dk_at dksX3_nothing_0 6 rfl rfl)
theorem dX3_nothing_7 : decode cX3_nothing 7 = .ok (.return_, 1) := dk_177 (dk_at dksX3_nothing_0 7 rfl rfl)
abbrev cX3_copy : ByteArray := prog_24_method_38_code
def yX3_copy : MethodName := ⟨RX3, "copy", "(II)V"⟩
def dkwX3_copy_3 : List UInt8 := [180, 0, 101, 28, 17, 1, 144, 104, 29, 96, 52, 85, 132, 3, 1, 167, 255, 209, 177]
abbrev dktX3_copy_3 : List UInt8 := dkwX3_copy_3 ++ []
def dkwX3_copy_2 : List UInt8 := [42, 180, 0, 92, 28, 46, 4, 160, 0, 33, 42, 180, 0, 101, 27, 17, 1, 144, 104, 29, 96, 42]
abbrev dktX3_copy_2 : List UInt8 := dkwX3_copy_2 ++ dktX3_copy_3
def dkwX3_copy_1 : List UInt8 := [42, 180, 0, 98, 27, 42, 180, 0, 98, 28, 46, 79, 3, 62, 29, 42, 180, 0, 98, 28, 46, 162, 0, 43]
abbrev dktX3_copy_1 : List UInt8 := dkwX3_copy_1 ++ dktX3_copy_2
def dkwX3_copy_0 : List UInt8 := [42, 180, 0, 92, 27, 42, 180, 0, 92, 28, 46, 79, 42, 180, 0, 95, 27, 42, 180, 0, 95, 28, 46, 79]
abbrev dktX3_copy_0 : List UInt8 := dkwX3_copy_0 ++ dktX3_copy_1
theorem dksX3_copy_0 : cX3_copy.data.toList.drop 0 = dktX3_copy_0 := by decide +kernel
theorem dksX3_copy_1 : cX3_copy.data.toList.drop 24 = dktX3_copy_1 := dk_seg dksX3_copy_0 24 rfl rfl
theorem dksX3_copy_2 : cX3_copy.data.toList.drop 48 = dktX3_copy_2 := dk_seg dksX3_copy_1 24 rfl rfl
theorem dksX3_copy_3 : cX3_copy.data.toList.drop 70 = dktX3_copy_3 := dk_seg dksX3_copy_2 22 rfl rfl
theorem dX3_copy_0 : decode cX3_copy 0 = .ok (.aload_n 0, 1) := dk_42 (dk_at dksX3_copy_0 0 rfl rfl)
theorem dX3_copy_1 : decode cX3_copy 1 = .ok (.getfield 92, 3) := dk_180 0 92 (dk_at dksX3_copy_0 1 rfl rfl)
theorem dX3_copy_4 : decode cX3_copy 4 = .ok (.iload_n 1, 1) := dk_27 (dk_at dksX3_copy_0 4 rfl rfl)
theorem dX3_copy_5 : decode cX3_copy 5 = .ok (.aload_n 0, 1) := dk_42 (dk_at dksX3_copy_0 5 rfl rfl)
theorem dX3_copy_6 : decode cX3_copy 6 = .ok (.getfield 92, 3) := dk_180 0 92 (dk_at dksX3_copy_0 6 rfl rfl)
theorem dX3_copy_9 : decode cX3_copy 9 = .ok (.iload_n 2, 1) := dk_28 (dk_at dksX3_copy_0 9 rfl rfl)
theorem dX3_copy_10 : decode cX3_copy 10 = .ok (.iaload, 1) := dk_46 (dk_at dksX3_copy_0 10 rfl rfl)
theorem dX3_copy_11 : decode cX3_copy 11 = .ok (.iastore, 1) := dk_79 (dk_at dksX3_copy_0 11 rfl rfl)
theorem dX3_copy_12 : decode cX3_copy 12 = .ok (.aload_n 0, 1) := dk_42 (dk_at dksX3_copy_0 12 rfl rfl)
theorem dX3_copy_13 : decode cX3_copy 13 = .ok (.getfield 95, 3) := dk_180 0 95 (dk_at dksX3_copy_0 13 rfl rfl)
theorem dX3_copy_16 : decode cX3_copy 16 = .ok (.iload_n 1, 1) := dk_27 (dk_at dksX3_copy_0 16 rfl rfl)
theorem dX3_copy_17 : decode cX3_copy 17 = .ok (.aload_n 0, 1) := dk_42 (dk_at dksX3_copy_0 17 rfl rfl)
theorem dX3_copy_18 : decode cX3_copy 18 = .ok (.getfield 95, 3) := dk_180 0 95 (dk_at dksX3_copy_0 18 rfl rfl)
theorem dX3_copy_21 : decode cX3_copy 21 = .ok (.iload_n 2, 1) := dk_28 (dk_at dksX3_copy_0 21 rfl rfl)
theorem dX3_copy_22 : decode cX3_copy 22 = .ok (.iaload, 1) := dk_46 (dk_at dksX3_copy_0 22 rfl rfl)
theorem dX3_copy_23 : decode cX3_copy 23 = .ok (.iastore, 1) := dk_79 (dk_at dksX3_copy_0 23 rfl rfl)
theorem dX3_copy_24 : decode cX3_copy 24 = .ok (.aload_n 0, 1) := dk_42 (dk_at dksX3_copy_1 0 rfl rfl)
theorem dX3_copy_25 : decode cX3_copy 25 = .ok (.getfield 98, 3) := dk_180 0 98 (dk_at dksX3_copy_1 1 rfl rfl)
theorem dX3_copy_28 : decode cX3_copy 28 = .ok (.iload_n 1, 1) := dk_27 (dk_at dksX3_copy_1 4 rfl rfl)
theorem dX3_copy_29 : decode cX3_copy 29 = .ok (.aload_n 0, 1) := dk_42 (dk_at dksX3_copy_1 5 rfl rfl)
theorem dX3_copy_30 : decode cX3_copy 30 = .ok (.getfield 98, 3) := dk_180 0 98 (dk_at dksX3_copy_1 6 rfl rfl)
theorem dX3_copy_33 : decode cX3_copy 33 = .ok (.iload_n 2, 1) := dk_28 (dk_at dksX3_copy_1 9 rfl rfl)
theorem dX3_copy_34 : decode cX3_copy 34 = .ok (.iaload, 1) := dk_46 (dk_at dksX3_copy_1 10 rfl rfl)
theorem dX3_copy_35 : decode cX3_copy 35 = .ok (.iastore, 1) := dk_79 (dk_at dksX3_copy_1 11 rfl rfl)
theorem dX3_copy_36 : decode cX3_copy 36 = .ok (.iconst 0, 1) := dk_3 (dk_at dksX3_copy_1 12 rfl rfl)
theorem dX3_copy_37 : decode cX3_copy 37 = .ok (.istore_n 3, 1) := dk_62 (dk_at dksX3_copy_1 13 rfl rfl)
theorem dX3_copy_38 : decode cX3_copy 38 = .ok (.iload_n 3, 1) := dk_29 (dk_at dksX3_copy_1 14 rfl rfl)
theorem dX3_copy_39 : decode cX3_copy 39 = .ok (.aload_n 0, 1) := dk_42 (dk_at dksX3_copy_1 15 rfl rfl)
theorem dX3_copy_40 : decode cX3_copy 40 = .ok (.getfield 98, 3) := dk_180 0 98 (dk_at dksX3_copy_1 16 rfl rfl)
theorem dX3_copy_43 : decode cX3_copy 43 = .ok (.iload_n 2, 1) := dk_28 (dk_at dksX3_copy_1 19 rfl rfl)
theorem dX3_copy_44 : decode cX3_copy 44 = .ok (.iaload, 1) := dk_46 (dk_at dksX3_copy_1 20 rfl rfl)
theorem dX3_copy_45 : decode cX3_copy 45 = .ok (.if_icmp .ge 43, 3) := dk_162 0 43 (dk_at dksX3_copy_1 21 rfl rfl)
theorem dX3_copy_48 : decode cX3_copy 48 = .ok (.aload_n 0, 1) := dk_42 (dk_at dksX3_copy_2 0 rfl rfl)
theorem dX3_copy_49 : decode cX3_copy 49 = .ok (.getfield 92, 3) := dk_180 0 92 (dk_at dksX3_copy_2 1 rfl rfl)
theorem dX3_copy_52 : decode cX3_copy 52 = .ok (.iload_n 2, 1) := dk_28 (dk_at dksX3_copy_2 4 rfl rfl)
theorem dX3_copy_53 : decode cX3_copy 53 = .ok (.iaload, 1) := dk_46 (dk_at dksX3_copy_2 5 rfl rfl)
theorem dX3_copy_54 : decode cX3_copy 54 = .ok (.iconst 1, 1) := dk_4 (dk_at dksX3_copy_2 6 rfl rfl)
theorem dX3_copy_55 : decode cX3_copy 55 = .ok (.if_icmp .ne 33, 3) := dk_160 0 33 (dk_at dksX3_copy_2 7 rfl rfl)
theorem dX3_copy_58 : decode cX3_copy 58 = .ok (.aload_n 0, 1) := dk_42 (dk_at dksX3_copy_2 10 rfl rfl)
theorem dX3_copy_59 : decode cX3_copy 59 = .ok (.getfield 101, 3) := dk_180 0 101 (dk_at dksX3_copy_2 11 rfl rfl)
theorem dX3_copy_62 : decode cX3_copy 62 = .ok (.iload_n 1, 1) := dk_27 (dk_at dksX3_copy_2 14 rfl rfl)
theorem dX3_copy_63 : decode cX3_copy 63 = .ok (.sipush 400, 3) := dk_17 1 144 (dk_at dksX3_copy_2 15 rfl rfl)
theorem dX3_copy_66 : decode cX3_copy 66 = .ok (.imul, 1) := dk_104 (dk_at dksX3_copy_2 18 rfl rfl)
theorem dX3_copy_67 : decode cX3_copy 67 = .ok (.iload_n 3, 1) := dk_29 (dk_at dksX3_copy_2 19 rfl rfl)
theorem dX3_copy_68 : decode cX3_copy 68 = .ok (.iadd, 1) := dk_96 (dk_at dksX3_copy_2 20 rfl rfl)
theorem dX3_copy_69 : decode cX3_copy 69 = .ok (.aload_n 0, 1) := dk_42 (dk_at dksX3_copy_2 21 rfl rfl)
theorem dX3_copy_70 : decode cX3_copy 70 = .ok (.getfield 101, 3) := dk_180 0 101 (dk_at dksX3_copy_3 0 rfl rfl)
theorem dX3_copy_73 : decode cX3_copy 73 = .ok (.iload_n 2, 1) := dk_28 (dk_at dksX3_copy_3 3 rfl rfl)
theorem dX3_copy_74 : decode cX3_copy 74 = .ok (.sipush 400, 3) := dk_17 1 144 (dk_at dksX3_copy_3 4 rfl rfl)
theorem dX3_copy_77 : decode cX3_copy 77 = .ok (.imul, 1) := dk_104 (dk_at dksX3_copy_3 7 rfl rfl)
theorem dX3_copy_78 : decode cX3_copy 78 = .ok (.iload_n 3, 1) := dk_29 (dk_at dksX3_copy_3 8 rfl rfl)
theorem dX3_copy_79 : decode cX3_copy 79 = .ok (.iadd, 1) := dk_96 (dk_at dksX3_copy_3 9 rfl rfl)
theorem dX3_copy_80 : decode cX3_copy 80 = .ok (.caload, 1) := dk_52 (dk_at dksX3_copy_3 10 rfl rfl)
theorem dX3_copy_81 : decode cX3_copy 81 = .ok (.castore, 1) := dk_85 (dk_at dksX3_copy_3 11 rfl rfl)
theorem dX3_copy_82 : decode cX3_copy 82 = .ok (.iinc 3 1, 3) := dk_132 3 1 (dk_at dksX3_copy_3 12 rfl rfl)
theorem dX3_copy_85 : decode cX3_copy 85 = .ok (.goto (-47), 3) := dk_167 255 209 (dk_at dksX3_copy_3 15 rfl rfl)
theorem dX3_copy_88 : decode cX3_copy 88 = .ok (.return_, 1) := dk_177 (dk_at dksX3_copy_3 18 rfl rfl)
abbrev cX3_member : ByteArray := prog_24_method_47_code
def yX3_member : MethodName := ⟨RX3, "member", "(III)V"⟩
def dkwX3_member_4 : List UInt8 := [16, 10, 104, 21, 6, 96, 46, 182, 1, 57, 177]
abbrev dktX3_member_4 : List UInt8 := dkwX3_member_4 ++ []
def dkwX3_member_3 : List UInt8 := [156, 0, 11, 42, 27, 182, 1, 54, 167, 0, 25, 42, 27, 42, 180, 0, 45, 42, 180, 0, 95, 27, 46]
abbrev dktX3_member_3 : List UInt8 := dkwX3_member_3 ++ dktX3_member_4
def dkwX3_member_2 : List UInt8 := [160, 0, 18, 42, 42, 180, 0, 95, 27, 46, 22, 4, 182, 0, 188, 167, 0, 4, 2, 54, 6, 21, 6]
abbrev dktX3_member_2 : List UInt8 := dkwX3_member_2 ++ dktX3_member_3
def dkwX3_member_1 : List UInt8 := [21, 6, 52, 133, 97, 20, 0, 182, 101, 55, 4, 132, 6, 1, 167, 255, 224, 42, 180, 0, 92, 27, 46, 6]
abbrev dktX3_member_1 : List UInt8 := dkwX3_member_1 ++ dktX3_member_2
def dkwX3_member_0 : List UInt8 := [9, 55, 4, 28, 54, 6, 21, 6, 28, 29, 96, 162, 0, 30, 22, 4, 20, 0, 180, 105, 42, 180, 0, 56]
abbrev dktX3_member_0 : List UInt8 := dkwX3_member_0 ++ dktX3_member_1
theorem dksX3_member_0 : cX3_member.data.toList.drop 0 = dktX3_member_0 := by decide +kernel
theorem dksX3_member_1 : cX3_member.data.toList.drop 24 = dktX3_member_1 := dk_seg dksX3_member_0 24 rfl rfl
theorem dksX3_member_2 : cX3_member.data.toList.drop 48 = dktX3_member_2 := dk_seg dksX3_member_1 24 rfl rfl
theorem dksX3_member_3 : cX3_member.data.toList.drop 71 = dktX3_member_3 := dk_seg dksX3_member_2 23 rfl rfl
theorem dksX3_member_4 : cX3_member.data.toList.drop 94 = dktX3_member_4 := dk_seg dksX3_member_3 23 rfl rfl
theorem dX3_member_0 : decode cX3_member 0 = .ok (.lconst 0, 1) := dk_9 (dk_at dksX3_member_0 0 rfl rfl)
theorem dX3_member_1 : decode cX3_member 1 = .ok (.lstore 4, 2) := dk_55 4 (dk_at dksX3_member_0 1 rfl rfl)
theorem dX3_member_3 : decode cX3_member 3 = .ok (.iload_n 2, 1) := dk_28 (dk_at dksX3_member_0 3 rfl rfl)
theorem dX3_member_4 : decode cX3_member 4 = .ok (.istore 6, 2) := dk_54 6 (dk_at dksX3_member_0 4 rfl rfl)
theorem dX3_member_6 : decode cX3_member 6 = .ok (.iload 6, 2) := dk_21 6 (dk_at dksX3_member_0 6 rfl rfl)
theorem dX3_member_8 : decode cX3_member 8 = .ok (.iload_n 2, 1) := dk_28 (dk_at dksX3_member_0 8 rfl rfl)
theorem dX3_member_9 : decode cX3_member 9 = .ok (.iload_n 3, 1) := dk_29 (dk_at dksX3_member_0 9 rfl rfl)
theorem dX3_member_10 : decode cX3_member 10 = .ok (.iadd, 1) := dk_96 (dk_at dksX3_member_0 10 rfl rfl)
theorem dX3_member_11 : decode cX3_member 11 = .ok (.if_icmp .ge 30, 3) := dk_162 0 30 (dk_at dksX3_member_0 11 rfl rfl)
theorem dX3_member_14 : decode cX3_member 14 = .ok (.lload 4, 2) := dk_22 4 (dk_at dksX3_member_0 14 rfl rfl)
theorem dX3_member_16 : decode cX3_member 16 = .ok (.ldc2_w 180, 3) := dk_20 0 180 (dk_at dksX3_member_0 16 rfl rfl)
theorem dX3_member_19 : decode cX3_member 19 = .ok (.lmul, 1) := dk_105 (dk_at dksX3_member_0 19 rfl rfl)
theorem dX3_member_20 : decode cX3_member 20 = .ok (.aload_n 0, 1) := dk_42 (dk_at dksX3_member_0 20 rfl rfl)
theorem dX3_member_21 : decode cX3_member 21 = .ok (.getfield 56, 3) := dk_180 0 56 (dk_at dksX3_member_0 21 rfl rfl)
theorem dX3_member_24 : decode cX3_member 24 = .ok (.iload 6, 2) := dk_21 6 (dk_at dksX3_member_1 0 rfl rfl)
theorem dX3_member_26 : decode cX3_member 26 = .ok (.caload, 1) := dk_52 (dk_at dksX3_member_1 2 rfl rfl)
theorem dX3_member_27 : decode cX3_member 27 = .ok (.i2l, 1) := dk_133 (dk_at dksX3_member_1 3 rfl rfl)
theorem dX3_member_28 : decode cX3_member 28 = .ok (.ladd, 1) := dk_97 (dk_at dksX3_member_1 4 rfl rfl)
theorem dX3_member_29 : decode cX3_member 29 = .ok (.ldc2_w 182, 3) := dk_20 0 182 (dk_at dksX3_member_1 5 rfl rfl)
theorem dX3_member_32 : decode cX3_member 32 = .ok (.lsub, 1) := dk_101 (dk_at dksX3_member_1 8 rfl rfl)
theorem dX3_member_33 : decode cX3_member 33 = .ok (.lstore 4, 2) := dk_55 4 (dk_at dksX3_member_1 9 rfl rfl)
theorem dX3_member_35 : decode cX3_member 35 = .ok (.iinc 6 1, 3) := dk_132 6 1 (dk_at dksX3_member_1 11 rfl rfl)
theorem dX3_member_38 : decode cX3_member 38 = .ok (.goto (-32), 3) := dk_167 255 224 (dk_at dksX3_member_1 14 rfl rfl)
theorem dX3_member_41 : decode cX3_member 41 = .ok (.aload_n 0, 1) := dk_42 (dk_at dksX3_member_1 17 rfl rfl)
theorem dX3_member_42 : decode cX3_member 42 = .ok (.getfield 92, 3) := dk_180 0 92 (dk_at dksX3_member_1 18 rfl rfl)
theorem dX3_member_45 : decode cX3_member 45 = .ok (.iload_n 1, 1) := dk_27 (dk_at dksX3_member_1 21 rfl rfl)
theorem dX3_member_46 : decode cX3_member 46 = .ok (.iaload, 1) := dk_46 (dk_at dksX3_member_1 22 rfl rfl)
theorem dX3_member_47 : decode cX3_member 47 = .ok (.iconst 3, 1) := dk_6 (dk_at dksX3_member_1 23 rfl rfl)
theorem dX3_member_48 : decode cX3_member 48 = .ok (.if_icmp .ne 18, 3) := dk_160 0 18 (dk_at dksX3_member_2 0 rfl rfl)
theorem dX3_member_51 : decode cX3_member 51 = .ok (.aload_n 0, 1) := dk_42 (dk_at dksX3_member_2 3 rfl rfl)
theorem dX3_member_52 : decode cX3_member 52 = .ok (.aload_n 0, 1) := dk_42 (dk_at dksX3_member_2 4 rfl rfl)
theorem dX3_member_53 : decode cX3_member 53 = .ok (.getfield 95, 3) := dk_180 0 95 (dk_at dksX3_member_2 5 rfl rfl)
theorem dX3_member_56 : decode cX3_member 56 = .ok (.iload_n 1, 1) := dk_27 (dk_at dksX3_member_2 8 rfl rfl)
theorem dX3_member_57 : decode cX3_member 57 = .ok (.iaload, 1) := dk_46 (dk_at dksX3_member_2 9 rfl rfl)
theorem dX3_member_58 : decode cX3_member 58 = .ok (.lload 4, 2) := dk_22 4 (dk_at dksX3_member_2 10 rfl rfl)
theorem dX3_member_60 : decode cX3_member 60 = .ok (.invokevirtual 188, 3) := dk_182 0 188 (dk_at dksX3_member_2 12 rfl rfl)
theorem dX3_member_63 : decode cX3_member 63 = .ok (.goto 4, 3) := dk_167 0 4 (dk_at dksX3_member_2 15 rfl rfl)
theorem dX3_member_66 : decode cX3_member 66 = .ok (.iconst (-1), 1) := dk_2 (dk_at dksX3_member_2 18 rfl rfl)
theorem dX3_member_67 : decode cX3_member 67 = .ok (.istore 6, 2) := dk_54 6 (dk_at dksX3_member_2 19 rfl rfl)
theorem dX3_member_69 : decode cX3_member 69 = .ok (.iload 6, 2) := dk_21 6 (dk_at dksX3_member_2 21 rfl rfl)
theorem dX3_member_71 : decode cX3_member 71 = .ok (.ifCond .ge 11, 3) := dk_156 0 11 (dk_at dksX3_member_3 0 rfl rfl)
theorem dX3_member_74 : decode cX3_member 74 = .ok (.aload_n 0, 1) := dk_42 (dk_at dksX3_member_3 3 rfl rfl)
theorem dX3_member_75 : decode cX3_member 75 = .ok (.iload_n 1, 1) := dk_27 (dk_at dksX3_member_3 4 rfl rfl)
theorem dX3_member_76 : decode cX3_member 76 = .ok (.invokevirtual 310, 3) := dk_182 1 54 (dk_at dksX3_member_3 5 rfl rfl)
theorem dX3_member_79 : decode cX3_member 79 = .ok (.goto 25, 3) := dk_167 0 25 (dk_at dksX3_member_3 8 rfl rfl)
theorem dX3_member_82 : decode cX3_member 82 = .ok (.aload_n 0, 1) := dk_42 (dk_at dksX3_member_3 11 rfl rfl)
theorem dX3_member_83 : decode cX3_member 83 = .ok (.iload_n 1, 1) := dk_27 (dk_at dksX3_member_3 12 rfl rfl)
theorem dX3_member_84 : decode cX3_member 84 = .ok (.aload_n 0, 1) := dk_42 (dk_at dksX3_member_3 13 rfl rfl)
theorem dX3_member_85 : decode cX3_member 85 = .ok (.getfield 45, 3) := dk_180 0 45 (dk_at dksX3_member_3 14 rfl rfl)
theorem dX3_member_88 : decode cX3_member 88 = .ok (.aload_n 0, 1) := dk_42 (dk_at dksX3_member_3 17 rfl rfl)
theorem dX3_member_89 : decode cX3_member 89 = .ok (.getfield 95, 3) := dk_180 0 95 (dk_at dksX3_member_3 18 rfl rfl)
theorem dX3_member_92 : decode cX3_member 92 = .ok (.iload_n 1, 1) := dk_27 (dk_at dksX3_member_3 21 rfl rfl)
theorem dX3_member_93 : decode cX3_member 93 = .ok (.iaload, 1) := dk_46 (dk_at dksX3_member_3 22 rfl rfl)
theorem dX3_member_94 : decode cX3_member 94 = .ok (.bipush 10, 2) := dk_16 10 (dk_at dksX3_member_4 0 rfl rfl)
theorem dX3_member_96 : decode cX3_member 96 = .ok (.imul, 1) := dk_104 (dk_at dksX3_member_4 2 rfl rfl)
theorem dX3_member_97 : decode cX3_member 97 = .ok (.iload 6, 2) := dk_21 6 (dk_at dksX3_member_4 3 rfl rfl)
theorem dX3_member_99 : decode cX3_member 99 = .ok (.iadd, 1) := dk_96 (dk_at dksX3_member_4 5 rfl rfl)
theorem dX3_member_100 : decode cX3_member 100 = .ok (.iaload, 1) := dk_46 (dk_at dksX3_member_4 6 rfl rfl)
theorem dX3_member_101 : decode cX3_member 101 = .ok (.invokevirtual 313, 3) := dk_182 1 57 (dk_at dksX3_member_4 7 rfl rfl)
theorem dX3_member_104 : decode cX3_member 104 = .ok (.return_, 1) := dk_177 (dk_at dksX3_member_4 10 rfl rfl)
abbrev cX3_element : ByteArray := prog_24_method_46_code
def yX3_element : MethodName := ⟨RX3, "element", "(II)V"⟩
def dkwX3_element_2 : List UInt8 := [46, 16, 10, 104, 28, 96, 46, 182, 1, 57, 177]
abbrev dktX3_element_2 : List UInt8 := dkwX3_element_2 ++ []
def dkwX3_element_1 : List UInt8 := [46, 46, 161, 0, 11, 42, 27, 182, 1, 54, 167, 0, 24, 42, 27, 42, 180, 0, 45, 42, 180, 0, 95, 27]
abbrev dktX3_element_1 : List UInt8 := dkwX3_element_1 ++ dktX3_element_2
def dkwX3_element_0 : List UInt8 := [42, 180, 0, 92, 27, 46, 5, 160, 0, 22, 28, 155, 0, 18, 28, 42, 180, 0, 39, 42, 180, 0, 95, 27]
abbrev dktX3_element_0 : List UInt8 := dkwX3_element_0 ++ dktX3_element_1
theorem dksX3_element_0 : cX3_element.data.toList.drop 0 = dktX3_element_0 := by decide +kernel
theorem dksX3_element_1 : cX3_element.data.toList.drop 24 = dktX3_element_1 := dk_seg dksX3_element_0 24 rfl rfl
theorem dksX3_element_2 : cX3_element.data.toList.drop 48 = dktX3_element_2 := dk_seg dksX3_element_1 24 rfl rfl
theorem dX3_element_0 : decode cX3_element 0 = .ok (.aload_n 0, 1) := dk_42 (dk_at dksX3_element_0 0 rfl rfl)
theorem dX3_element_1 : decode cX3_element 1 = .ok (.getfield 92, 3) := dk_180 0 92 (dk_at dksX3_element_0 1 rfl rfl)
theorem dX3_element_4 : decode cX3_element 4 = .ok (.iload_n 1, 1) := dk_27 (dk_at dksX3_element_0 4 rfl rfl)
theorem dX3_element_5 : decode cX3_element 5 = .ok (.iaload, 1) := dk_46 (dk_at dksX3_element_0 5 rfl rfl)
theorem dX3_element_6 : decode cX3_element 6 = .ok (.iconst 2, 1) := dk_5 (dk_at dksX3_element_0 6 rfl rfl)
theorem dX3_element_7 : decode cX3_element 7 = .ok (.if_icmp .ne 22, 3) := dk_160 0 22 (dk_at dksX3_element_0 7 rfl rfl)
theorem dX3_element_10 : decode cX3_element 10 = .ok (.iload_n 2, 1) := dk_28 (dk_at dksX3_element_0 10 rfl rfl)
theorem dX3_element_11 : decode cX3_element 11 = .ok (.ifCond .lt 18, 3) := dk_155 0 18 (dk_at dksX3_element_0 11 rfl rfl)
theorem dX3_element_14 : decode cX3_element 14 = .ok (.iload_n 2, 1) := dk_28 (dk_at dksX3_element_0 14 rfl rfl)
theorem dX3_element_15 : decode cX3_element 15 = .ok (.aload_n 0, 1) := dk_42 (dk_at dksX3_element_0 15 rfl rfl)
theorem dX3_element_16 : decode cX3_element 16 = .ok (.getfield 39, 3) := dk_180 0 39 (dk_at dksX3_element_0 16 rfl rfl)
theorem dX3_element_19 : decode cX3_element 19 = .ok (.aload_n 0, 1) := dk_42 (dk_at dksX3_element_0 19 rfl rfl)
theorem dX3_element_20 : decode cX3_element 20 = .ok (.getfield 95, 3) := dk_180 0 95 (dk_at dksX3_element_0 20 rfl rfl)
theorem dX3_element_23 : decode cX3_element 23 = .ok (.iload_n 1, 1) := dk_27 (dk_at dksX3_element_0 23 rfl rfl)
theorem dX3_element_24 : decode cX3_element 24 = .ok (.iaload, 1) := dk_46 (dk_at dksX3_element_1 0 rfl rfl)
theorem dX3_element_25 : decode cX3_element 25 = .ok (.iaload, 1) := dk_46 (dk_at dksX3_element_1 1 rfl rfl)
theorem dX3_element_26 : decode cX3_element 26 = .ok (.if_icmp .lt 11, 3) := dk_161 0 11 (dk_at dksX3_element_1 2 rfl rfl)
theorem dX3_element_29 : decode cX3_element 29 = .ok (.aload_n 0, 1) := dk_42 (dk_at dksX3_element_1 5 rfl rfl)
theorem dX3_element_30 : decode cX3_element 30 = .ok (.iload_n 1, 1) := dk_27 (dk_at dksX3_element_1 6 rfl rfl)
theorem dX3_element_31 : decode cX3_element 31 = .ok (.invokevirtual 310, 3) := dk_182 1 54 (dk_at dksX3_element_1 7 rfl rfl)
theorem dX3_element_34 : decode cX3_element 34 = .ok (.goto 24, 3) := dk_167 0 24 (dk_at dksX3_element_1 10 rfl rfl)
theorem dX3_element_37 : decode cX3_element 37 = .ok (.aload_n 0, 1) := dk_42 (dk_at dksX3_element_1 13 rfl rfl)
theorem dX3_element_38 : decode cX3_element 38 = .ok (.iload_n 1, 1) := dk_27 (dk_at dksX3_element_1 14 rfl rfl)
theorem dX3_element_39 : decode cX3_element 39 = .ok (.aload_n 0, 1) := dk_42 (dk_at dksX3_element_1 15 rfl rfl)
theorem dX3_element_40 : decode cX3_element 40 = .ok (.getfield 45, 3) := dk_180 0 45 (dk_at dksX3_element_1 16 rfl rfl)
theorem dX3_element_43 : decode cX3_element 43 = .ok (.aload_n 0, 1) := dk_42 (dk_at dksX3_element_1 19 rfl rfl)
theorem dX3_element_44 : decode cX3_element 44 = .ok (.getfield 95, 3) := dk_180 0 95 (dk_at dksX3_element_1 20 rfl rfl)
theorem dX3_element_47 : decode cX3_element 47 = .ok (.iload_n 1, 1) := dk_27 (dk_at dksX3_element_1 23 rfl rfl)
theorem dX3_element_48 : decode cX3_element 48 = .ok (.iaload, 1) := dk_46 (dk_at dksX3_element_2 0 rfl rfl)
theorem dX3_element_49 : decode cX3_element 49 = .ok (.bipush 10, 2) := dk_16 10 (dk_at dksX3_element_2 1 rfl rfl)
theorem dX3_element_51 : decode cX3_element 51 = .ok (.imul, 1) := dk_104 (dk_at dksX3_element_2 3 rfl rfl)
theorem dX3_element_52 : decode cX3_element 52 = .ok (.iload_n 2, 1) := dk_28 (dk_at dksX3_element_2 4 rfl rfl)
theorem dX3_element_53 : decode cX3_element 53 = .ok (.iadd, 1) := dk_96 (dk_at dksX3_element_2 5 rfl rfl)
theorem dX3_element_54 : decode cX3_element 54 = .ok (.iaload, 1) := dk_46 (dk_at dksX3_element_2 6 rfl rfl)
theorem dX3_element_55 : decode cX3_element 55 = .ok (.invokevirtual 313, 3) := dk_182 1 57 (dk_at dksX3_element_2 7 rfl rfl)
theorem dX3_element_58 : decode cX3_element 58 = .ok (.return_, 1) := dk_177 (dk_at dksX3_element_2 10 rfl rfl)
abbrev cX3_upper : ByteArray := prog_24_method_51_code
def yX3_upper : MethodName := ⟨RX3, "upper", "()V"⟩
def dkwX3_upper_4 : List UInt8 := [132, 1, 1, 167, 255, 201, 177]
abbrev dktX3_upper_4 : List UInt8 := dkwX3_upper_4 ++ []
def dkwX3_upper_3 : List UInt8 := [153, 0, 16, 42, 180, 0, 104, 27, 52, 16, 32, 100, 146, 167, 0, 9, 42, 180, 0, 104, 27, 52, 85]
abbrev dktX3_upper_3 : List UInt8 := dkwX3_upper_3 ++ dktX3_upper_4
def dkwX3_upper_2 : List UInt8 := [162, 0, 51, 42, 180, 0, 101, 17, 3, 32, 27, 96, 42, 42, 180, 0, 104, 27, 52, 182, 0, 177]
abbrev dktX3_upper_2 : List UInt8 := dkwX3_upper_2 ++ dktX3_upper_3
def dkwX3_upper_1 : List UInt8 := [164, 0, 9, 17, 1, 144, 167, 0, 7, 42, 180, 0, 113, 79, 3, 60, 27, 42, 180, 0, 98, 5, 46]
abbrev dktX3_upper_1 : List UInt8 := dkwX3_upper_1 ++ dktX3_upper_2
def dkwX3_upper_0 : List UInt8 := [42, 3, 182, 1, 48, 42, 180, 0, 92, 5, 4, 79, 42, 180, 0, 98, 5, 42, 180, 0, 113, 17, 1, 144]
abbrev dktX3_upper_0 : List UInt8 := dkwX3_upper_0 ++ dktX3_upper_1
theorem dksX3_upper_0 : cX3_upper.data.toList.drop 0 = dktX3_upper_0 := by decide +kernel
theorem dksX3_upper_1 : cX3_upper.data.toList.drop 24 = dktX3_upper_1 := dk_seg dksX3_upper_0 24 rfl rfl
theorem dksX3_upper_2 : cX3_upper.data.toList.drop 47 = dktX3_upper_2 := dk_seg dksX3_upper_1 23 rfl rfl
theorem dksX3_upper_3 : cX3_upper.data.toList.drop 69 = dktX3_upper_3 := dk_seg dksX3_upper_2 22 rfl rfl
theorem dksX3_upper_4 : cX3_upper.data.toList.drop 92 = dktX3_upper_4 := dk_seg dksX3_upper_3 23 rfl rfl
theorem dX3_upper_0 : decode cX3_upper 0 = .ok (.aload_n 0, 1) := dk_42 (dk_at dksX3_upper_0 0 rfl rfl)
theorem dX3_upper_1 : decode cX3_upper 1 = .ok (.iconst 0, 1) := dk_3 (dk_at dksX3_upper_0 1 rfl rfl)
theorem dX3_upper_2 : decode cX3_upper 2 = .ok (.invokevirtual 304, 3) := dk_182 1 48 (dk_at dksX3_upper_0 2 rfl rfl)
theorem dX3_upper_5 : decode cX3_upper 5 = .ok (.aload_n 0, 1) := dk_42 (dk_at dksX3_upper_0 5 rfl rfl)
theorem dX3_upper_6 : decode cX3_upper 6 = .ok (.getfield 92, 3) := dk_180 0 92 (dk_at dksX3_upper_0 6 rfl rfl)
theorem dX3_upper_9 : decode cX3_upper 9 = .ok (.iconst 2, 1) := dk_5 (dk_at dksX3_upper_0 9 rfl rfl)
theorem dX3_upper_10 : decode cX3_upper 10 = .ok (.iconst 1, 1) := dk_4 (dk_at dksX3_upper_0 10 rfl rfl)
theorem dX3_upper_11 : decode cX3_upper 11 = .ok (.iastore, 1) := dk_79 (dk_at dksX3_upper_0 11 rfl rfl)
theorem dX3_upper_12 : decode cX3_upper 12 = .ok (.aload_n 0, 1) := dk_42 (dk_at dksX3_upper_0 12 rfl rfl)
theorem dX3_upper_13 : decode cX3_upper 13 = .ok (.getfield 98, 3) := dk_180 0 98 (dk_at dksX3_upper_0 13 rfl rfl)
theorem dX3_upper_16 : decode cX3_upper 16 = .ok (.iconst 2, 1) := dk_5 (dk_at dksX3_upper_0 16 rfl rfl)
theorem dX3_upper_17 : decode cX3_upper 17 = .ok (.aload_n 0, 1) := dk_42 (dk_at dksX3_upper_0 17 rfl rfl)
theorem dX3_upper_18 : decode cX3_upper 18 = .ok (.getfield 113, 3) := dk_180 0 113 (dk_at dksX3_upper_0 18 rfl rfl)
theorem dX3_upper_21 : decode cX3_upper 21 = .ok (.sipush 400, 3) := dk_17 1 144 (dk_at dksX3_upper_0 21 rfl rfl)
theorem dX3_upper_24 : decode cX3_upper 24 = .ok (.if_icmp .le 9, 3) := dk_164 0 9 (dk_at dksX3_upper_1 0 rfl rfl)
theorem dX3_upper_27 : decode cX3_upper 27 = .ok (.sipush 400, 3) := dk_17 1 144 (dk_at dksX3_upper_1 3 rfl rfl)
theorem dX3_upper_30 : decode cX3_upper 30 = .ok (.goto 7, 3) := dk_167 0 7 (dk_at dksX3_upper_1 6 rfl rfl)
theorem dX3_upper_33 : decode cX3_upper 33 = .ok (.aload_n 0, 1) := dk_42 (dk_at dksX3_upper_1 9 rfl rfl)
theorem dX3_upper_34 : decode cX3_upper 34 = .ok (.getfield 113, 3) := dk_180 0 113 (dk_at dksX3_upper_1 10 rfl rfl)
theorem dX3_upper_37 : decode cX3_upper 37 = .ok (.iastore, 1) := dk_79 (dk_at dksX3_upper_1 13 rfl rfl)
theorem dX3_upper_38 : decode cX3_upper 38 = .ok (.iconst 0, 1) := dk_3 (dk_at dksX3_upper_1 14 rfl rfl)
theorem dX3_upper_39 : decode cX3_upper 39 = .ok (.istore_n 1, 1) := dk_60 (dk_at dksX3_upper_1 15 rfl rfl)
theorem dX3_upper_40 : decode cX3_upper 40 = .ok (.iload_n 1, 1) := dk_27 (dk_at dksX3_upper_1 16 rfl rfl)
theorem dX3_upper_41 : decode cX3_upper 41 = .ok (.aload_n 0, 1) := dk_42 (dk_at dksX3_upper_1 17 rfl rfl)
theorem dX3_upper_42 : decode cX3_upper 42 = .ok (.getfield 98, 3) := dk_180 0 98 (dk_at dksX3_upper_1 18 rfl rfl)
theorem dX3_upper_45 : decode cX3_upper 45 = .ok (.iconst 2, 1) := dk_5 (dk_at dksX3_upper_1 21 rfl rfl)
theorem dX3_upper_46 : decode cX3_upper 46 = .ok (.iaload, 1) := dk_46 (dk_at dksX3_upper_1 22 rfl rfl)
theorem dX3_upper_47 : decode cX3_upper 47 = .ok (.if_icmp .ge 51, 3) := dk_162 0 51 (dk_at dksX3_upper_2 0 rfl rfl)
theorem dX3_upper_50 : decode cX3_upper 50 = .ok (.aload_n 0, 1) := dk_42 (dk_at dksX3_upper_2 3 rfl rfl)
theorem dX3_upper_51 : decode cX3_upper 51 = .ok (.getfield 101, 3) := dk_180 0 101 (dk_at dksX3_upper_2 4 rfl rfl)
theorem dX3_upper_54 : decode cX3_upper 54 = .ok (.sipush 800, 3) := dk_17 3 32 (dk_at dksX3_upper_2 7 rfl rfl)
theorem dX3_upper_57 : decode cX3_upper 57 = .ok (.iload_n 1, 1) := dk_27 (dk_at dksX3_upper_2 10 rfl rfl)
theorem dX3_upper_58 : decode cX3_upper 58 = .ok (.iadd, 1) := dk_96 (dk_at dksX3_upper_2 11 rfl rfl)
theorem dX3_upper_59 : decode cX3_upper 59 = .ok (.aload_n 0, 1) := dk_42 (dk_at dksX3_upper_2 12 rfl rfl)
theorem dX3_upper_60 : decode cX3_upper 60 = .ok (.aload_n 0, 1) := dk_42 (dk_at dksX3_upper_2 13 rfl rfl)
theorem dX3_upper_61 : decode cX3_upper 61 = .ok (.getfield 104, 3) := dk_180 0 104 (dk_at dksX3_upper_2 14 rfl rfl)
theorem dX3_upper_64 : decode cX3_upper 64 = .ok (.iload_n 1, 1) := dk_27 (dk_at dksX3_upper_2 17 rfl rfl)
theorem dX3_upper_65 : decode cX3_upper 65 = .ok (.caload, 1) := dk_52 (dk_at dksX3_upper_2 18 rfl rfl)
theorem dX3_upper_66 : decode cX3_upper 66 = .ok (.invokevirtual 177, 3) := dk_182 0 177 (dk_at dksX3_upper_2 19 rfl rfl)
theorem dX3_upper_69 : decode cX3_upper 69 = .ok (.ifCond .eq 16, 3) := dk_153 0 16 (dk_at dksX3_upper_3 0 rfl rfl)
theorem dX3_upper_72 : decode cX3_upper 72 = .ok (.aload_n 0, 1) := dk_42 (dk_at dksX3_upper_3 3 rfl rfl)
theorem dX3_upper_73 : decode cX3_upper 73 = .ok (.getfield 104, 3) := dk_180 0 104 (dk_at dksX3_upper_3 4 rfl rfl)
theorem dX3_upper_76 : decode cX3_upper 76 = .ok (.iload_n 1, 1) := dk_27 (dk_at dksX3_upper_3 7 rfl rfl)
theorem dX3_upper_77 : decode cX3_upper 77 = .ok (.caload, 1) := dk_52 (dk_at dksX3_upper_3 8 rfl rfl)
theorem dX3_upper_78 : decode cX3_upper 78 = .ok (.bipush 32, 2) := dk_16 32 (dk_at dksX3_upper_3 9 rfl rfl)
theorem dX3_upper_80 : decode cX3_upper 80 = .ok (.isub, 1) := dk_100 (dk_at dksX3_upper_3 11 rfl rfl)
theorem dX3_upper_81 : decode cX3_upper 81 = .ok (.i2c, 1) := dk_146 (dk_at dksX3_upper_3 12 rfl rfl)
theorem dX3_upper_82 : decode cX3_upper 82 = .ok (.goto 9, 3) := dk_167 0 9 (dk_at dksX3_upper_3 13 rfl rfl)
theorem dX3_upper_85 : decode cX3_upper 85 = .ok (.aload_n 0, 1) := dk_42 (dk_at dksX3_upper_3 16 rfl rfl)
theorem dX3_upper_86 : decode cX3_upper 86 = .ok (.getfield 104, 3) := dk_180 0 104 (dk_at dksX3_upper_3 17 rfl rfl)
theorem dX3_upper_89 : decode cX3_upper 89 = .ok (.iload_n 1, 1) := dk_27 (dk_at dksX3_upper_3 20 rfl rfl)
theorem dX3_upper_90 : decode cX3_upper 90 = .ok (.caload, 1) := dk_52 (dk_at dksX3_upper_3 21 rfl rfl)
theorem dX3_upper_91 : decode cX3_upper 91 = .ok (.castore, 1) := dk_85 (dk_at dksX3_upper_3 22 rfl rfl)
theorem dX3_upper_92 : decode cX3_upper 92 = .ok (.iinc 1 1, 3) := dk_132 1 1 (dk_at dksX3_upper_4 0 rfl rfl)
theorem dX3_upper_95 : decode cX3_upper 95 = .ok (.goto (-55), 3) := dk_167 255 201 (dk_at dksX3_upper_4 3 rfl rfl)
theorem dX3_upper_98 : decode cX3_upper 98 = .ok (.return_, 1) := dk_177 (dk_at dksX3_upper_4 6 rfl rfl)
abbrev cX3_showRaw : ByteArray := prog_24_method_43_code
def yX3_showRaw : MethodName := ⟨RX3, "showRaw", "(I)V"⟩
def dkwX3_showRaw_8 : List UInt8 := [96, 46, 182, 1, 45, 167, 255, 156, 42, 180, 0, 113, 17, 1, 144, 164, 0, 8, 42, 7, 181, 0, 128, 177]
abbrev dktX3_showRaw_8 : List UInt8 := dkwX3_showRaw_8 ++ []
def dkwX3_showRaw_7 : List UInt8 := [182, 1, 29, 42, 180, 0, 149, 28, 92, 46, 4, 96, 79, 42, 42, 180, 0, 45, 29, 16, 10, 104, 21, 4]
abbrev dktX3_showRaw_7 : List UInt8 := dkwX3_showRaw_7 ++ dktX3_showRaw_8
def dkwX3_showRaw_6 : List UInt8 := [160, 0, 16, 42, 89, 180, 0, 131, 4, 100, 181, 0, 131, 167, 255, 196, 21, 4, 158, 0, 9, 42, 16, 44]
abbrev dktX3_showRaw_6 : List UInt8 := dkwX3_showRaw_6 ++ dktX3_showRaw_7
def dkwX3_showRaw_5 : List UInt8 := [180, 0, 146, 28, 46, 62, 42, 180, 0, 149, 28, 46, 54, 4, 21, 4, 42, 180, 0, 39, 29, 46]
abbrev dktX3_showRaw_5 : List UInt8 := dkwX3_showRaw_5 ++ dktX3_showRaw_6
def dkwX3_showRaw_4 : List UInt8 := [180, 0, 131, 158, 0, 99, 42, 180, 0, 113, 17, 1, 145, 162, 0, 89, 42, 180, 0, 131, 4, 100, 61, 42]
abbrev dktX3_showRaw_4 : List UInt8 := dkwX3_showRaw_4 ++ dktX3_showRaw_5
def dkwX3_showRaw_3 : List UInt8 := [167, 255, 227, 42, 180, 0, 92, 27, 46, 4, 164, 0, 13, 42, 42, 180, 0, 95, 27, 46, 182, 1, 45, 42]
abbrev dktX3_showRaw_3 : List UInt8 := dkwX3_showRaw_3 ++ dktX3_showRaw_4
def dkwX3_showRaw_2 : List UInt8 := [162, 0, 25, 42, 42, 180, 0, 101, 27, 17, 1, 144, 104, 28, 96, 52, 182, 1, 29, 132, 2, 1]
abbrev dktX3_showRaw_2 : List UInt8 := dkwX3_showRaw_2 ++ dktX3_showRaw_3
def dkwX3_showRaw_1 : List UInt8 := [27, 46, 182, 1, 39, 42, 180, 0, 92, 27, 46, 4, 160, 0, 37, 3, 61, 28, 42, 180, 0, 98, 27, 46]
abbrev dktX3_showRaw_1 : List UInt8 := dkwX3_showRaw_1 ++ dktX3_showRaw_2
def dkwX3_showRaw_0 : List UInt8 := [42, 3, 181, 0, 113, 42, 3, 181, 0, 131, 42, 180, 0, 92, 27, 46, 154, 0, 13, 42, 42, 180, 0, 95]
abbrev dktX3_showRaw_0 : List UInt8 := dkwX3_showRaw_0 ++ dktX3_showRaw_1
theorem dksX3_showRaw_0 : cX3_showRaw.data.toList.drop 0 = dktX3_showRaw_0 := by decide +kernel
theorem dksX3_showRaw_1 : cX3_showRaw.data.toList.drop 24 = dktX3_showRaw_1 := dk_seg dksX3_showRaw_0 24 rfl rfl
theorem dksX3_showRaw_2 : cX3_showRaw.data.toList.drop 48 = dktX3_showRaw_2 := dk_seg dksX3_showRaw_1 24 rfl rfl
theorem dksX3_showRaw_3 : cX3_showRaw.data.toList.drop 70 = dktX3_showRaw_3 := dk_seg dksX3_showRaw_2 22 rfl rfl
theorem dksX3_showRaw_4 : cX3_showRaw.data.toList.drop 94 = dktX3_showRaw_4 := dk_seg dksX3_showRaw_3 24 rfl rfl
theorem dksX3_showRaw_5 : cX3_showRaw.data.toList.drop 118 = dktX3_showRaw_5 := dk_seg dksX3_showRaw_4 24 rfl rfl
theorem dksX3_showRaw_6 : cX3_showRaw.data.toList.drop 140 = dktX3_showRaw_6 := dk_seg dksX3_showRaw_5 22 rfl rfl
theorem dksX3_showRaw_7 : cX3_showRaw.data.toList.drop 164 = dktX3_showRaw_7 := dk_seg dksX3_showRaw_6 24 rfl rfl
theorem dksX3_showRaw_8 : cX3_showRaw.data.toList.drop 188 = dktX3_showRaw_8 := dk_seg dksX3_showRaw_7 24 rfl rfl
theorem dX3_showRaw_0 : decode cX3_showRaw 0 = .ok (.aload_n 0, 1) := dk_42 (dk_at dksX3_showRaw_0 0 rfl rfl)
theorem dX3_showRaw_1 : decode cX3_showRaw 1 = .ok (.iconst 0, 1) := dk_3 (dk_at dksX3_showRaw_0 1 rfl rfl)
theorem dX3_showRaw_2 : decode cX3_showRaw 2 = .ok (.putfield 113, 3) := dk_181 0 113 (dk_at dksX3_showRaw_0 2 rfl rfl)
theorem dX3_showRaw_5 : decode cX3_showRaw 5 = .ok (.aload_n 0, 1) := dk_42 (dk_at dksX3_showRaw_0 5 rfl rfl)
theorem dX3_showRaw_6 : decode cX3_showRaw 6 = .ok (.iconst 0, 1) := dk_3 (dk_at dksX3_showRaw_0 6 rfl rfl)
theorem dX3_showRaw_7 : decode cX3_showRaw 7 = .ok (.putfield 131, 3) := dk_181 0 131 (dk_at dksX3_showRaw_0 7 rfl rfl)
theorem dX3_showRaw_10 : decode cX3_showRaw 10 = .ok (.aload_n 0, 1) := dk_42 (dk_at dksX3_showRaw_0 10 rfl rfl)
theorem dX3_showRaw_11 : decode cX3_showRaw 11 = .ok (.getfield 92, 3) := dk_180 0 92 (dk_at dksX3_showRaw_0 11 rfl rfl)
theorem dX3_showRaw_14 : decode cX3_showRaw 14 = .ok (.iload_n 1, 1) := dk_27 (dk_at dksX3_showRaw_0 14 rfl rfl)
theorem dX3_showRaw_15 : decode cX3_showRaw 15 = .ok (.iaload, 1) := dk_46 (dk_at dksX3_showRaw_0 15 rfl rfl)
theorem dX3_showRaw_16 : decode cX3_showRaw 16 = .ok (.ifCond .ne 13, 3) := dk_154 0 13 (dk_at dksX3_showRaw_0 16 rfl rfl)
theorem dX3_showRaw_19 : decode cX3_showRaw 19 = .ok (.aload_n 0, 1) := dk_42 (dk_at dksX3_showRaw_0 19 rfl rfl)
theorem dX3_showRaw_20 : decode cX3_showRaw 20 = .ok (.aload_n 0, 1) := dk_42 (dk_at dksX3_showRaw_0 20 rfl rfl)
theorem dX3_showRaw_21 : decode cX3_showRaw 21 = .ok (.getfield 95, 3) := dk_180 0 95 (dk_at dksX3_showRaw_0 21 rfl rfl)
theorem dX3_showRaw_24 : decode cX3_showRaw 24 = .ok (.iload_n 1, 1) := dk_27 (dk_at dksX3_showRaw_1 0 rfl rfl)
theorem dX3_showRaw_25 : decode cX3_showRaw 25 = .ok (.iaload, 1) := dk_46 (dk_at dksX3_showRaw_1 1 rfl rfl)
theorem dX3_showRaw_26 : decode cX3_showRaw 26 = .ok (.invokevirtual 295, 3) := dk_182 1 39 (dk_at dksX3_showRaw_1 2 rfl rfl)
theorem dX3_showRaw_29 : decode cX3_showRaw 29 = .ok (.aload_n 0, 1) := dk_42 (dk_at dksX3_showRaw_1 5 rfl rfl)
theorem dX3_showRaw_30 : decode cX3_showRaw 30 = .ok (.getfield 92, 3) := dk_180 0 92 (dk_at dksX3_showRaw_1 6 rfl rfl)
theorem dX3_showRaw_33 : decode cX3_showRaw 33 = .ok (.iload_n 1, 1) := dk_27 (dk_at dksX3_showRaw_1 9 rfl rfl)
theorem dX3_showRaw_34 : decode cX3_showRaw 34 = .ok (.iaload, 1) := dk_46 (dk_at dksX3_showRaw_1 10 rfl rfl)
theorem dX3_showRaw_35 : decode cX3_showRaw 35 = .ok (.iconst 1, 1) := dk_4 (dk_at dksX3_showRaw_1 11 rfl rfl)
theorem dX3_showRaw_36 : decode cX3_showRaw 36 = .ok (.if_icmp .ne 37, 3) := dk_160 0 37 (dk_at dksX3_showRaw_1 12 rfl rfl)
theorem dX3_showRaw_39 : decode cX3_showRaw 39 = .ok (.iconst 0, 1) := dk_3 (dk_at dksX3_showRaw_1 15 rfl rfl)
theorem dX3_showRaw_40 : decode cX3_showRaw 40 = .ok (.istore_n 2, 1) := dk_61 (dk_at dksX3_showRaw_1 16 rfl rfl)
theorem dX3_showRaw_41 : decode cX3_showRaw 41 = .ok (.iload_n 2, 1) := dk_28 (dk_at dksX3_showRaw_1 17 rfl rfl)
theorem dX3_showRaw_42 : decode cX3_showRaw 42 = .ok (.aload_n 0, 1) := dk_42 (dk_at dksX3_showRaw_1 18 rfl rfl)
theorem dX3_showRaw_43 : decode cX3_showRaw 43 = .ok (.getfield 98, 3) := dk_180 0 98 (dk_at dksX3_showRaw_1 19 rfl rfl)
theorem dX3_showRaw_46 : decode cX3_showRaw 46 = .ok (.iload_n 1, 1) := dk_27 (dk_at dksX3_showRaw_1 22 rfl rfl)
theorem dX3_showRaw_47 : decode cX3_showRaw 47 = .ok (.iaload, 1) := dk_46 (dk_at dksX3_showRaw_1 23 rfl rfl)
theorem dX3_showRaw_48 : decode cX3_showRaw 48 = .ok (.if_icmp .ge 25, 3) := dk_162 0 25 (dk_at dksX3_showRaw_2 0 rfl rfl)
theorem dX3_showRaw_51 : decode cX3_showRaw 51 = .ok (.aload_n 0, 1) := dk_42 (dk_at dksX3_showRaw_2 3 rfl rfl)
theorem dX3_showRaw_52 : decode cX3_showRaw 52 = .ok (.aload_n 0, 1) := dk_42 (dk_at dksX3_showRaw_2 4 rfl rfl)
theorem dX3_showRaw_53 : decode cX3_showRaw 53 = .ok (.getfield 101, 3) := dk_180 0 101 (dk_at dksX3_showRaw_2 5 rfl rfl)
theorem dX3_showRaw_56 : decode cX3_showRaw 56 = .ok (.iload_n 1, 1) := dk_27 (dk_at dksX3_showRaw_2 8 rfl rfl)
theorem dX3_showRaw_57 : decode cX3_showRaw 57 = .ok (.sipush 400, 3) := dk_17 1 144 (dk_at dksX3_showRaw_2 9 rfl rfl)
theorem dX3_showRaw_60 : decode cX3_showRaw 60 = .ok (.imul, 1) := dk_104 (dk_at dksX3_showRaw_2 12 rfl rfl)
theorem dX3_showRaw_61 : decode cX3_showRaw 61 = .ok (.iload_n 2, 1) := dk_28 (dk_at dksX3_showRaw_2 13 rfl rfl)
theorem dX3_showRaw_62 : decode cX3_showRaw 62 = .ok (.iadd, 1) := dk_96 (dk_at dksX3_showRaw_2 14 rfl rfl)
theorem dX3_showRaw_63 : decode cX3_showRaw 63 = .ok (.caload, 1) := dk_52 (dk_at dksX3_showRaw_2 15 rfl rfl)
theorem dX3_showRaw_64 : decode cX3_showRaw 64 = .ok (.invokevirtual 285, 3) := dk_182 1 29 (dk_at dksX3_showRaw_2 16 rfl rfl)
theorem dX3_showRaw_67 : decode cX3_showRaw 67 = .ok (.iinc 2 1, 3) := dk_132 2 1 (dk_at dksX3_showRaw_2 19 rfl rfl)
theorem dX3_showRaw_70 : decode cX3_showRaw 70 = .ok (.goto (-29), 3) := dk_167 255 227 (dk_at dksX3_showRaw_3 0 rfl rfl)
theorem dX3_showRaw_73 : decode cX3_showRaw 73 = .ok (.aload_n 0, 1) := dk_42 (dk_at dksX3_showRaw_3 3 rfl rfl)
theorem dX3_showRaw_74 : decode cX3_showRaw 74 = .ok (.getfield 92, 3) := dk_180 0 92 (dk_at dksX3_showRaw_3 4 rfl rfl)
theorem dX3_showRaw_77 : decode cX3_showRaw 77 = .ok (.iload_n 1, 1) := dk_27 (dk_at dksX3_showRaw_3 7 rfl rfl)
theorem dX3_showRaw_78 : decode cX3_showRaw 78 = .ok (.iaload, 1) := dk_46 (dk_at dksX3_showRaw_3 8 rfl rfl)
theorem dX3_showRaw_79 : decode cX3_showRaw 79 = .ok (.iconst 1, 1) := dk_4 (dk_at dksX3_showRaw_3 9 rfl rfl)
theorem dX3_showRaw_80 : decode cX3_showRaw 80 = .ok (.if_icmp .le 13, 3) := dk_164 0 13 (dk_at dksX3_showRaw_3 10 rfl rfl)
theorem dX3_showRaw_83 : decode cX3_showRaw 83 = .ok (.aload_n 0, 1) := dk_42 (dk_at dksX3_showRaw_3 13 rfl rfl)
theorem dX3_showRaw_84 : decode cX3_showRaw 84 = .ok (.aload_n 0, 1) := dk_42 (dk_at dksX3_showRaw_3 14 rfl rfl)
theorem dX3_showRaw_85 : decode cX3_showRaw 85 = .ok (.getfield 95, 3) := dk_180 0 95 (dk_at dksX3_showRaw_3 15 rfl rfl)
theorem dX3_showRaw_88 : decode cX3_showRaw 88 = .ok (.iload_n 1, 1) := dk_27 (dk_at dksX3_showRaw_3 18 rfl rfl)
theorem dX3_showRaw_89 : decode cX3_showRaw 89 = .ok (.iaload, 1) := dk_46 (dk_at dksX3_showRaw_3 19 rfl rfl)
theorem dX3_showRaw_90 : decode cX3_showRaw 90 = .ok (.invokevirtual 301, 3) := dk_182 1 45 (dk_at dksX3_showRaw_3 20 rfl rfl)
theorem dX3_showRaw_93 : decode cX3_showRaw 93 = .ok (.aload_n 0, 1) := dk_42 (dk_at dksX3_showRaw_3 23 rfl rfl)
theorem dX3_showRaw_94 : decode cX3_showRaw 94 = .ok (.getfield 131, 3) := dk_180 0 131 (dk_at dksX3_showRaw_4 0 rfl rfl)
theorem dX3_showRaw_97 : decode cX3_showRaw 97 = .ok (.ifCond .le 99, 3) := dk_158 0 99 (dk_at dksX3_showRaw_4 3 rfl rfl)
theorem dX3_showRaw_100 : decode cX3_showRaw 100 = .ok (.aload_n 0, 1) := dk_42 (dk_at dksX3_showRaw_4 6 rfl rfl)
theorem dX3_showRaw_101 : decode cX3_showRaw 101 = .ok (.getfield 113, 3) := dk_180 0 113 (dk_at dksX3_showRaw_4 7 rfl rfl)
theorem dX3_showRaw_104 : decode cX3_showRaw 104 = .ok (.sipush 401, 3) := dk_17 1 145 (dk_at dksX3_showRaw_4 10 rfl rfl)
theorem dX3_showRaw_107 : decode cX3_showRaw 107 = .ok (.if_icmp .ge 89, 3) := dk_162 0 89 (dk_at dksX3_showRaw_4 13 rfl rfl)
theorem dX3_showRaw_110 : decode cX3_showRaw 110 = .ok (.aload_n 0, 1) := dk_42 (dk_at dksX3_showRaw_4 16 rfl rfl)
theorem dX3_showRaw_111 : decode cX3_showRaw 111 = .ok (.getfield 131, 3) := dk_180 0 131 (dk_at dksX3_showRaw_4 17 rfl rfl)
theorem dX3_showRaw_114 : decode cX3_showRaw 114 = .ok (.iconst 1, 1) := dk_4 (dk_at dksX3_showRaw_4 20 rfl rfl)
theorem dX3_showRaw_115 : decode cX3_showRaw 115 = .ok (.isub, 1) := dk_100 (dk_at dksX3_showRaw_4 21 rfl rfl)
theorem dX3_showRaw_116 : decode cX3_showRaw 116 = .ok (.istore_n 2, 1) := dk_61 (dk_at dksX3_showRaw_4 22 rfl rfl)
theorem dX3_showRaw_117 : decode cX3_showRaw 117 = .ok (.aload_n 0, 1) := dk_42 (dk_at dksX3_showRaw_4 23 rfl rfl)
theorem dX3_showRaw_118 : decode cX3_showRaw 118 = .ok (.getfield 146, 3) := dk_180 0 146 (dk_at dksX3_showRaw_5 0 rfl rfl)
theorem dX3_showRaw_121 : decode cX3_showRaw 121 = .ok (.iload_n 2, 1) := dk_28 (dk_at dksX3_showRaw_5 3 rfl rfl)
theorem dX3_showRaw_122 : decode cX3_showRaw 122 = .ok (.iaload, 1) := dk_46 (dk_at dksX3_showRaw_5 4 rfl rfl)
theorem dX3_showRaw_123 : decode cX3_showRaw 123 = .ok (.istore_n 3, 1) := dk_62 (dk_at dksX3_showRaw_5 5 rfl rfl)
theorem dX3_showRaw_124 : decode cX3_showRaw 124 = .ok (.aload_n 0, 1) := dk_42 (dk_at dksX3_showRaw_5 6 rfl rfl)
theorem dX3_showRaw_125 : decode cX3_showRaw 125 = .ok (.getfield 149, 3) := dk_180 0 149 (dk_at dksX3_showRaw_5 7 rfl rfl)
theorem dX3_showRaw_128 : decode cX3_showRaw 128 = .ok (.iload_n 2, 1) := dk_28 (dk_at dksX3_showRaw_5 10 rfl rfl)
theorem dX3_showRaw_129 : decode cX3_showRaw 129 = .ok (.iaload, 1) := dk_46 (dk_at dksX3_showRaw_5 11 rfl rfl)
theorem dX3_showRaw_130 : decode cX3_showRaw 130 = .ok (.istore 4, 2) := dk_54 4 (dk_at dksX3_showRaw_5 12 rfl rfl)
theorem dX3_showRaw_132 : decode cX3_showRaw 132 = .ok (.iload 4, 2) := dk_21 4 (dk_at dksX3_showRaw_5 14 rfl rfl)
theorem dX3_showRaw_134 : decode cX3_showRaw 134 = .ok (.aload_n 0, 1) := dk_42 (dk_at dksX3_showRaw_5 16 rfl rfl)
theorem dX3_showRaw_135 : decode cX3_showRaw 135 = .ok (.getfield 39, 3) := dk_180 0 39 (dk_at dksX3_showRaw_5 17 rfl rfl)
theorem dX3_showRaw_138 : decode cX3_showRaw 138 = .ok (.iload_n 3, 1) := dk_29 (dk_at dksX3_showRaw_5 20 rfl rfl)
theorem dX3_showRaw_139 : decode cX3_showRaw 139 = .ok (.iaload, 1) := dk_46 (dk_at dksX3_showRaw_5 21 rfl rfl)
theorem dX3_showRaw_140 : decode cX3_showRaw 140 = .ok (.if_icmp .ne 16, 3) := dk_160 0 16 (dk_at dksX3_showRaw_6 0 rfl rfl)
theorem dX3_showRaw_143 : decode cX3_showRaw 143 = .ok (.aload_n 0, 1) := dk_42 (dk_at dksX3_showRaw_6 3 rfl rfl)
theorem dX3_showRaw_144 : decode cX3_showRaw 144 = .ok (.dup, 1) := dk_89 (dk_at dksX3_showRaw_6 4 rfl rfl)
theorem dX3_showRaw_145 : decode cX3_showRaw 145 = .ok (.getfield 131, 3) := dk_180 0 131 (dk_at dksX3_showRaw_6 5 rfl rfl)
theorem dX3_showRaw_148 : decode cX3_showRaw 148 = .ok (.iconst 1, 1) := dk_4 (dk_at dksX3_showRaw_6 8 rfl rfl)
theorem dX3_showRaw_149 : decode cX3_showRaw 149 = .ok (.isub, 1) := dk_100 (dk_at dksX3_showRaw_6 9 rfl rfl)
theorem dX3_showRaw_150 : decode cX3_showRaw 150 = .ok (.putfield 131, 3) := dk_181 0 131 (dk_at dksX3_showRaw_6 10 rfl rfl)
theorem dX3_showRaw_153 : decode cX3_showRaw 153 = .ok (.goto (-60), 3) := dk_167 255 196 (dk_at dksX3_showRaw_6 13 rfl rfl)
theorem dX3_showRaw_156 : decode cX3_showRaw 156 = .ok (.iload 4, 2) := dk_21 4 (dk_at dksX3_showRaw_6 16 rfl rfl)
theorem dX3_showRaw_158 : decode cX3_showRaw 158 = .ok (.ifCond .le 9, 3) := dk_158 0 9 (dk_at dksX3_showRaw_6 18 rfl rfl)
theorem dX3_showRaw_161 : decode cX3_showRaw 161 = .ok (.aload_n 0, 1) := dk_42 (dk_at dksX3_showRaw_6 21 rfl rfl)
theorem dX3_showRaw_162 : decode cX3_showRaw 162 = .ok (.bipush 44, 2) := dk_16 44 (dk_at dksX3_showRaw_6 22 rfl rfl)
theorem dX3_showRaw_164 : decode cX3_showRaw 164 = .ok (.invokevirtual 285, 3) := dk_182 1 29 (dk_at dksX3_showRaw_7 0 rfl rfl)
theorem dX3_showRaw_167 : decode cX3_showRaw 167 = .ok (.aload_n 0, 1) := dk_42 (dk_at dksX3_showRaw_7 3 rfl rfl)
theorem dX3_showRaw_168 : decode cX3_showRaw 168 = .ok (.getfield 149, 3) := dk_180 0 149 (dk_at dksX3_showRaw_7 4 rfl rfl)
theorem dX3_showRaw_171 : decode cX3_showRaw 171 = .ok (.iload_n 2, 1) := dk_28 (dk_at dksX3_showRaw_7 7 rfl rfl)
theorem dX3_showRaw_172 : decode cX3_showRaw 172 = .ok (.dup2, 1) := dk_92 (dk_at dksX3_showRaw_7 8 rfl rfl)
theorem dX3_showRaw_173 : decode cX3_showRaw 173 = .ok (.iaload, 1) := dk_46 (dk_at dksX3_showRaw_7 9 rfl rfl)
theorem dX3_showRaw_174 : decode cX3_showRaw 174 = .ok (.iconst 1, 1) := dk_4 (dk_at dksX3_showRaw_7 10 rfl rfl)
theorem dX3_showRaw_175 : decode cX3_showRaw 175 = .ok (.iadd, 1) := dk_96 (dk_at dksX3_showRaw_7 11 rfl rfl)
theorem dX3_showRaw_176 : decode cX3_showRaw 176 = .ok (.iastore, 1) := dk_79 (dk_at dksX3_showRaw_7 12 rfl rfl)
theorem dX3_showRaw_177 : decode cX3_showRaw 177 = .ok (.aload_n 0, 1) := dk_42 (dk_at dksX3_showRaw_7 13 rfl rfl)
theorem dX3_showRaw_178 : decode cX3_showRaw 178 = .ok (.aload_n 0, 1) := dk_42 (dk_at dksX3_showRaw_7 14 rfl rfl)
theorem dX3_showRaw_179 : decode cX3_showRaw 179 = .ok (.getfield 45, 3) := dk_180 0 45 (dk_at dksX3_showRaw_7 15 rfl rfl)
theorem dX3_showRaw_182 : decode cX3_showRaw 182 = .ok (.iload_n 3, 1) := dk_29 (dk_at dksX3_showRaw_7 18 rfl rfl)
theorem dX3_showRaw_183 : decode cX3_showRaw 183 = .ok (.bipush 10, 2) := dk_16 10 (dk_at dksX3_showRaw_7 19 rfl rfl)
theorem dX3_showRaw_185 : decode cX3_showRaw 185 = .ok (.imul, 1) := dk_104 (dk_at dksX3_showRaw_7 21 rfl rfl)
theorem dX3_showRaw_186 : decode cX3_showRaw 186 = .ok (.iload 4, 2) := dk_21 4 (dk_at dksX3_showRaw_7 22 rfl rfl)
theorem dX3_showRaw_188 : decode cX3_showRaw 188 = .ok (.iadd, 1) := dk_96 (dk_at dksX3_showRaw_8 0 rfl rfl)
theorem dX3_showRaw_189 : decode cX3_showRaw 189 = .ok (.iaload, 1) := dk_46 (dk_at dksX3_showRaw_8 1 rfl rfl)
theorem dX3_showRaw_190 : decode cX3_showRaw 190 = .ok (.invokevirtual 301, 3) := dk_182 1 45 (dk_at dksX3_showRaw_8 2 rfl rfl)
theorem dX3_showRaw_193 : decode cX3_showRaw 193 = .ok (.goto (-100), 3) := dk_167 255 156 (dk_at dksX3_showRaw_8 5 rfl rfl)
theorem dX3_showRaw_196 : decode cX3_showRaw 196 = .ok (.aload_n 0, 1) := dk_42 (dk_at dksX3_showRaw_8 8 rfl rfl)
theorem dX3_showRaw_197 : decode cX3_showRaw 197 = .ok (.getfield 113, 3) := dk_180 0 113 (dk_at dksX3_showRaw_8 9 rfl rfl)
theorem dX3_showRaw_200 : decode cX3_showRaw 200 = .ok (.sipush 400, 3) := dk_17 1 144 (dk_at dksX3_showRaw_8 12 rfl rfl)
theorem dX3_showRaw_203 : decode cX3_showRaw 203 = .ok (.if_icmp .le 8, 3) := dk_164 0 8 (dk_at dksX3_showRaw_8 15 rfl rfl)
theorem dX3_showRaw_206 : decode cX3_showRaw 206 = .ok (.aload_n 0, 1) := dk_42 (dk_at dksX3_showRaw_8 18 rfl rfl)
theorem dX3_showRaw_207 : decode cX3_showRaw 207 = .ok (.iconst 4, 1) := dk_7 (dk_at dksX3_showRaw_8 19 rfl rfl)
theorem dX3_showRaw_208 : decode cX3_showRaw 208 = .ok (.putfield 128, 3) := dk_181 0 128 (dk_at dksX3_showRaw_8 20 rfl rfl)
theorem dX3_showRaw_211 : decode cX3_showRaw 211 = .ok (.return_, 1) := dk_177 (dk_at dksX3_showRaw_8 23 rfl rfl)
abbrev cX3_rawNumber : ByteArray := prog_24_method_40_code
def yX3_rawNumber : MethodName := ⟨RX3, "rawNumber", "(I)V"⟩
def dkwX3_rawNumber_3 : List UInt8 := [182, 1, 29, 22, 4, 20, 1, 35, 109, 55, 4, 167, 255, 224, 177]
abbrev dktX3_rawNumber_3 : List UInt8 := dkwX3_rawNumber_3 ++ []
def dkwX3_rawNumber_2 : List UInt8 := [167, 255, 237, 22, 4, 9, 148, 158, 0, 31, 42, 20, 1, 37, 32, 22, 4, 109, 20, 1, 35, 113, 97, 136]
abbrev dktX3_rawNumber_2 : List UInt8 := dkwX3_rawNumber_2 ++ dktX3_rawNumber_3
def dkwX3_rawNumber_1 : List UInt8 := [182, 1, 29, 32, 22, 4, 109, 20, 1, 33, 148, 158, 0, 14, 22, 4, 20, 1, 35, 105, 55, 4]
abbrev dktX3_rawNumber_1 : List UInt8 := dkwX3_rawNumber_1 ++ dktX3_rawNumber_2
def dkwX3_rawNumber_0 : List UInt8 := [27, 156, 0, 9, 27, 133, 117, 167, 0, 5, 27, 133, 65, 10, 55, 4, 27, 156, 0, 9, 42, 16, 45]
abbrev dktX3_rawNumber_0 : List UInt8 := dkwX3_rawNumber_0 ++ dktX3_rawNumber_1
theorem dksX3_rawNumber_0 : cX3_rawNumber.data.toList.drop 0 = dktX3_rawNumber_0 := by decide +kernel
theorem dksX3_rawNumber_1 : cX3_rawNumber.data.toList.drop 23 = dktX3_rawNumber_1 := dk_seg dksX3_rawNumber_0 23 rfl rfl
theorem dksX3_rawNumber_2 : cX3_rawNumber.data.toList.drop 45 = dktX3_rawNumber_2 := dk_seg dksX3_rawNumber_1 22 rfl rfl
theorem dksX3_rawNumber_3 : cX3_rawNumber.data.toList.drop 69 = dktX3_rawNumber_3 := dk_seg dksX3_rawNumber_2 24 rfl rfl
theorem dX3_rawNumber_0 : decode cX3_rawNumber 0 = .ok (.iload_n 1, 1) := dk_27 (dk_at dksX3_rawNumber_0 0 rfl rfl)
theorem dX3_rawNumber_1 : decode cX3_rawNumber 1 = .ok (.ifCond .ge 9, 3) := dk_156 0 9 (dk_at dksX3_rawNumber_0 1 rfl rfl)
theorem dX3_rawNumber_4 : decode cX3_rawNumber 4 = .ok (.iload_n 1, 1) := dk_27 (dk_at dksX3_rawNumber_0 4 rfl rfl)
theorem dX3_rawNumber_5 : decode cX3_rawNumber 5 = .ok (.i2l, 1) := dk_133 (dk_at dksX3_rawNumber_0 5 rfl rfl)
theorem dX3_rawNumber_6 : decode cX3_rawNumber 6 = .ok (.lneg, 1) := dk_117 (dk_at dksX3_rawNumber_0 6 rfl rfl)
theorem dX3_rawNumber_7 : decode cX3_rawNumber 7 = .ok (.goto 5, 3) := dk_167 0 5 (dk_at dksX3_rawNumber_0 7 rfl rfl)
theorem dX3_rawNumber_10 : decode cX3_rawNumber 10 = .ok (.iload_n 1, 1) := dk_27 (dk_at dksX3_rawNumber_0 10 rfl rfl)
theorem dX3_rawNumber_11 : decode cX3_rawNumber 11 = .ok (.i2l, 1) := dk_133 (dk_at dksX3_rawNumber_0 11 rfl rfl)
theorem dX3_rawNumber_12 : decode cX3_rawNumber 12 = .ok (.lstore_n 2, 1) := dk_65 (dk_at dksX3_rawNumber_0 12 rfl rfl)
theorem dX3_rawNumber_13 : decode cX3_rawNumber 13 = .ok (.lconst 1, 1) := dk_10 (dk_at dksX3_rawNumber_0 13 rfl rfl)
theorem dX3_rawNumber_14 : decode cX3_rawNumber 14 = .ok (.lstore 4, 2) := dk_55 4 (dk_at dksX3_rawNumber_0 14 rfl rfl)
theorem dX3_rawNumber_16 : decode cX3_rawNumber 16 = .ok (.iload_n 1, 1) := dk_27 (dk_at dksX3_rawNumber_0 16 rfl rfl)
theorem dX3_rawNumber_17 : decode cX3_rawNumber 17 = .ok (.ifCond .ge 9, 3) := dk_156 0 9 (dk_at dksX3_rawNumber_0 17 rfl rfl)
theorem dX3_rawNumber_20 : decode cX3_rawNumber 20 = .ok (.aload_n 0, 1) := dk_42 (dk_at dksX3_rawNumber_0 20 rfl rfl)
theorem dX3_rawNumber_21 : decode cX3_rawNumber 21 = .ok (.bipush 45, 2) := dk_16 45 (dk_at dksX3_rawNumber_0 21 rfl rfl)
theorem dX3_rawNumber_23 : decode cX3_rawNumber 23 = .ok (.invokevirtual 285, 3) := dk_182 1 29 (dk_at dksX3_rawNumber_1 0 rfl rfl)
theorem dX3_rawNumber_26 : decode cX3_rawNumber 26 = .ok (.lload_n 2, 1) := dk_32 (dk_at dksX3_rawNumber_1 3 rfl rfl)
theorem dX3_rawNumber_27 : decode cX3_rawNumber 27 = .ok (.lload 4, 2) := dk_22 4 (dk_at dksX3_rawNumber_1 4 rfl rfl)
theorem dX3_rawNumber_29 : decode cX3_rawNumber 29 = .ok (.ldiv, 1) := dk_109 (dk_at dksX3_rawNumber_1 6 rfl rfl)
theorem dX3_rawNumber_30 : decode cX3_rawNumber 30 = .ok (.ldc2_w 289, 3) := dk_20 1 33 (dk_at dksX3_rawNumber_1 7 rfl rfl)
theorem dX3_rawNumber_33 : decode cX3_rawNumber 33 = .ok (.lcmp, 1) := dk_148 (dk_at dksX3_rawNumber_1 10 rfl rfl)
theorem dX3_rawNumber_34 : decode cX3_rawNumber 34 = .ok (.ifCond .le 14, 3) := dk_158 0 14 (dk_at dksX3_rawNumber_1 11 rfl rfl)
theorem dX3_rawNumber_37 : decode cX3_rawNumber 37 = .ok (.lload 4, 2) := dk_22 4 (dk_at dksX3_rawNumber_1 14 rfl rfl)
theorem dX3_rawNumber_39 : decode cX3_rawNumber 39 = .ok (.ldc2_w 291, 3) := dk_20 1 35 (dk_at dksX3_rawNumber_1 16 rfl rfl)
theorem dX3_rawNumber_42 : decode cX3_rawNumber 42 = .ok (.lmul, 1) := dk_105 (dk_at dksX3_rawNumber_1 19 rfl rfl)
theorem dX3_rawNumber_43 : decode cX3_rawNumber 43 = .ok (.lstore 4, 2) := dk_55 4 (dk_at dksX3_rawNumber_1 20 rfl rfl)
theorem dX3_rawNumber_45 : decode cX3_rawNumber 45 = .ok (.goto (-19), 3) := dk_167 255 237 (dk_at dksX3_rawNumber_2 0 rfl rfl)
theorem dX3_rawNumber_48 : decode cX3_rawNumber 48 = .ok (.lload 4, 2) := dk_22 4 (dk_at dksX3_rawNumber_2 3 rfl rfl)
theorem dX3_rawNumber_50 : decode cX3_rawNumber 50 = .ok (.lconst 0, 1) := dk_9 (dk_at dksX3_rawNumber_2 5 rfl rfl)
theorem dX3_rawNumber_51 : decode cX3_rawNumber 51 = .ok (.lcmp, 1) := dk_148 (dk_at dksX3_rawNumber_2 6 rfl rfl)
theorem dX3_rawNumber_52 : decode cX3_rawNumber 52 = .ok (.ifCond .le 31, 3) := dk_158 0 31 (dk_at dksX3_rawNumber_2 7 rfl rfl)
theorem dX3_rawNumber_55 : decode cX3_rawNumber 55 = .ok (.aload_n 0, 1) := dk_42 (dk_at dksX3_rawNumber_2 10 rfl rfl)
theorem dX3_rawNumber_56 : decode cX3_rawNumber 56 = .ok (.ldc2_w 293, 3) := dk_20 1 37 (dk_at dksX3_rawNumber_2 11 rfl rfl)
theorem dX3_rawNumber_59 : decode cX3_rawNumber 59 = .ok (.lload_n 2, 1) := dk_32 (dk_at dksX3_rawNumber_2 14 rfl rfl)
theorem dX3_rawNumber_60 : decode cX3_rawNumber 60 = .ok (.lload 4, 2) := dk_22 4 (dk_at dksX3_rawNumber_2 15 rfl rfl)
theorem dX3_rawNumber_62 : decode cX3_rawNumber 62 = .ok (.ldiv, 1) := dk_109 (dk_at dksX3_rawNumber_2 17 rfl rfl)
theorem dX3_rawNumber_63 : decode cX3_rawNumber 63 = .ok (.ldc2_w 291, 3) := dk_20 1 35 (dk_at dksX3_rawNumber_2 18 rfl rfl)
theorem dX3_rawNumber_66 : decode cX3_rawNumber 66 = .ok (.lrem, 1) := dk_113 (dk_at dksX3_rawNumber_2 21 rfl rfl)
theorem dX3_rawNumber_67 : decode cX3_rawNumber 67 = .ok (.ladd, 1) := dk_97 (dk_at dksX3_rawNumber_2 22 rfl rfl)
theorem dX3_rawNumber_68 : decode cX3_rawNumber 68 = .ok (.l2i, 1) := dk_136 (dk_at dksX3_rawNumber_2 23 rfl rfl)
theorem dX3_rawNumber_69 : decode cX3_rawNumber 69 = .ok (.invokevirtual 285, 3) := dk_182 1 29 (dk_at dksX3_rawNumber_3 0 rfl rfl)
theorem dX3_rawNumber_72 : decode cX3_rawNumber 72 = .ok (.lload 4, 2) := dk_22 4 (dk_at dksX3_rawNumber_3 3 rfl rfl)
theorem dX3_rawNumber_74 : decode cX3_rawNumber 74 = .ok (.ldc2_w 291, 3) := dk_20 1 35 (dk_at dksX3_rawNumber_3 5 rfl rfl)
theorem dX3_rawNumber_77 : decode cX3_rawNumber 77 = .ok (.ldiv, 1) := dk_109 (dk_at dksX3_rawNumber_3 8 rfl rfl)
theorem dX3_rawNumber_78 : decode cX3_rawNumber 78 = .ok (.lstore 4, 2) := dk_55 4 (dk_at dksX3_rawNumber_3 9 rfl rfl)
theorem dX3_rawNumber_80 : decode cX3_rawNumber 80 = .ok (.goto (-32), 3) := dk_167 255 224 (dk_at dksX3_rawNumber_3 11 rfl rfl)
theorem dX3_rawNumber_83 : decode cX3_rawNumber 83 = .ok (.return_, 1) := dk_177 (dk_at dksX3_rawNumber_3 14 rfl rfl)
abbrev cX3_rawPut : ByteArray := prog_24_method_39_code
def yX3_rawPut : MethodName := ⟨RX3, "rawPut", "(I)V"⟩
def dkwX3_rawPut_1 : List UInt8 := [180, 0, 113, 17, 1, 145, 162, 0, 13, 42, 89, 180, 0, 113, 4, 96, 181, 0, 113, 177]
abbrev dktX3_rawPut_1 : List UInt8 := dkwX3_rawPut_1 ++ []
def dkwX3_rawPut_0 : List UInt8 := [42, 180, 0, 113, 17, 1, 145, 162, 0, 14, 42, 180, 0, 104, 42, 180, 0, 113, 27, 146, 85, 42]
abbrev dktX3_rawPut_0 : List UInt8 := dkwX3_rawPut_0 ++ dktX3_rawPut_1
theorem dksX3_rawPut_0 : cX3_rawPut.data.toList.drop 0 = dktX3_rawPut_0 := by decide +kernel
theorem dksX3_rawPut_1 : cX3_rawPut.data.toList.drop 22 = dktX3_rawPut_1 := dk_seg dksX3_rawPut_0 22 rfl rfl
theorem dX3_rawPut_0 : decode cX3_rawPut 0 = .ok (.aload_n 0, 1) := dk_42 (dk_at dksX3_rawPut_0 0 rfl rfl)
theorem dX3_rawPut_1 : decode cX3_rawPut 1 = .ok (.getfield 113, 3) := dk_180 0 113 (dk_at dksX3_rawPut_0 1 rfl rfl)
theorem dX3_rawPut_4 : decode cX3_rawPut 4 = .ok (.sipush 401, 3) := dk_17 1 145 (dk_at dksX3_rawPut_0 4 rfl rfl)
theorem dX3_rawPut_7 : decode cX3_rawPut 7 = .ok (.if_icmp .ge 14, 3) := dk_162 0 14 (dk_at dksX3_rawPut_0 7 rfl rfl)
theorem dX3_rawPut_10 : decode cX3_rawPut 10 = .ok (.aload_n 0, 1) := dk_42 (dk_at dksX3_rawPut_0 10 rfl rfl)
theorem dX3_rawPut_11 : decode cX3_rawPut 11 = .ok (.getfield 104, 3) := dk_180 0 104 (dk_at dksX3_rawPut_0 11 rfl rfl)
theorem dX3_rawPut_14 : decode cX3_rawPut 14 = .ok (.aload_n 0, 1) := dk_42 (dk_at dksX3_rawPut_0 14 rfl rfl)
theorem dX3_rawPut_15 : decode cX3_rawPut 15 = .ok (.getfield 113, 3) := dk_180 0 113 (dk_at dksX3_rawPut_0 15 rfl rfl)
theorem dX3_rawPut_18 : decode cX3_rawPut 18 = .ok (.iload_n 1, 1) := dk_27 (dk_at dksX3_rawPut_0 18 rfl rfl)
theorem dX3_rawPut_19 : decode cX3_rawPut 19 = .ok (.i2c, 1) := dk_146 (dk_at dksX3_rawPut_0 19 rfl rfl)
theorem dX3_rawPut_20 : decode cX3_rawPut 20 = .ok (.castore, 1) := dk_85 (dk_at dksX3_rawPut_0 20 rfl rfl)
theorem dX3_rawPut_21 : decode cX3_rawPut 21 = .ok (.aload_n 0, 1) := dk_42 (dk_at dksX3_rawPut_0 21 rfl rfl)
theorem dX3_rawPut_22 : decode cX3_rawPut 22 = .ok (.getfield 113, 3) := dk_180 0 113 (dk_at dksX3_rawPut_1 0 rfl rfl)
theorem dX3_rawPut_25 : decode cX3_rawPut 25 = .ok (.sipush 401, 3) := dk_17 1 145 (dk_at dksX3_rawPut_1 3 rfl rfl)
theorem dX3_rawPut_28 : decode cX3_rawPut 28 = .ok (.if_icmp .ge 13, 3) := dk_162 0 13 (dk_at dksX3_rawPut_1 6 rfl rfl)
theorem dX3_rawPut_31 : decode cX3_rawPut 31 = .ok (.aload_n 0, 1) := dk_42 (dk_at dksX3_rawPut_1 9 rfl rfl)
theorem dX3_rawPut_32 : decode cX3_rawPut 32 = .ok (.dup, 1) := dk_89 (dk_at dksX3_rawPut_1 10 rfl rfl)
theorem dX3_rawPut_33 : decode cX3_rawPut 33 = .ok (.getfield 113, 3) := dk_180 0 113 (dk_at dksX3_rawPut_1 11 rfl rfl)
theorem dX3_rawPut_36 : decode cX3_rawPut 36 = .ok (.iconst 1, 1) := dk_4 (dk_at dksX3_rawPut_1 14 rfl rfl)
theorem dX3_rawPut_37 : decode cX3_rawPut 37 = .ok (.iadd, 1) := dk_96 (dk_at dksX3_rawPut_1 15 rfl rfl)
theorem dX3_rawPut_38 : decode cX3_rawPut 38 = .ok (.putfield 113, 3) := dk_181 0 113 (dk_at dksX3_rawPut_1 16 rfl rfl)
theorem dX3_rawPut_41 : decode cX3_rawPut 41 = .ok (.return_, 1) := dk_177 (dk_at dksX3_rawPut_1 19 rfl rfl)
abbrev cX3_rawData : ByteArray := prog_24_method_42_code
def yX3_rawData : MethodName := ⟨RX3, "rawData", "(I)V"⟩
def dkwX3_rawData_4 : List UInt8 := [42, 180, 0, 131, 3, 79, 42, 89, 180, 0, 131, 4, 96, 181, 0, 131, 177]
abbrev dktX3_rawData_4 : List UInt8 := dkwX3_rawData_4 ++ []
def dkwX3_rawData_3 : List UInt8 := [180, 0, 35, 27, 46, 5, 159, 0, 4, 177, 42, 180, 0, 146, 42, 180, 0, 131, 27, 79, 42, 180, 0, 149]
abbrev dktX3_rawData_3 : List UInt8 := dkwX3_rawData_3 ++ dktX3_rawData_4
def dkwX3_rawData_2 : List UInt8 := [182, 1, 29, 132, 2, 1, 167, 255, 233, 42, 180, 0, 35, 27, 46, 6, 160, 0, 7, 42, 182, 1, 42, 42]
abbrev dktX3_rawData_2 : List UInt8 := dkwX3_rawData_2 ++ dktX3_rawData_3
def dkwX3_rawData_1 : List UInt8 := [46, 4, 160, 0, 31, 3, 61, 28, 42, 180, 0, 39, 27, 46, 162, 0, 19, 42, 42, 27, 28, 182, 1, 26]
abbrev dktX3_rawData_1 : List UInt8 := dkwX3_rawData_1 ++ dktX3_rawData_2
def dkwX3_rawData_0 : List UInt8 := [42, 180, 0, 35, 27, 46, 154, 0, 13, 42, 42, 180, 0, 39, 27, 46, 182, 1, 39, 42, 180, 0, 35, 27]
abbrev dktX3_rawData_0 : List UInt8 := dkwX3_rawData_0 ++ dktX3_rawData_1
theorem dksX3_rawData_0 : cX3_rawData.data.toList.drop 0 = dktX3_rawData_0 := by decide +kernel
theorem dksX3_rawData_1 : cX3_rawData.data.toList.drop 24 = dktX3_rawData_1 := dk_seg dksX3_rawData_0 24 rfl rfl
theorem dksX3_rawData_2 : cX3_rawData.data.toList.drop 48 = dktX3_rawData_2 := dk_seg dksX3_rawData_1 24 rfl rfl
theorem dksX3_rawData_3 : cX3_rawData.data.toList.drop 72 = dktX3_rawData_3 := dk_seg dksX3_rawData_2 24 rfl rfl
theorem dksX3_rawData_4 : cX3_rawData.data.toList.drop 96 = dktX3_rawData_4 := dk_seg dksX3_rawData_3 24 rfl rfl
theorem dX3_rawData_0 : decode cX3_rawData 0 = .ok (.aload_n 0, 1) := dk_42 (dk_at dksX3_rawData_0 0 rfl rfl)
theorem dX3_rawData_1 : decode cX3_rawData 1 = .ok (.getfield 35, 3) := dk_180 0 35 (dk_at dksX3_rawData_0 1 rfl rfl)
theorem dX3_rawData_4 : decode cX3_rawData 4 = .ok (.iload_n 1, 1) := dk_27 (dk_at dksX3_rawData_0 4 rfl rfl)
theorem dX3_rawData_5 : decode cX3_rawData 5 = .ok (.iaload, 1) := dk_46 (dk_at dksX3_rawData_0 5 rfl rfl)
theorem dX3_rawData_6 : decode cX3_rawData 6 = .ok (.ifCond .ne 13, 3) := dk_154 0 13 (dk_at dksX3_rawData_0 6 rfl rfl)
theorem dX3_rawData_9 : decode cX3_rawData 9 = .ok (.aload_n 0, 1) := dk_42 (dk_at dksX3_rawData_0 9 rfl rfl)
theorem dX3_rawData_10 : decode cX3_rawData 10 = .ok (.aload_n 0, 1) := dk_42 (dk_at dksX3_rawData_0 10 rfl rfl)
theorem dX3_rawData_11 : decode cX3_rawData 11 = .ok (.getfield 39, 3) := dk_180 0 39 (dk_at dksX3_rawData_0 11 rfl rfl)
theorem dX3_rawData_14 : decode cX3_rawData 14 = .ok (.iload_n 1, 1) := dk_27 (dk_at dksX3_rawData_0 14 rfl rfl)
theorem dX3_rawData_15 : decode cX3_rawData 15 = .ok (.iaload, 1) := dk_46 (dk_at dksX3_rawData_0 15 rfl rfl)
theorem dX3_rawData_16 : decode cX3_rawData 16 = .ok (.invokevirtual 295, 3) := dk_182 1 39 (dk_at dksX3_rawData_0 16 rfl rfl)
theorem dX3_rawData_19 : decode cX3_rawData 19 = .ok (.aload_n 0, 1) := dk_42 (dk_at dksX3_rawData_0 19 rfl rfl)
theorem dX3_rawData_20 : decode cX3_rawData 20 = .ok (.getfield 35, 3) := dk_180 0 35 (dk_at dksX3_rawData_0 20 rfl rfl)
theorem dX3_rawData_23 : decode cX3_rawData 23 = .ok (.iload_n 1, 1) := dk_27 (dk_at dksX3_rawData_0 23 rfl rfl)
theorem dX3_rawData_24 : decode cX3_rawData 24 = .ok (.iaload, 1) := dk_46 (dk_at dksX3_rawData_1 0 rfl rfl)
theorem dX3_rawData_25 : decode cX3_rawData 25 = .ok (.iconst 1, 1) := dk_4 (dk_at dksX3_rawData_1 1 rfl rfl)
theorem dX3_rawData_26 : decode cX3_rawData 26 = .ok (.if_icmp .ne 31, 3) := dk_160 0 31 (dk_at dksX3_rawData_1 2 rfl rfl)
theorem dX3_rawData_29 : decode cX3_rawData 29 = .ok (.iconst 0, 1) := dk_3 (dk_at dksX3_rawData_1 5 rfl rfl)
theorem dX3_rawData_30 : decode cX3_rawData 30 = .ok (.istore_n 2, 1) := dk_61 (dk_at dksX3_rawData_1 6 rfl rfl)
theorem dX3_rawData_31 : decode cX3_rawData 31 = .ok (.iload_n 2, 1) := dk_28 (dk_at dksX3_rawData_1 7 rfl rfl)
theorem dX3_rawData_32 : decode cX3_rawData 32 = .ok (.aload_n 0, 1) := dk_42 (dk_at dksX3_rawData_1 8 rfl rfl)
theorem dX3_rawData_33 : decode cX3_rawData 33 = .ok (.getfield 39, 3) := dk_180 0 39 (dk_at dksX3_rawData_1 9 rfl rfl)
theorem dX3_rawData_36 : decode cX3_rawData 36 = .ok (.iload_n 1, 1) := dk_27 (dk_at dksX3_rawData_1 12 rfl rfl)
theorem dX3_rawData_37 : decode cX3_rawData 37 = .ok (.iaload, 1) := dk_46 (dk_at dksX3_rawData_1 13 rfl rfl)
theorem dX3_rawData_38 : decode cX3_rawData 38 = .ok (.if_icmp .ge 19, 3) := dk_162 0 19 (dk_at dksX3_rawData_1 14 rfl rfl)
theorem dX3_rawData_41 : decode cX3_rawData 41 = .ok (.aload_n 0, 1) := dk_42 (dk_at dksX3_rawData_1 17 rfl rfl)
theorem dX3_rawData_42 : decode cX3_rawData 42 = .ok (.aload_n 0, 1) := dk_42 (dk_at dksX3_rawData_1 18 rfl rfl)
theorem dX3_rawData_43 : decode cX3_rawData 43 = .ok (.iload_n 1, 1) := dk_27 (dk_at dksX3_rawData_1 19 rfl rfl)
theorem dX3_rawData_44 : decode cX3_rawData 44 = .ok (.iload_n 2, 1) := dk_28 (dk_at dksX3_rawData_1 20 rfl rfl)
theorem dX3_rawData_45 : decode cX3_rawData 45 = .ok (.invokevirtual 282, 3) := dk_182 1 26 (dk_at dksX3_rawData_1 21 rfl rfl)
theorem dX3_rawData_48 : decode cX3_rawData 48 = .ok (.invokevirtual 285, 3) := dk_182 1 29 (dk_at dksX3_rawData_2 0 rfl rfl)
theorem dX3_rawData_51 : decode cX3_rawData 51 = .ok (.iinc 2 1, 3) := dk_132 2 1 (dk_at dksX3_rawData_2 3 rfl rfl)
theorem dX3_rawData_54 : decode cX3_rawData 54 = .ok (.goto (-23), 3) := dk_167 255 233 (dk_at dksX3_rawData_2 6 rfl rfl)
theorem dX3_rawData_57 : decode cX3_rawData 57 = .ok (.aload_n 0, 1) := dk_42 (dk_at dksX3_rawData_2 9 rfl rfl)
theorem dX3_rawData_58 : decode cX3_rawData 58 = .ok (.getfield 35, 3) := dk_180 0 35 (dk_at dksX3_rawData_2 10 rfl rfl)
theorem dX3_rawData_61 : decode cX3_rawData 61 = .ok (.iload_n 1, 1) := dk_27 (dk_at dksX3_rawData_2 13 rfl rfl)
theorem dX3_rawData_62 : decode cX3_rawData 62 = .ok (.iaload, 1) := dk_46 (dk_at dksX3_rawData_2 14 rfl rfl)
theorem dX3_rawData_63 : decode cX3_rawData 63 = .ok (.iconst 3, 1) := dk_6 (dk_at dksX3_rawData_2 15 rfl rfl)
theorem dX3_rawData_64 : decode cX3_rawData 64 = .ok (.if_icmp .ne 7, 3) := dk_160 0 7 (dk_at dksX3_rawData_2 16 rfl rfl)
theorem dX3_rawData_67 : decode cX3_rawData 67 = .ok (.aload_n 0, 1) := dk_42 (dk_at dksX3_rawData_2 19 rfl rfl)
theorem dX3_rawData_68 : decode cX3_rawData 68 = .ok (.invokevirtual 298, 3) := dk_182 1 42 (dk_at dksX3_rawData_2 20 rfl rfl)
theorem dX3_rawData_71 : decode cX3_rawData 71 = .ok (.aload_n 0, 1) := dk_42 (dk_at dksX3_rawData_2 23 rfl rfl)
theorem dX3_rawData_72 : decode cX3_rawData 72 = .ok (.getfield 35, 3) := dk_180 0 35 (dk_at dksX3_rawData_3 0 rfl rfl)
theorem dX3_rawData_75 : decode cX3_rawData 75 = .ok (.iload_n 1, 1) := dk_27 (dk_at dksX3_rawData_3 3 rfl rfl)
theorem dX3_rawData_76 : decode cX3_rawData 76 = .ok (.iaload, 1) := dk_46 (dk_at dksX3_rawData_3 4 rfl rfl)
theorem dX3_rawData_77 : decode cX3_rawData 77 = .ok (.iconst 2, 1) := dk_5 (dk_at dksX3_rawData_3 5 rfl rfl)
theorem dX3_rawData_78 : decode cX3_rawData 78 = .ok (.if_icmp .eq 4, 3) := dk_159 0 4 (dk_at dksX3_rawData_3 6 rfl rfl)
theorem dX3_rawData_81 : decode cX3_rawData 81 = .ok (.return_, 1) := dk_177 (dk_at dksX3_rawData_3 9 rfl rfl)
theorem dX3_rawData_82 : decode cX3_rawData 82 = .ok (.aload_n 0, 1) := dk_42 (dk_at dksX3_rawData_3 10 rfl rfl)
theorem dX3_rawData_83 : decode cX3_rawData 83 = .ok (.getfield 146, 3) := dk_180 0 146 (dk_at dksX3_rawData_3 11 rfl rfl)
theorem dX3_rawData_86 : decode cX3_rawData 86 = .ok (.aload_n 0, 1) := dk_42 (dk_at dksX3_rawData_3 14 rfl rfl)
theorem dX3_rawData_87 : decode cX3_rawData 87 = .ok (.getfield 131, 3) := dk_180 0 131 (dk_at dksX3_rawData_3 15 rfl rfl)
theorem dX3_rawData_90 : decode cX3_rawData 90 = .ok (.iload_n 1, 1) := dk_27 (dk_at dksX3_rawData_3 18 rfl rfl)
theorem dX3_rawData_91 : decode cX3_rawData 91 = .ok (.iastore, 1) := dk_79 (dk_at dksX3_rawData_3 19 rfl rfl)
theorem dX3_rawData_92 : decode cX3_rawData 92 = .ok (.aload_n 0, 1) := dk_42 (dk_at dksX3_rawData_3 20 rfl rfl)
theorem dX3_rawData_93 : decode cX3_rawData 93 = .ok (.getfield 149, 3) := dk_180 0 149 (dk_at dksX3_rawData_3 21 rfl rfl)
theorem dX3_rawData_96 : decode cX3_rawData 96 = .ok (.aload_n 0, 1) := dk_42 (dk_at dksX3_rawData_4 0 rfl rfl)
theorem dX3_rawData_97 : decode cX3_rawData 97 = .ok (.getfield 131, 3) := dk_180 0 131 (dk_at dksX3_rawData_4 1 rfl rfl)
theorem dX3_rawData_100 : decode cX3_rawData 100 = .ok (.iconst 0, 1) := dk_3 (dk_at dksX3_rawData_4 4 rfl rfl)
theorem dX3_rawData_101 : decode cX3_rawData 101 = .ok (.iastore, 1) := dk_79 (dk_at dksX3_rawData_4 5 rfl rfl)
theorem dX3_rawData_102 : decode cX3_rawData 102 = .ok (.aload_n 0, 1) := dk_42 (dk_at dksX3_rawData_4 6 rfl rfl)
theorem dX3_rawData_103 : decode cX3_rawData 103 = .ok (.dup, 1) := dk_89 (dk_at dksX3_rawData_4 7 rfl rfl)
theorem dX3_rawData_104 : decode cX3_rawData 104 = .ok (.getfield 131, 3) := dk_180 0 131 (dk_at dksX3_rawData_4 8 rfl rfl)
theorem dX3_rawData_107 : decode cX3_rawData 107 = .ok (.iconst 1, 1) := dk_4 (dk_at dksX3_rawData_4 11 rfl rfl)
theorem dX3_rawData_108 : decode cX3_rawData 108 = .ok (.iadd, 1) := dk_96 (dk_at dksX3_rawData_4 12 rfl rfl)
theorem dX3_rawData_109 : decode cX3_rawData 109 = .ok (.putfield 131, 3) := dk_181 0 131 (dk_at dksX3_rawData_4 13 rfl rfl)
theorem dX3_rawData_112 : decode cX3_rawData 112 = .ok (.return_, 1) := dk_177 (dk_at dksX3_rawData_4 16 rfl rfl)
abbrev cX3_rawMap : ByteArray := prog_24_method_41_code
def yX3_rawMap : MethodName := ⟨RX3, "rawMap", "()V"⟩
def dkwX3_rawMap_1 : List UInt8 := [42, 16, 93, 182, 1, 29, 177]
abbrev dktX3_rawMap_1 : List UInt8 := dkwX3_rawMap_1 ++ []
def dkwX3_rawMap_0 : List UInt8 := [42, 16, 91, 182, 1, 29, 42, 16, 109, 182, 1, 29, 42, 16, 97, 182, 1, 29, 42, 16, 112, 182, 1, 29]
abbrev dktX3_rawMap_0 : List UInt8 := dkwX3_rawMap_0 ++ dktX3_rawMap_1
theorem dksX3_rawMap_0 : cX3_rawMap.data.toList.drop 0 = dktX3_rawMap_0 := by decide +kernel
theorem dksX3_rawMap_1 : cX3_rawMap.data.toList.drop 24 = dktX3_rawMap_1 := dk_seg dksX3_rawMap_0 24 rfl rfl
theorem dX3_rawMap_0 : decode cX3_rawMap 0 = .ok (.aload_n 0, 1) := dk_42 (dk_at dksX3_rawMap_0 0 rfl rfl)
theorem dX3_rawMap_1 : decode cX3_rawMap 1 = .ok (.bipush 91, 2) := dk_16 91 (dk_at dksX3_rawMap_0 1 rfl rfl)
theorem dX3_rawMap_3 : decode cX3_rawMap 3 = .ok (.invokevirtual 285, 3) := dk_182 1 29 (dk_at dksX3_rawMap_0 3 rfl rfl)
theorem dX3_rawMap_6 : decode cX3_rawMap 6 = .ok (.aload_n 0, 1) := dk_42 (dk_at dksX3_rawMap_0 6 rfl rfl)
theorem dX3_rawMap_7 : decode cX3_rawMap 7 = .ok (.bipush 109, 2) := dk_16 109 (dk_at dksX3_rawMap_0 7 rfl rfl)
theorem dX3_rawMap_9 : decode cX3_rawMap 9 = .ok (.invokevirtual 285, 3) := dk_182 1 29 (dk_at dksX3_rawMap_0 9 rfl rfl)
theorem dX3_rawMap_12 : decode cX3_rawMap 12 = .ok (.aload_n 0, 1) := dk_42 (dk_at dksX3_rawMap_0 12 rfl rfl)
theorem dX3_rawMap_13 : decode cX3_rawMap 13 = .ok (.bipush 97, 2) := dk_16 97 (dk_at dksX3_rawMap_0 13 rfl rfl)
theorem dX3_rawMap_15 : decode cX3_rawMap 15 = .ok (.invokevirtual 285, 3) := dk_182 1 29 (dk_at dksX3_rawMap_0 15 rfl rfl)
theorem dX3_rawMap_18 : decode cX3_rawMap 18 = .ok (.aload_n 0, 1) := dk_42 (dk_at dksX3_rawMap_0 18 rfl rfl)
theorem dX3_rawMap_19 : decode cX3_rawMap 19 = .ok (.bipush 112, 2) := dk_16 112 (dk_at dksX3_rawMap_0 19 rfl rfl)
theorem dX3_rawMap_21 : decode cX3_rawMap 21 = .ok (.invokevirtual 285, 3) := dk_182 1 29 (dk_at dksX3_rawMap_0 21 rfl rfl)
theorem dX3_rawMap_24 : decode cX3_rawMap 24 = .ok (.aload_n 0, 1) := dk_42 (dk_at dksX3_rawMap_1 0 rfl rfl)
theorem dX3_rawMap_25 : decode cX3_rawMap 25 = .ok (.bipush 93, 2) := dk_16 93 (dk_at dksX3_rawMap_1 1 rfl rfl)
theorem dX3_rawMap_27 : decode cX3_rawMap 27 = .ok (.invokevirtual 285, 3) := dk_182 1 29 (dk_at dksX3_rawMap_1 3 rfl rfl)
theorem dX3_rawMap_30 : decode cX3_rawMap 30 = .ok (.return_, 1) := dk_177 (dk_at dksX3_rawMap_1 6 rfl rfl)
abbrev cX3_lengthOf : ByteArray := prog_24_method_44_code
def yX3_lengthOf : MethodName := ⟨RX3, "lengthOf", "(I)I"⟩
def dkwX3_lengthOf_2 : List UInt8 := [27, 46, 46, 172, 42, 27, 182, 1, 48, 42, 180, 0, 113, 172]
abbrev dktX3_lengthOf_2 : List UInt8 := dkwX3_lengthOf_2 ++ []
def dkwX3_lengthOf_1 : List UInt8 := [180, 0, 98, 27, 46, 172, 42, 180, 0, 92, 27, 46, 4, 164, 0, 15, 42, 180, 0, 39, 42, 180, 0, 95]
abbrev dktX3_lengthOf_1 : List UInt8 := dkwX3_lengthOf_1 ++ dktX3_lengthOf_2
def dkwX3_lengthOf_0 : List UInt8 := [42, 180, 0, 92, 27, 46, 156, 0, 5, 3, 172, 42, 180, 0, 92, 27, 46, 4, 160, 0, 10, 42]
abbrev dktX3_lengthOf_0 : List UInt8 := dkwX3_lengthOf_0 ++ dktX3_lengthOf_1
theorem dksX3_lengthOf_0 : cX3_lengthOf.data.toList.drop 0 = dktX3_lengthOf_0 := by decide +kernel
theorem dksX3_lengthOf_1 : cX3_lengthOf.data.toList.drop 22 = dktX3_lengthOf_1 := dk_seg dksX3_lengthOf_0 22 rfl rfl
theorem dksX3_lengthOf_2 : cX3_lengthOf.data.toList.drop 46 = dktX3_lengthOf_2 := dk_seg dksX3_lengthOf_1 24 rfl rfl
theorem dX3_lengthOf_0 : decode cX3_lengthOf 0 = .ok (.aload_n 0, 1) := dk_42 (dk_at dksX3_lengthOf_0 0 rfl rfl)
theorem dX3_lengthOf_1 : decode cX3_lengthOf 1 = .ok (.getfield 92, 3) := dk_180 0 92 (dk_at dksX3_lengthOf_0 1 rfl rfl)
theorem dX3_lengthOf_4 : decode cX3_lengthOf 4 = .ok (.iload_n 1, 1) := dk_27 (dk_at dksX3_lengthOf_0 4 rfl rfl)
theorem dX3_lengthOf_5 : decode cX3_lengthOf 5 = .ok (.iaload, 1) := dk_46 (dk_at dksX3_lengthOf_0 5 rfl rfl)
theorem dX3_lengthOf_6 : decode cX3_lengthOf 6 = .ok (.ifCond .ge 5, 3) := dk_156 0 5 (dk_at dksX3_lengthOf_0 6 rfl rfl)
theorem dX3_lengthOf_9 : decode cX3_lengthOf 9 = .ok (.iconst 0, 1) := dk_3 (dk_at dksX3_lengthOf_0 9 rfl rfl)
theorem dX3_lengthOf_10 : decode cX3_lengthOf 10 = .ok (.ireturn, 1) := dk_172 (dk_at dksX3_lengthOf_0 10 rfl rfl)
theorem dX3_lengthOf_11 : decode cX3_lengthOf 11 = .ok (.aload_n 0, 1) := dk_42 (dk_at dksX3_lengthOf_0 11 rfl rfl)
theorem dX3_lengthOf_12 : decode cX3_lengthOf 12 = .ok (.getfield 92, 3) := dk_180 0 92 (dk_at dksX3_lengthOf_0 12 rfl rfl)
theorem dX3_lengthOf_15 : decode cX3_lengthOf 15 = .ok (.iload_n 1, 1) := dk_27 (dk_at dksX3_lengthOf_0 15 rfl rfl)
theorem dX3_lengthOf_16 : decode cX3_lengthOf 16 = .ok (.iaload, 1) := dk_46 (dk_at dksX3_lengthOf_0 16 rfl rfl)
theorem dX3_lengthOf_17 : decode cX3_lengthOf 17 = .ok (.iconst 1, 1) := dk_4 (dk_at dksX3_lengthOf_0 17 rfl rfl)
theorem dX3_lengthOf_18 : decode cX3_lengthOf 18 = .ok (.if_icmp .ne 10, 3) := dk_160 0 10 (dk_at dksX3_lengthOf_0 18 rfl rfl)
theorem dX3_lengthOf_21 : decode cX3_lengthOf 21 = .ok (.aload_n 0, 1) := dk_42 (dk_at dksX3_lengthOf_0 21 rfl rfl)
theorem dX3_lengthOf_22 : decode cX3_lengthOf 22 = .ok (.getfield 98, 3) := dk_180 0 98 (dk_at dksX3_lengthOf_1 0 rfl rfl)
theorem dX3_lengthOf_25 : decode cX3_lengthOf 25 = .ok (.iload_n 1, 1) := dk_27 (dk_at dksX3_lengthOf_1 3 rfl rfl)
theorem dX3_lengthOf_26 : decode cX3_lengthOf 26 = .ok (.iaload, 1) := dk_46 (dk_at dksX3_lengthOf_1 4 rfl rfl)
theorem dX3_lengthOf_27 : decode cX3_lengthOf 27 = .ok (.ireturn, 1) := dk_172 (dk_at dksX3_lengthOf_1 5 rfl rfl)
theorem dX3_lengthOf_28 : decode cX3_lengthOf 28 = .ok (.aload_n 0, 1) := dk_42 (dk_at dksX3_lengthOf_1 6 rfl rfl)
theorem dX3_lengthOf_29 : decode cX3_lengthOf 29 = .ok (.getfield 92, 3) := dk_180 0 92 (dk_at dksX3_lengthOf_1 7 rfl rfl)
theorem dX3_lengthOf_32 : decode cX3_lengthOf 32 = .ok (.iload_n 1, 1) := dk_27 (dk_at dksX3_lengthOf_1 10 rfl rfl)
theorem dX3_lengthOf_33 : decode cX3_lengthOf 33 = .ok (.iaload, 1) := dk_46 (dk_at dksX3_lengthOf_1 11 rfl rfl)
theorem dX3_lengthOf_34 : decode cX3_lengthOf 34 = .ok (.iconst 1, 1) := dk_4 (dk_at dksX3_lengthOf_1 12 rfl rfl)
theorem dX3_lengthOf_35 : decode cX3_lengthOf 35 = .ok (.if_icmp .le 15, 3) := dk_164 0 15 (dk_at dksX3_lengthOf_1 13 rfl rfl)
theorem dX3_lengthOf_38 : decode cX3_lengthOf 38 = .ok (.aload_n 0, 1) := dk_42 (dk_at dksX3_lengthOf_1 16 rfl rfl)
theorem dX3_lengthOf_39 : decode cX3_lengthOf 39 = .ok (.getfield 39, 3) := dk_180 0 39 (dk_at dksX3_lengthOf_1 17 rfl rfl)
theorem dX3_lengthOf_42 : decode cX3_lengthOf 42 = .ok (.aload_n 0, 1) := dk_42 (dk_at dksX3_lengthOf_1 20 rfl rfl)
theorem dX3_lengthOf_43 : decode cX3_lengthOf 43 = .ok (.getfield 95, 3) := dk_180 0 95 (dk_at dksX3_lengthOf_1 21 rfl rfl)
theorem dX3_lengthOf_46 : decode cX3_lengthOf 46 = .ok (.iload_n 1, 1) := dk_27 (dk_at dksX3_lengthOf_2 0 rfl rfl)
theorem dX3_lengthOf_47 : decode cX3_lengthOf 47 = .ok (.iaload, 1) := dk_46 (dk_at dksX3_lengthOf_2 1 rfl rfl)
theorem dX3_lengthOf_48 : decode cX3_lengthOf 48 = .ok (.iaload, 1) := dk_46 (dk_at dksX3_lengthOf_2 2 rfl rfl)
theorem dX3_lengthOf_49 : decode cX3_lengthOf 49 = .ok (.ireturn, 1) := dk_172 (dk_at dksX3_lengthOf_2 3 rfl rfl)
theorem dX3_lengthOf_50 : decode cX3_lengthOf 50 = .ok (.aload_n 0, 1) := dk_42 (dk_at dksX3_lengthOf_2 4 rfl rfl)
theorem dX3_lengthOf_51 : decode cX3_lengthOf 51 = .ok (.iload_n 1, 1) := dk_27 (dk_at dksX3_lengthOf_2 5 rfl rfl)
theorem dX3_lengthOf_52 : decode cX3_lengthOf 52 = .ok (.invokevirtual 304, 3) := dk_182 1 48 (dk_at dksX3_lengthOf_2 6 rfl rfl)
theorem dX3_lengthOf_55 : decode cX3_lengthOf 55 = .ok (.aload_n 0, 1) := dk_42 (dk_at dksX3_lengthOf_2 9 rfl rfl)
theorem dX3_lengthOf_56 : decode cX3_lengthOf 56 = .ok (.getfield 113, 3) := dk_180 0 113 (dk_at dksX3_lengthOf_2 10 rfl rfl)
theorem dX3_lengthOf_59 : decode cX3_lengthOf 59 = .ok (.ireturn, 1) := dk_172 (dk_at dksX3_lengthOf_2 13 rfl rfl)
abbrev cX3_isFalse : ByteArray := prog_24_method_45_code
def yX3_isFalse : MethodName := ⟨RX3, "isFalse", "(I)Z"⟩
def dkwX3_isFalse_2 : List UInt8 := [27, 182, 1, 51, 154, 0, 7, 4, 167, 0, 4, 3, 172]
abbrev dktX3_isFalse_2 : List UInt8 := dkwX3_isFalse_2 ++ []
def dkwX3_isFalse_1 : List UInt8 := [153, 0, 31, 42, 180, 0, 92, 27, 46, 4, 159, 0, 13, 42, 180, 0, 92, 27, 46, 5, 160, 0, 15, 42]
abbrev dktX3_isFalse_1 : List UInt8 := dkwX3_isFalse_1 ++ dktX3_isFalse_2
def dkwX3_isFalse_0 : List UInt8 := [42, 180, 0, 92, 27, 46, 155, 0, 49, 42, 180, 0, 92, 27, 46, 154, 0, 12, 42, 180, 0, 95, 27, 46]
abbrev dktX3_isFalse_0 : List UInt8 := dkwX3_isFalse_0 ++ dktX3_isFalse_1
theorem dksX3_isFalse_0 : cX3_isFalse.data.toList.drop 0 = dktX3_isFalse_0 := by decide +kernel
theorem dksX3_isFalse_1 : cX3_isFalse.data.toList.drop 24 = dktX3_isFalse_1 := dk_seg dksX3_isFalse_0 24 rfl rfl
theorem dksX3_isFalse_2 : cX3_isFalse.data.toList.drop 48 = dktX3_isFalse_2 := dk_seg dksX3_isFalse_1 24 rfl rfl
theorem dX3_isFalse_0 : decode cX3_isFalse 0 = .ok (.aload_n 0, 1) := dk_42 (dk_at dksX3_isFalse_0 0 rfl rfl)
theorem dX3_isFalse_1 : decode cX3_isFalse 1 = .ok (.getfield 92, 3) := dk_180 0 92 (dk_at dksX3_isFalse_0 1 rfl rfl)
theorem dX3_isFalse_4 : decode cX3_isFalse 4 = .ok (.iload_n 1, 1) := dk_27 (dk_at dksX3_isFalse_0 4 rfl rfl)
theorem dX3_isFalse_5 : decode cX3_isFalse 5 = .ok (.iaload, 1) := dk_46 (dk_at dksX3_isFalse_0 5 rfl rfl)
theorem dX3_isFalse_6 : decode cX3_isFalse 6 = .ok (.ifCond .lt 49, 3) := dk_155 0 49 (dk_at dksX3_isFalse_0 6 rfl rfl)
theorem dX3_isFalse_9 : decode cX3_isFalse 9 = .ok (.aload_n 0, 1) := dk_42 (dk_at dksX3_isFalse_0 9 rfl rfl)
theorem dX3_isFalse_10 : decode cX3_isFalse 10 = .ok (.getfield 92, 3) := dk_180 0 92 (dk_at dksX3_isFalse_0 10 rfl rfl)
theorem dX3_isFalse_13 : decode cX3_isFalse 13 = .ok (.iload_n 1, 1) := dk_27 (dk_at dksX3_isFalse_0 13 rfl rfl)
theorem dX3_isFalse_14 : decode cX3_isFalse 14 = .ok (.iaload, 1) := dk_46 (dk_at dksX3_isFalse_0 14 rfl rfl)
theorem dX3_isFalse_15 : decode cX3_isFalse 15 = .ok (.ifCond .ne 12, 3) := dk_154 0 12 (dk_at dksX3_isFalse_0 15 rfl rfl)
theorem dX3_isFalse_18 : decode cX3_isFalse 18 = .ok (.aload_n 0, 1) := dk_42 (dk_at dksX3_isFalse_0 18 rfl rfl)
theorem dX3_isFalse_19 : decode cX3_isFalse 19 = .ok (.getfield 95, 3) := dk_180 0 95 (dk_at dksX3_isFalse_0 19 rfl rfl)
theorem dX3_isFalse_22 : decode cX3_isFalse 22 = .ok (.iload_n 1, 1) := dk_27 (dk_at dksX3_isFalse_0 22 rfl rfl)
theorem dX3_isFalse_23 : decode cX3_isFalse 23 = .ok (.iaload, 1) := dk_46 (dk_at dksX3_isFalse_0 23 rfl rfl)
theorem dX3_isFalse_24 : decode cX3_isFalse 24 = .ok (.ifCond .eq 31, 3) := dk_153 0 31 (dk_at dksX3_isFalse_1 0 rfl rfl)
theorem dX3_isFalse_27 : decode cX3_isFalse 27 = .ok (.aload_n 0, 1) := dk_42 (dk_at dksX3_isFalse_1 3 rfl rfl)
theorem dX3_isFalse_28 : decode cX3_isFalse 28 = .ok (.getfield 92, 3) := dk_180 0 92 (dk_at dksX3_isFalse_1 4 rfl rfl)
theorem dX3_isFalse_31 : decode cX3_isFalse 31 = .ok (.iload_n 1, 1) := dk_27 (dk_at dksX3_isFalse_1 7 rfl rfl)
theorem dX3_isFalse_32 : decode cX3_isFalse 32 = .ok (.iaload, 1) := dk_46 (dk_at dksX3_isFalse_1 8 rfl rfl)
theorem dX3_isFalse_33 : decode cX3_isFalse 33 = .ok (.iconst 1, 1) := dk_4 (dk_at dksX3_isFalse_1 9 rfl rfl)
theorem dX3_isFalse_34 : decode cX3_isFalse 34 = .ok (.if_icmp .eq 13, 3) := dk_159 0 13 (dk_at dksX3_isFalse_1 10 rfl rfl)
theorem dX3_isFalse_37 : decode cX3_isFalse 37 = .ok (.aload_n 0, 1) := dk_42 (dk_at dksX3_isFalse_1 13 rfl rfl)
theorem dX3_isFalse_38 : decode cX3_isFalse 38 = .ok (.getfield 92, 3) := dk_180 0 92 (dk_at dksX3_isFalse_1 14 rfl rfl)
theorem dX3_isFalse_41 : decode cX3_isFalse 41 = .ok (.iload_n 1, 1) := dk_27 (dk_at dksX3_isFalse_1 17 rfl rfl)
theorem dX3_isFalse_42 : decode cX3_isFalse 42 = .ok (.iaload, 1) := dk_46 (dk_at dksX3_isFalse_1 18 rfl rfl)
theorem dX3_isFalse_43 : decode cX3_isFalse 43 = .ok (.iconst 2, 1) := dk_5 (dk_at dksX3_isFalse_1 19 rfl rfl)
theorem dX3_isFalse_44 : decode cX3_isFalse 44 = .ok (.if_icmp .ne 15, 3) := dk_160 0 15 (dk_at dksX3_isFalse_1 20 rfl rfl)
theorem dX3_isFalse_47 : decode cX3_isFalse 47 = .ok (.aload_n 0, 1) := dk_42 (dk_at dksX3_isFalse_1 23 rfl rfl)
theorem dX3_isFalse_48 : decode cX3_isFalse 48 = .ok (.iload_n 1, 1) := dk_27 (dk_at dksX3_isFalse_2 0 rfl rfl)
theorem dX3_isFalse_49 : decode cX3_isFalse 49 = .ok (.invokevirtual 307, 3) := dk_182 1 51 (dk_at dksX3_isFalse_2 1 rfl rfl)
theorem dX3_isFalse_52 : decode cX3_isFalse 52 = .ok (.ifCond .ne 7, 3) := dk_154 0 7 (dk_at dksX3_isFalse_2 4 rfl rfl)
theorem dX3_isFalse_55 : decode cX3_isFalse 55 = .ok (.iconst 1, 1) := dk_4 (dk_at dksX3_isFalse_2 7 rfl rfl)
theorem dX3_isFalse_56 : decode cX3_isFalse 56 = .ok (.goto 4, 3) := dk_167 0 4 (dk_at dksX3_isFalse_2 8 rfl rfl)
theorem dX3_isFalse_59 : decode cX3_isFalse 59 = .ok (.iconst 0, 1) := dk_3 (dk_at dksX3_isFalse_2 11 rfl rfl)
theorem dX3_isFalse_60 : decode cX3_isFalse 60 = .ok (.ireturn, 1) := dk_172 (dk_at dksX3_isFalse_2 12 rfl rfl)
abbrev cX3_alike : ByteArray := prog_24_method_52_code
def yX3_alike : MethodName := ⟨RX3, "alike", "()Z"⟩
def dkwX3_alike_4 : List UInt8 := [132, 2, 1, 167, 255, 227, 4, 172]
abbrev dktX3_alike_4 : List UInt8 := dkwX3_alike_4 ++ []
def dkwX3_alike_3 : List UInt8 := [162, 0, 30, 42, 180, 0, 101, 17, 3, 32, 28, 96, 52, 42, 180, 0, 104, 28, 52, 159, 0, 5, 3, 172]
abbrev dktX3_alike_3 : List UInt8 := dkwX3_alike_3 ++ dktX3_alike_4
def dkwX3_alike_2 : List UInt8 := [167, 255, 232, 42, 4, 182, 1, 48, 27, 42, 180, 0, 113, 159, 0, 5, 3, 172, 3, 61, 28, 27]
abbrev dktX3_alike_2 : List UInt8 := dkwX3_alike_2 ++ dktX3_alike_3
def dkwX3_alike_1 : List UInt8 := [162, 0, 25, 42, 180, 0, 101, 17, 3, 32, 28, 96, 42, 180, 0, 104, 28, 52, 85, 132, 2, 1]
abbrev dktX3_alike_1 : List UInt8 := dkwX3_alike_1 ++ dktX3_alike_2
def dkwX3_alike_0 : List UInt8 := [42, 3, 182, 1, 48, 42, 180, 0, 113, 60, 42, 180, 0, 128, 153, 0, 5, 3, 172, 3, 61, 28, 27]
abbrev dktX3_alike_0 : List UInt8 := dkwX3_alike_0 ++ dktX3_alike_1
theorem dksX3_alike_0 : cX3_alike.data.toList.drop 0 = dktX3_alike_0 := by decide +kernel
theorem dksX3_alike_1 : cX3_alike.data.toList.drop 23 = dktX3_alike_1 := dk_seg dksX3_alike_0 23 rfl rfl
theorem dksX3_alike_2 : cX3_alike.data.toList.drop 45 = dktX3_alike_2 := dk_seg dksX3_alike_1 22 rfl rfl
theorem dksX3_alike_3 : cX3_alike.data.toList.drop 67 = dktX3_alike_3 := dk_seg dksX3_alike_2 22 rfl rfl
theorem dksX3_alike_4 : cX3_alike.data.toList.drop 91 = dktX3_alike_4 := dk_seg dksX3_alike_3 24 rfl rfl
theorem dX3_alike_0 : decode cX3_alike 0 = .ok (.aload_n 0, 1) := dk_42 (dk_at dksX3_alike_0 0 rfl rfl)
theorem dX3_alike_1 : decode cX3_alike 1 = .ok (.iconst 0, 1) := dk_3 (dk_at dksX3_alike_0 1 rfl rfl)
theorem dX3_alike_2 : decode cX3_alike 2 = .ok (.invokevirtual 304, 3) := dk_182 1 48 (dk_at dksX3_alike_0 2 rfl rfl)
theorem dX3_alike_5 : decode cX3_alike 5 = .ok (.aload_n 0, 1) := dk_42 (dk_at dksX3_alike_0 5 rfl rfl)
theorem dX3_alike_6 : decode cX3_alike 6 = .ok (.getfield 113, 3) := dk_180 0 113 (dk_at dksX3_alike_0 6 rfl rfl)
theorem dX3_alike_9 : decode cX3_alike 9 = .ok (.istore_n 1, 1) := dk_60 (dk_at dksX3_alike_0 9 rfl rfl)
theorem dX3_alike_10 : decode cX3_alike 10 = .ok (.aload_n 0, 1) := dk_42 (dk_at dksX3_alike_0 10 rfl rfl)
theorem dX3_alike_11 : decode cX3_alike 11 = .ok (.getfield 128, 3) := dk_180 0 128 (dk_at dksX3_alike_0 11 rfl rfl)
theorem dX3_alike_14 : decode cX3_alike 14 = .ok (.ifCond .eq 5, 3) := dk_153 0 5 (dk_at dksX3_alike_0 14 rfl rfl)
theorem dX3_alike_17 : decode cX3_alike 17 = .ok (.iconst 0, 1) := dk_3 (dk_at dksX3_alike_0 17 rfl rfl)
theorem dX3_alike_18 : decode cX3_alike 18 = .ok (.ireturn, 1) := dk_172 (dk_at dksX3_alike_0 18 rfl rfl)
theorem dX3_alike_19 : decode cX3_alike 19 = .ok (.iconst 0, 1) := dk_3 (dk_at dksX3_alike_0 19 rfl rfl)
theorem dX3_alike_20 : decode cX3_alike 20 = .ok (.istore_n 2, 1) := dk_61 (dk_at dksX3_alike_0 20 rfl rfl)
theorem dX3_alike_21 : decode cX3_alike 21 = .ok (.iload_n 2, 1) := dk_28 (dk_at dksX3_alike_0 21 rfl rfl)
theorem dX3_alike_22 : decode cX3_alike 22 = .ok (.iload_n 1, 1) := dk_27 (dk_at dksX3_alike_0 22 rfl rfl)
theorem dX3_alike_23 : decode cX3_alike 23 = .ok (.if_icmp .ge 25, 3) := dk_162 0 25 (dk_at dksX3_alike_1 0 rfl rfl)
theorem dX3_alike_26 : decode cX3_alike 26 = .ok (.aload_n 0, 1) := dk_42 (dk_at dksX3_alike_1 3 rfl rfl)
theorem dX3_alike_27 : decode cX3_alike 27 = .ok (.getfield 101, 3) := dk_180 0 101 (dk_at dksX3_alike_1 4 rfl rfl)
theorem dX3_alike_30 : decode cX3_alike 30 = .ok (.sipush 800, 3) := dk_17 3 32 (dk_at dksX3_alike_1 7 rfl rfl)
theorem dX3_alike_33 : decode cX3_alike 33 = .ok (.iload_n 2, 1) := dk_28 (dk_at dksX3_alike_1 10 rfl rfl)
theorem dX3_alike_34 : decode cX3_alike 34 = .ok (.iadd, 1) := dk_96 (dk_at dksX3_alike_1 11 rfl rfl)
theorem dX3_alike_35 : decode cX3_alike 35 = .ok (.aload_n 0, 1) := dk_42 (dk_at dksX3_alike_1 12 rfl rfl)
theorem dX3_alike_36 : decode cX3_alike 36 = .ok (.getfield 104, 3) := dk_180 0 104 (dk_at dksX3_alike_1 13 rfl rfl)
theorem dX3_alike_39 : decode cX3_alike 39 = .ok (.iload_n 2, 1) := dk_28 (dk_at dksX3_alike_1 16 rfl rfl)
theorem dX3_alike_40 : decode cX3_alike 40 = .ok (.caload, 1) := dk_52 (dk_at dksX3_alike_1 17 rfl rfl)
theorem dX3_alike_41 : decode cX3_alike 41 = .ok (.castore, 1) := dk_85 (dk_at dksX3_alike_1 18 rfl rfl)
theorem dX3_alike_42 : decode cX3_alike 42 = .ok (.iinc 2 1, 3) := dk_132 2 1 (dk_at dksX3_alike_1 19 rfl rfl)
theorem dX3_alike_45 : decode cX3_alike 45 = .ok (.goto (-24), 3) := dk_167 255 232 (dk_at dksX3_alike_2 0 rfl rfl)
theorem dX3_alike_48 : decode cX3_alike 48 = .ok (.aload_n 0, 1) := dk_42 (dk_at dksX3_alike_2 3 rfl rfl)
theorem dX3_alike_49 : decode cX3_alike 49 = .ok (.iconst 1, 1) := dk_4 (dk_at dksX3_alike_2 4 rfl rfl)
theorem dX3_alike_50 : decode cX3_alike 50 = .ok (.invokevirtual 304, 3) := dk_182 1 48 (dk_at dksX3_alike_2 5 rfl rfl)
theorem dX3_alike_53 : decode cX3_alike 53 = .ok (.iload_n 1, 1) := dk_27 (dk_at dksX3_alike_2 8 rfl rfl)
theorem dX3_alike_54 : decode cX3_alike 54 = .ok (.aload_n 0, 1) := dk_42 (dk_at dksX3_alike_2 9 rfl rfl)
theorem dX3_alike_55 : decode cX3_alike 55 = .ok (.getfield 113, 3) := dk_180 0 113 (dk_at dksX3_alike_2 10 rfl rfl)
theorem dX3_alike_58 : decode cX3_alike 58 = .ok (.if_icmp .eq 5, 3) := dk_159 0 5 (dk_at dksX3_alike_2 13 rfl rfl)
theorem dX3_alike_61 : decode cX3_alike 61 = .ok (.iconst 0, 1) := dk_3 (dk_at dksX3_alike_2 16 rfl rfl)
theorem dX3_alike_62 : decode cX3_alike 62 = .ok (.ireturn, 1) := dk_172 (dk_at dksX3_alike_2 17 rfl rfl)
theorem dX3_alike_63 : decode cX3_alike 63 = .ok (.iconst 0, 1) := dk_3 (dk_at dksX3_alike_2 18 rfl rfl)
theorem dX3_alike_64 : decode cX3_alike 64 = .ok (.istore_n 2, 1) := dk_61 (dk_at dksX3_alike_2 19 rfl rfl)
theorem dX3_alike_65 : decode cX3_alike 65 = .ok (.iload_n 2, 1) := dk_28 (dk_at dksX3_alike_2 20 rfl rfl)
theorem dX3_alike_66 : decode cX3_alike 66 = .ok (.iload_n 1, 1) := dk_27 (dk_at dksX3_alike_2 21 rfl rfl)
theorem dX3_alike_67 : decode cX3_alike 67 = .ok (.if_icmp .ge 30, 3) := dk_162 0 30 (dk_at dksX3_alike_3 0 rfl rfl)
theorem dX3_alike_70 : decode cX3_alike 70 = .ok (.aload_n 0, 1) := dk_42 (dk_at dksX3_alike_3 3 rfl rfl)
theorem dX3_alike_71 : decode cX3_alike 71 = .ok (.getfield 101, 3) := dk_180 0 101 (dk_at dksX3_alike_3 4 rfl rfl)
theorem dX3_alike_74 : decode cX3_alike 74 = .ok (.sipush 800, 3) := dk_17 3 32 (dk_at dksX3_alike_3 7 rfl rfl)
theorem dX3_alike_77 : decode cX3_alike 77 = .ok (.iload_n 2, 1) := dk_28 (dk_at dksX3_alike_3 10 rfl rfl)
theorem dX3_alike_78 : decode cX3_alike 78 = .ok (.iadd, 1) := dk_96 (dk_at dksX3_alike_3 11 rfl rfl)
theorem dX3_alike_79 : decode cX3_alike 79 = .ok (.caload, 1) := dk_52 (dk_at dksX3_alike_3 12 rfl rfl)
theorem dX3_alike_80 : decode cX3_alike 80 = .ok (.aload_n 0, 1) := dk_42 (dk_at dksX3_alike_3 13 rfl rfl)
theorem dX3_alike_81 : decode cX3_alike 81 = .ok (.getfield 104, 3) := dk_180 0 104 (dk_at dksX3_alike_3 14 rfl rfl)
theorem dX3_alike_84 : decode cX3_alike 84 = .ok (.iload_n 2, 1) := dk_28 (dk_at dksX3_alike_3 17 rfl rfl)
theorem dX3_alike_85 : decode cX3_alike 85 = .ok (.caload, 1) := dk_52 (dk_at dksX3_alike_3 18 rfl rfl)
theorem dX3_alike_86 : decode cX3_alike 86 = .ok (.if_icmp .eq 5, 3) := dk_159 0 5 (dk_at dksX3_alike_3 19 rfl rfl)
theorem dX3_alike_89 : decode cX3_alike 89 = .ok (.iconst 0, 1) := dk_3 (dk_at dksX3_alike_3 22 rfl rfl)
theorem dX3_alike_90 : decode cX3_alike 90 = .ok (.ireturn, 1) := dk_172 (dk_at dksX3_alike_3 23 rfl rfl)
theorem dX3_alike_91 : decode cX3_alike 91 = .ok (.iinc 2 1, 3) := dk_132 2 1 (dk_at dksX3_alike_4 0 rfl rfl)
theorem dX3_alike_94 : decode cX3_alike 94 = .ok (.goto (-29), 3) := dk_167 255 227 (dk_at dksX3_alike_4 3 rfl rfl)
theorem dX3_alike_97 : decode cX3_alike 97 = .ok (.iconst 1, 1) := dk_4 (dk_at dksX3_alike_4 6 rfl rfl)
theorem dX3_alike_98 : decode cX3_alike 98 = .ok (.ireturn, 1) := dk_172 (dk_at dksX3_alike_4 7 rfl rfl)
abbrev cX3_push : ByteArray := prog_24_method_57_code
def yX3_push : MethodName := ⟨RX3, "push", "(IIZZ)V"⟩
def dkwX3_push_3 : List UInt8 := [181, 0, 125, 177]
abbrev dktX3_push_3 : List UInt8 := dkwX3_push_3 ++ []
def dkwX3_push_2 : List UInt8 := [180, 0, 125, 3, 79, 42, 180, 0, 143, 42, 180, 0, 125, 2, 79, 42, 89, 180, 0, 125, 4, 96]
abbrev dktX3_push_2 : List UInt8 := dkwX3_push_2 ++ dktX3_push_3
def dkwX3_push_1 : List UInt8 := [42, 180, 0, 125, 29, 84, 42, 180, 0, 152, 42, 180, 0, 125, 21, 4, 84, 42, 180, 0, 140, 42]
abbrev dktX3_push_1 : List UInt8 := dkwX3_push_1 ++ dktX3_push_2
def dkwX3_push_0 : List UInt8 := [42, 180, 0, 134, 42, 180, 0, 125, 27, 79, 42, 180, 0, 137, 42, 180, 0, 125, 28, 79, 42, 180, 0, 155]
abbrev dktX3_push_0 : List UInt8 := dkwX3_push_0 ++ dktX3_push_1
theorem dksX3_push_0 : cX3_push.data.toList.drop 0 = dktX3_push_0 := by decide +kernel
theorem dksX3_push_1 : cX3_push.data.toList.drop 24 = dktX3_push_1 := dk_seg dksX3_push_0 24 rfl rfl
theorem dksX3_push_2 : cX3_push.data.toList.drop 46 = dktX3_push_2 := dk_seg dksX3_push_1 22 rfl rfl
theorem dksX3_push_3 : cX3_push.data.toList.drop 68 = dktX3_push_3 := dk_seg dksX3_push_2 22 rfl rfl
theorem dX3_push_0 : decode cX3_push 0 = .ok (.aload_n 0, 1) := dk_42 (dk_at dksX3_push_0 0 rfl rfl)
theorem dX3_push_1 : decode cX3_push 1 = .ok (.getfield 134, 3) := dk_180 0 134 (dk_at dksX3_push_0 1 rfl rfl)
theorem dX3_push_4 : decode cX3_push 4 = .ok (.aload_n 0, 1) := dk_42 (dk_at dksX3_push_0 4 rfl rfl)
theorem dX3_push_5 : decode cX3_push 5 = .ok (.getfield 125, 3) := dk_180 0 125 (dk_at dksX3_push_0 5 rfl rfl)
theorem dX3_push_8 : decode cX3_push 8 = .ok (.iload_n 1, 1) := dk_27 (dk_at dksX3_push_0 8 rfl rfl)
theorem dX3_push_9 : decode cX3_push 9 = .ok (.iastore, 1) := dk_79 (dk_at dksX3_push_0 9 rfl rfl)
theorem dX3_push_10 : decode cX3_push 10 = .ok (.aload_n 0, 1) := dk_42 (dk_at dksX3_push_0 10 rfl rfl)
theorem dX3_push_11 : decode cX3_push 11 = .ok (.getfield 137, 3) := dk_180 0 137 (dk_at dksX3_push_0 11 rfl rfl)
theorem dX3_push_14 : decode cX3_push 14 = .ok (.aload_n 0, 1) := dk_42 (dk_at dksX3_push_0 14 rfl rfl)
theorem dX3_push_15 : decode cX3_push 15 = .ok (.getfield 125, 3) := dk_180 0 125 (dk_at dksX3_push_0 15 rfl rfl)
theorem dX3_push_18 : decode cX3_push 18 = .ok (.iload_n 2, 1) := dk_28 (dk_at dksX3_push_0 18 rfl rfl)
theorem dX3_push_19 : decode cX3_push 19 = .ok (.iastore, 1) := dk_79 (dk_at dksX3_push_0 19 rfl rfl)
theorem dX3_push_20 : decode cX3_push 20 = .ok (.aload_n 0, 1) := dk_42 (dk_at dksX3_push_0 20 rfl rfl)
theorem dX3_push_21 : decode cX3_push 21 = .ok (.getfield 155, 3) := dk_180 0 155 (dk_at dksX3_push_0 21 rfl rfl)
theorem dX3_push_24 : decode cX3_push 24 = .ok (.aload_n 0, 1) := dk_42 (dk_at dksX3_push_1 0 rfl rfl)
theorem dX3_push_25 : decode cX3_push 25 = .ok (.getfield 125, 3) := dk_180 0 125 (dk_at dksX3_push_1 1 rfl rfl)
theorem dX3_push_28 : decode cX3_push 28 = .ok (.iload_n 3, 1) := dk_29 (dk_at dksX3_push_1 4 rfl rfl)
theorem dX3_push_29 : decode cX3_push 29 = .ok (.bastore, 1) := dk_84 (dk_at dksX3_push_1 5 rfl rfl)
theorem dX3_push_30 : decode cX3_push 30 = .ok (.aload_n 0, 1) := dk_42 (dk_at dksX3_push_1 6 rfl rfl)
theorem dX3_push_31 : decode cX3_push 31 = .ok (.getfield 152, 3) := dk_180 0 152 (dk_at dksX3_push_1 7 rfl rfl)
theorem dX3_push_34 : decode cX3_push 34 = .ok (.aload_n 0, 1) := dk_42 (dk_at dksX3_push_1 10 rfl rfl)
theorem dX3_push_35 : decode cX3_push 35 = .ok (.getfield 125, 3) := dk_180 0 125 (dk_at dksX3_push_1 11 rfl rfl)
theorem dX3_push_38 : decode cX3_push 38 = .ok (.iload 4, 2) := dk_21 4 (dk_at dksX3_push_1 14 rfl rfl)
theorem dX3_push_40 : decode cX3_push 40 = .ok (.bastore, 1) := dk_84 (dk_at dksX3_push_1 16 rfl rfl)
theorem dX3_push_41 : decode cX3_push 41 = .ok (.aload_n 0, 1) := dk_42 (dk_at dksX3_push_1 17 rfl rfl)
theorem dX3_push_42 : decode cX3_push 42 = .ok (.getfield 140, 3) := dk_180 0 140 (dk_at dksX3_push_1 18 rfl rfl)
theorem dX3_push_45 : decode cX3_push 45 = .ok (.aload_n 0, 1) := dk_42 (dk_at dksX3_push_1 21 rfl rfl)
theorem dX3_push_46 : decode cX3_push 46 = .ok (.getfield 125, 3) := dk_180 0 125 (dk_at dksX3_push_2 0 rfl rfl)
theorem dX3_push_49 : decode cX3_push 49 = .ok (.iconst 0, 1) := dk_3 (dk_at dksX3_push_2 3 rfl rfl)
theorem dX3_push_50 : decode cX3_push 50 = .ok (.iastore, 1) := dk_79 (dk_at dksX3_push_2 4 rfl rfl)
theorem dX3_push_51 : decode cX3_push 51 = .ok (.aload_n 0, 1) := dk_42 (dk_at dksX3_push_2 5 rfl rfl)
theorem dX3_push_52 : decode cX3_push 52 = .ok (.getfield 143, 3) := dk_180 0 143 (dk_at dksX3_push_2 6 rfl rfl)
theorem dX3_push_55 : decode cX3_push 55 = .ok (.aload_n 0, 1) := dk_42 (dk_at dksX3_push_2 9 rfl rfl)
theorem dX3_push_56 : decode cX3_push 56 = .ok (.getfield 125, 3) := dk_180 0 125 (dk_at dksX3_push_2 10 rfl rfl)
theorem dX3_push_59 : decode cX3_push 59 = .ok (.iconst (-1), 1) := dk_2 (dk_at dksX3_push_2 13 rfl rfl)
theorem dX3_push_60 : decode cX3_push 60 = .ok (.iastore, 1) := dk_79 (dk_at dksX3_push_2 14 rfl rfl)
theorem dX3_push_61 : decode cX3_push 61 = .ok (.aload_n 0, 1) := dk_42 (dk_at dksX3_push_2 15 rfl rfl)
theorem dX3_push_62 : decode cX3_push 62 = .ok (.dup, 1) := dk_89 (dk_at dksX3_push_2 16 rfl rfl)
theorem dX3_push_63 : decode cX3_push 63 = .ok (.getfield 125, 3) := dk_180 0 125 (dk_at dksX3_push_2 17 rfl rfl)
theorem dX3_push_66 : decode cX3_push 66 = .ok (.iconst 1, 1) := dk_4 (dk_at dksX3_push_2 20 rfl rfl)
theorem dX3_push_67 : decode cX3_push 67 = .ok (.iadd, 1) := dk_96 (dk_at dksX3_push_2 21 rfl rfl)
theorem dX3_push_68 : decode cX3_push 68 = .ok (.putfield 125, 3) := dk_181 0 125 (dk_at dksX3_push_3 0 rfl rfl)
theorem dX3_push_71 : decode cX3_push 71 = .ok (.return_, 1) := dk_177 (dk_at dksX3_push_3 3 rfl rfl)
abbrev cX3_underTemplates : ByteArray := prog_24_method_62_code
def yX3_underTemplates : MethodName := ⟨RX3, "underTemplates", "()I"⟩
def dkwX3_underTemplates_1 : List UInt8 := [132, 2, 1, 167, 255, 233, 27, 172]
abbrev dktX3_underTemplates_1 : List UInt8 := dkwX3_underTemplates_1 ++ []
def dkwX3_underTemplates_0 : List UInt8 := [4, 60, 3, 61, 28, 42, 180, 0, 125, 162, 0, 21, 42, 180, 0, 155, 28, 51, 153, 0, 6, 132, 1, 1]
abbrev dktX3_underTemplates_0 : List UInt8 := dkwX3_underTemplates_0 ++ dktX3_underTemplates_1
theorem dksX3_underTemplates_0 : cX3_underTemplates.data.toList.drop 0 = dktX3_underTemplates_0 := by decide +kernel
theorem dksX3_underTemplates_1 : cX3_underTemplates.data.toList.drop 24 = dktX3_underTemplates_1 := dk_seg dksX3_underTemplates_0 24 rfl rfl
theorem dX3_underTemplates_0 : decode cX3_underTemplates 0 = .ok (.iconst 1, 1) := dk_4 (dk_at dksX3_underTemplates_0 0 rfl rfl)
theorem dX3_underTemplates_1 : decode cX3_underTemplates 1 = .ok (.istore_n 1, 1) := dk_60 (dk_at dksX3_underTemplates_0 1 rfl rfl)
theorem dX3_underTemplates_2 : decode cX3_underTemplates 2 = .ok (.iconst 0, 1) := dk_3 (dk_at dksX3_underTemplates_0 2 rfl rfl)
theorem dX3_underTemplates_3 : decode cX3_underTemplates 3 = .ok (.istore_n 2, 1) := dk_61 (dk_at dksX3_underTemplates_0 3 rfl rfl)
theorem dX3_underTemplates_4 : decode cX3_underTemplates 4 = .ok (.iload_n 2, 1) := dk_28 (dk_at dksX3_underTemplates_0 4 rfl rfl)
theorem dX3_underTemplates_5 : decode cX3_underTemplates 5 = .ok (.aload_n 0, 1) := dk_42 (dk_at dksX3_underTemplates_0 5 rfl rfl)
theorem dX3_underTemplates_6 : decode cX3_underTemplates 6 = .ok (.getfield 125, 3) := dk_180 0 125 (dk_at dksX3_underTemplates_0 6 rfl rfl)
theorem dX3_underTemplates_9 : decode cX3_underTemplates 9 = .ok (.if_icmp .ge 21, 3) := dk_162 0 21 (dk_at dksX3_underTemplates_0 9 rfl rfl)
theorem dX3_underTemplates_12 : decode cX3_underTemplates 12 = .ok (.aload_n 0, 1) := dk_42 (dk_at dksX3_underTemplates_0 12 rfl rfl)
theorem dX3_underTemplates_13 : decode cX3_underTemplates 13 = .ok (.getfield 155, 3) := dk_180 0 155 (dk_at dksX3_underTemplates_0 13 rfl rfl)
theorem dX3_underTemplates_16 : decode cX3_underTemplates 16 = .ok (.iload_n 2, 1) := dk_28 (dk_at dksX3_underTemplates_0 16 rfl rfl)
theorem dX3_underTemplates_17 : decode cX3_underTemplates 17 = .ok (.baload, 1) := dk_51 (dk_at dksX3_underTemplates_0 17 rfl rfl)
theorem dX3_underTemplates_18 : decode cX3_underTemplates 18 = .ok (.ifCond .eq 6, 3) := dk_153 0 6 (dk_at dksX3_underTemplates_0 18 rfl rfl)
theorem dX3_underTemplates_21 : decode cX3_underTemplates 21 = .ok (.iinc 1 1, 3) := dk_132 1 1 (dk_at dksX3_underTemplates_0 21 rfl rfl)
theorem dX3_underTemplates_24 : decode cX3_underTemplates 24 = .ok (.iinc 2 1, 3) := dk_132 2 1 (dk_at dksX3_underTemplates_1 0 rfl rfl)
theorem dX3_underTemplates_27 : decode cX3_underTemplates 27 = .ok (.goto (-23), 3) := dk_167 255 233 (dk_at dksX3_underTemplates_1 3 rfl rfl)
theorem dX3_underTemplates_30 : decode cX3_underTemplates 30 = .ok (.iload_n 1, 1) := dk_27 (dk_at dksX3_underTemplates_1 6 rfl rfl)
theorem dX3_underTemplates_31 : decode cX3_underTemplates 31 = .ok (.ireturn, 1) := dk_172 (dk_at dksX3_underTemplates_1 7 rfl rfl)
abbrev cX3_partial : ByteArray := prog_24_method_61_code
def yX3_partial : MethodName := ⟨RX3, "partial", "(II)I"⟩
def dkwX3_partial_2 : List UInt8 := [42, 29, 27, 4, 3, 182, 1, 111, 29, 17, 0, 200, 104, 172]
abbrev dktX3_partial_2 : List UInt8 := dkwX3_partial_2 ++ []
def dkwX3_partial_1 : List UInt8 := [154, 0, 11, 42, 5, 181, 0, 128, 167, 0, 24, 28, 6, 160, 0, 11, 42, 6, 181, 0, 128, 167, 0, 11]
abbrev dktX3_partial_1 : List UInt8 := dkwX3_partial_1 ++ dktX3_partial_2
def dkwX3_partial_0 : List UInt8 := [42, 180, 0, 56, 42, 180, 0, 74, 27, 46, 5, 96, 52, 16, 97, 100, 62, 42, 180, 0, 65, 29, 51]
abbrev dktX3_partial_0 : List UInt8 := dkwX3_partial_0 ++ dktX3_partial_1
theorem dksX3_partial_0 : cX3_partial.data.toList.drop 0 = dktX3_partial_0 := by decide +kernel
theorem dksX3_partial_1 : cX3_partial.data.toList.drop 23 = dktX3_partial_1 := dk_seg dksX3_partial_0 23 rfl rfl
theorem dksX3_partial_2 : cX3_partial.data.toList.drop 47 = dktX3_partial_2 := dk_seg dksX3_partial_1 24 rfl rfl
theorem dX3_partial_0 : decode cX3_partial 0 = .ok (.aload_n 0, 1) := dk_42 (dk_at dksX3_partial_0 0 rfl rfl)
theorem dX3_partial_1 : decode cX3_partial 1 = .ok (.getfield 56, 3) := dk_180 0 56 (dk_at dksX3_partial_0 1 rfl rfl)
theorem dX3_partial_4 : decode cX3_partial 4 = .ok (.aload_n 0, 1) := dk_42 (dk_at dksX3_partial_0 4 rfl rfl)
theorem dX3_partial_5 : decode cX3_partial 5 = .ok (.getfield 74, 3) := dk_180 0 74 (dk_at dksX3_partial_0 5 rfl rfl)
theorem dX3_partial_8 : decode cX3_partial 8 = .ok (.iload_n 1, 1) := dk_27 (dk_at dksX3_partial_0 8 rfl rfl)
theorem dX3_partial_9 : decode cX3_partial 9 = .ok (.iaload, 1) := dk_46 (dk_at dksX3_partial_0 9 rfl rfl)
theorem dX3_partial_10 : decode cX3_partial 10 = .ok (.iconst 2, 1) := dk_5 (dk_at dksX3_partial_0 10 rfl rfl)
theorem dX3_partial_11 : decode cX3_partial 11 = .ok (.iadd, 1) := dk_96 (dk_at dksX3_partial_0 11 rfl rfl)
theorem dX3_partial_12 : decode cX3_partial 12 = .ok (.caload, 1) := dk_52 (dk_at dksX3_partial_0 12 rfl rfl)
theorem dX3_partial_13 : decode cX3_partial 13 = .ok (.bipush 97, 2) := dk_16 97 (dk_at dksX3_partial_0 13 rfl rfl)
theorem dX3_partial_15 : decode cX3_partial 15 = .ok (.isub, 1) := dk_100 (dk_at dksX3_partial_0 15 rfl rfl)
theorem dX3_partial_16 : decode cX3_partial 16 = .ok (.istore_n 3, 1) := dk_62 (dk_at dksX3_partial_0 16 rfl rfl)
theorem dX3_partial_17 : decode cX3_partial 17 = .ok (.aload_n 0, 1) := dk_42 (dk_at dksX3_partial_0 17 rfl rfl)
theorem dX3_partial_18 : decode cX3_partial 18 = .ok (.getfield 65, 3) := dk_180 0 65 (dk_at dksX3_partial_0 18 rfl rfl)
theorem dX3_partial_21 : decode cX3_partial 21 = .ok (.iload_n 3, 1) := dk_29 (dk_at dksX3_partial_0 21 rfl rfl)
theorem dX3_partial_22 : decode cX3_partial 22 = .ok (.baload, 1) := dk_51 (dk_at dksX3_partial_0 22 rfl rfl)
theorem dX3_partial_23 : decode cX3_partial 23 = .ok (.ifCond .ne 11, 3) := dk_154 0 11 (dk_at dksX3_partial_1 0 rfl rfl)
theorem dX3_partial_26 : decode cX3_partial 26 = .ok (.aload_n 0, 1) := dk_42 (dk_at dksX3_partial_1 3 rfl rfl)
theorem dX3_partial_27 : decode cX3_partial 27 = .ok (.iconst 2, 1) := dk_5 (dk_at dksX3_partial_1 4 rfl rfl)
theorem dX3_partial_28 : decode cX3_partial 28 = .ok (.putfield 128, 3) := dk_181 0 128 (dk_at dksX3_partial_1 5 rfl rfl)
theorem dX3_partial_31 : decode cX3_partial 31 = .ok (.goto 24, 3) := dk_167 0 24 (dk_at dksX3_partial_1 8 rfl rfl)
theorem dX3_partial_34 : decode cX3_partial 34 = .ok (.iload_n 2, 1) := dk_28 (dk_at dksX3_partial_1 11 rfl rfl)
theorem dX3_partial_35 : decode cX3_partial 35 = .ok (.iconst 3, 1) := dk_6 (dk_at dksX3_partial_1 12 rfl rfl)
theorem dX3_partial_36 : decode cX3_partial 36 = .ok (.if_icmp .ne 11, 3) := dk_160 0 11 (dk_at dksX3_partial_1 13 rfl rfl)
theorem dX3_partial_39 : decode cX3_partial 39 = .ok (.aload_n 0, 1) := dk_42 (dk_at dksX3_partial_1 16 rfl rfl)
theorem dX3_partial_40 : decode cX3_partial 40 = .ok (.iconst 3, 1) := dk_6 (dk_at dksX3_partial_1 17 rfl rfl)
theorem dX3_partial_41 : decode cX3_partial 41 = .ok (.putfield 128, 3) := dk_181 0 128 (dk_at dksX3_partial_1 18 rfl rfl)
theorem dX3_partial_44 : decode cX3_partial 44 = .ok (.goto 11, 3) := dk_167 0 11 (dk_at dksX3_partial_1 21 rfl rfl)
theorem dX3_partial_47 : decode cX3_partial 47 = .ok (.aload_n 0, 1) := dk_42 (dk_at dksX3_partial_2 0 rfl rfl)
theorem dX3_partial_48 : decode cX3_partial 48 = .ok (.iload_n 3, 1) := dk_29 (dk_at dksX3_partial_2 1 rfl rfl)
theorem dX3_partial_49 : decode cX3_partial 49 = .ok (.iload_n 1, 1) := dk_27 (dk_at dksX3_partial_2 2 rfl rfl)
theorem dX3_partial_50 : decode cX3_partial 50 = .ok (.iconst 1, 1) := dk_4 (dk_at dksX3_partial_2 3 rfl rfl)
theorem dX3_partial_51 : decode cX3_partial 51 = .ok (.iconst 0, 1) := dk_3 (dk_at dksX3_partial_2 4 rfl rfl)
theorem dX3_partial_52 : decode cX3_partial 52 = .ok (.invokevirtual 367, 3) := dk_182 1 111 (dk_at dksX3_partial_2 5 rfl rfl)
theorem dX3_partial_55 : decode cX3_partial 55 = .ok (.iload_n 3, 1) := dk_29 (dk_at dksX3_partial_2 8 rfl rfl)
theorem dX3_partial_56 : decode cX3_partial 56 = .ok (.sipush 200, 3) := dk_17 0 200 (dk_at dksX3_partial_2 9 rfl rfl)
theorem dX3_partial_59 : decode cX3_partial 59 = .ok (.imul, 1) := dk_104 (dk_at dksX3_partial_2 12 rfl rfl)
theorem dX3_partial_60 : decode cX3_partial 60 = .ok (.ireturn, 1) := dk_172 (dk_at dksX3_partial_2 13 rfl rfl)
abbrev cX3_show : ByteArray := prog_24_method_56_code
def yX3_show : MethodName := ⟨RX3, "show", "(Z)V"⟩
def dkwX3_show_4 : List UInt8 := [160, 0, 9, 20, 1, 100, 167, 0, 6, 20, 1, 102, 182, 1, 104, 132, 2, 1, 167, 255, 152, 177]
abbrev dktX3_show_4 : List UInt8 := dkwX3_show_4 ++ []
def dkwX3_show_3 : List UInt8 := [160, 0, 9, 20, 1, 96, 167, 0, 30, 29, 16, 60, 160, 0, 9, 20, 1, 98, 167, 0, 18, 29, 16, 62]
abbrev dktX3_show_3 : List UInt8 := dkwX3_show_3 ++ dktX3_show_4
def dkwX3_show_2 : List UInt8 := [16, 62, 159, 0, 17, 29, 16, 34, 159, 0, 11, 42, 29, 182, 1, 93, 167, 0, 46, 42, 29, 16, 38]
abbrev dktX3_show_2 : List UInt8 := dkwX3_show_2 ++ dktX3_show_3
def dkwX3_show_1 : List UInt8 := [180, 0, 104, 28, 52, 62, 27, 154, 0, 27, 29, 16, 38, 159, 0, 29, 29, 16, 60, 159, 0, 23, 29]
abbrev dktX3_show_1 : List UInt8 := dkwX3_show_1 ++ dktX3_show_2
def dkwX3_show_0 : List UInt8 := [42, 5, 182, 1, 48, 3, 61, 28, 42, 180, 0, 113, 162, 0, 102, 42, 180, 0, 128, 154, 0, 95, 42]
abbrev dktX3_show_0 : List UInt8 := dkwX3_show_0 ++ dktX3_show_1
theorem dksX3_show_0 : cX3_show.data.toList.drop 0 = dktX3_show_0 := by decide +kernel
theorem dksX3_show_1 : cX3_show.data.toList.drop 23 = dktX3_show_1 := dk_seg dksX3_show_0 23 rfl rfl
theorem dksX3_show_2 : cX3_show.data.toList.drop 46 = dktX3_show_2 := dk_seg dksX3_show_1 23 rfl rfl
theorem dksX3_show_3 : cX3_show.data.toList.drop 69 = dktX3_show_3 := dk_seg dksX3_show_2 23 rfl rfl
theorem dksX3_show_4 : cX3_show.data.toList.drop 93 = dktX3_show_4 := dk_seg dksX3_show_3 24 rfl rfl
theorem dX3_show_0 : decode cX3_show 0 = .ok (.aload_n 0, 1) := dk_42 (dk_at dksX3_show_0 0 rfl rfl)
theorem dX3_show_1 : decode cX3_show 1 = .ok (.iconst 2, 1) := dk_5 (dk_at dksX3_show_0 1 rfl rfl)
theorem dX3_show_2 : decode cX3_show 2 = .ok (.invokevirtual 304, 3) := dk_182 1 48 (dk_at dksX3_show_0 2 rfl rfl)
theorem dX3_show_5 : decode cX3_show 5 = .ok (.iconst 0, 1) := dk_3 (dk_at dksX3_show_0 5 rfl rfl)
theorem dX3_show_6 : decode cX3_show 6 = .ok (.istore_n 2, 1) := dk_61 (dk_at dksX3_show_0 6 rfl rfl)
theorem dX3_show_7 : decode cX3_show 7 = .ok (.iload_n 2, 1) := dk_28 (dk_at dksX3_show_0 7 rfl rfl)
theorem dX3_show_8 : decode cX3_show 8 = .ok (.aload_n 0, 1) := dk_42 (dk_at dksX3_show_0 8 rfl rfl)
theorem dX3_show_9 : decode cX3_show 9 = .ok (.getfield 113, 3) := dk_180 0 113 (dk_at dksX3_show_0 9 rfl rfl)
theorem dX3_show_12 : decode cX3_show 12 = .ok (.if_icmp .ge 102, 3) := dk_162 0 102 (dk_at dksX3_show_0 12 rfl rfl)
theorem dX3_show_15 : decode cX3_show 15 = .ok (.aload_n 0, 1) := dk_42 (dk_at dksX3_show_0 15 rfl rfl)
theorem dX3_show_16 : decode cX3_show 16 = .ok (.getfield 128, 3) := dk_180 0 128 (dk_at dksX3_show_0 16 rfl rfl)
theorem dX3_show_19 : decode cX3_show 19 = .ok (.ifCond .ne 95, 3) := dk_154 0 95 (dk_at dksX3_show_0 19 rfl rfl)
theorem dX3_show_22 : decode cX3_show 22 = .ok (.aload_n 0, 1) := dk_42 (dk_at dksX3_show_0 22 rfl rfl)
theorem dX3_show_23 : decode cX3_show 23 = .ok (.getfield 104, 3) := dk_180 0 104 (dk_at dksX3_show_1 0 rfl rfl)
theorem dX3_show_26 : decode cX3_show 26 = .ok (.iload_n 2, 1) := dk_28 (dk_at dksX3_show_1 3 rfl rfl)
theorem dX3_show_27 : decode cX3_show 27 = .ok (.caload, 1) := dk_52 (dk_at dksX3_show_1 4 rfl rfl)
theorem dX3_show_28 : decode cX3_show 28 = .ok (.istore_n 3, 1) := dk_62 (dk_at dksX3_show_1 5 rfl rfl)
theorem dX3_show_29 : decode cX3_show 29 = .ok (.iload_n 1, 1) := dk_27 (dk_at dksX3_show_1 6 rfl rfl)
theorem dX3_show_30 : decode cX3_show 30 = .ok (.ifCond .ne 27, 3) := dk_154 0 27 (dk_at dksX3_show_1 7 rfl rfl)
theorem dX3_show_33 : decode cX3_show 33 = .ok (.iload_n 3, 1) := dk_29 (dk_at dksX3_show_1 10 rfl rfl)
theorem dX3_show_34 : decode cX3_show 34 = .ok (.bipush 38, 2) := dk_16 38 (dk_at dksX3_show_1 11 rfl rfl)
theorem dX3_show_36 : decode cX3_show 36 = .ok (.if_icmp .eq 29, 3) := dk_159 0 29 (dk_at dksX3_show_1 13 rfl rfl)
theorem dX3_show_39 : decode cX3_show 39 = .ok (.iload_n 3, 1) := dk_29 (dk_at dksX3_show_1 16 rfl rfl)
theorem dX3_show_40 : decode cX3_show 40 = .ok (.bipush 60, 2) := dk_16 60 (dk_at dksX3_show_1 17 rfl rfl)
theorem dX3_show_42 : decode cX3_show 42 = .ok (.if_icmp .eq 23, 3) := dk_159 0 23 (dk_at dksX3_show_1 19 rfl rfl)
theorem dX3_show_45 : decode cX3_show 45 = .ok (.iload_n 3, 1) := dk_29 (dk_at dksX3_show_1 22 rfl rfl)
theorem dX3_show_46 : decode cX3_show 46 = .ok (.bipush 62, 2) := dk_16 62 (dk_at dksX3_show_2 0 rfl rfl)
theorem dX3_show_48 : decode cX3_show 48 = .ok (.if_icmp .eq 17, 3) := dk_159 0 17 (dk_at dksX3_show_2 2 rfl rfl)
theorem dX3_show_51 : decode cX3_show 51 = .ok (.iload_n 3, 1) := dk_29 (dk_at dksX3_show_2 5 rfl rfl)
theorem dX3_show_52 : decode cX3_show 52 = .ok (.bipush 34, 2) := dk_16 34 (dk_at dksX3_show_2 6 rfl rfl)
theorem dX3_show_54 : decode cX3_show 54 = .ok (.if_icmp .eq 11, 3) := dk_159 0 11 (dk_at dksX3_show_2 8 rfl rfl)
theorem dX3_show_57 : decode cX3_show 57 = .ok (.aload_n 0, 1) := dk_42 (dk_at dksX3_show_2 11 rfl rfl)
theorem dX3_show_58 : decode cX3_show 58 = .ok (.iload_n 3, 1) := dk_29 (dk_at dksX3_show_2 12 rfl rfl)
theorem dX3_show_59 : decode cX3_show 59 = .ok (.invokevirtual 349, 3) := dk_182 1 93 (dk_at dksX3_show_2 13 rfl rfl)
theorem dX3_show_62 : decode cX3_show 62 = .ok (.goto 46, 3) := dk_167 0 46 (dk_at dksX3_show_2 16 rfl rfl)
theorem dX3_show_65 : decode cX3_show 65 = .ok (.aload_n 0, 1) := dk_42 (dk_at dksX3_show_2 19 rfl rfl)
theorem dX3_show_66 : decode cX3_show 66 = .ok (.iload_n 3, 1) := dk_29 (dk_at dksX3_show_2 20 rfl rfl)
theorem dX3_show_67 : decode cX3_show 67 = .ok (.bipush 38, 2) := dk_16 38 (dk_at dksX3_show_2 21 rfl rfl)
theorem dX3_show_69 : decode cX3_show 69 = .ok (.if_icmp .ne 9, 3) := dk_160 0 9 (dk_at dksX3_show_3 0 rfl rfl)
theorem dX3_show_72 : decode cX3_show 72 = .ok (.ldc2_w 352, 3) := dk_20 1 96 (dk_at dksX3_show_3 3 rfl rfl)
theorem dX3_show_75 : decode cX3_show 75 = .ok (.goto 30, 3) := dk_167 0 30 (dk_at dksX3_show_3 6 rfl rfl)
theorem dX3_show_78 : decode cX3_show 78 = .ok (.iload_n 3, 1) := dk_29 (dk_at dksX3_show_3 9 rfl rfl)
theorem dX3_show_79 : decode cX3_show 79 = .ok (.bipush 60, 2) := dk_16 60 (dk_at dksX3_show_3 10 rfl rfl)
theorem dX3_show_81 : decode cX3_show 81 = .ok (.if_icmp .ne 9, 3) := dk_160 0 9 (dk_at dksX3_show_3 12 rfl rfl)
theorem dX3_show_84 : decode cX3_show 84 = .ok (.ldc2_w 354, 3) := dk_20 1 98 (dk_at dksX3_show_3 15 rfl rfl)
theorem dX3_show_87 : decode cX3_show 87 = .ok (.goto 18, 3) := dk_167 0 18 (dk_at dksX3_show_3 18 rfl rfl)
theorem dX3_show_90 : decode cX3_show 90 = .ok (.iload_n 3, 1) := dk_29 (dk_at dksX3_show_3 21 rfl rfl)
theorem dX3_show_91 : decode cX3_show 91 = .ok (.bipush 62, 2) := dk_16 62 (dk_at dksX3_show_3 22 rfl rfl)
theorem dX3_show_93 : decode cX3_show 93 = .ok (.if_icmp .ne 9, 3) := dk_160 0 9 (dk_at dksX3_show_4 0 rfl rfl)
theorem dX3_show_96 : decode cX3_show 96 = .ok (.ldc2_w 356, 3) := dk_20 1 100 (dk_at dksX3_show_4 3 rfl rfl)
theorem dX3_show_99 : decode cX3_show 99 = .ok (.goto 6, 3) := dk_167 0 6 (dk_at dksX3_show_4 6 rfl rfl)
theorem dX3_show_102 : decode cX3_show 102 = .ok (.ldc2_w 358, 3) := dk_20 1 102 (dk_at dksX3_show_4 9 rfl rfl)
theorem dX3_show_105 : decode cX3_show 105 = .ok (.invokevirtual 360, 3) := dk_182 1 104 (dk_at dksX3_show_4 12 rfl rfl)
theorem dX3_show_108 : decode cX3_show 108 = .ok (.iinc 2 1, 3) := dk_132 2 1 (dk_at dksX3_show_4 15 rfl rfl)
theorem dX3_show_111 : decode cX3_show 111 = .ok (.goto (-104), 3) := dk_167 255 152 (dk_at dksX3_show_4 18 rfl rfl)
theorem dX3_show_114 : decode cX3_show 114 = .ok (.return_, 1) := dk_177 (dk_at dksX3_show_4 21 rfl rfl)
abbrev cX3_emitWord : ByteArray := prog_24_method_55_code
def yX3_emitWord : MethodName := ⟨RX3, "emitWord", "(J)V"⟩
def dkwX3_emitWord_1 : List UInt8 := [20, 0, 192, 127, 136, 182, 1, 93, 132, 3, 248, 167, 255, 225, 177]
abbrev dktX3_emitWord_1 : List UInt8 := dkwX3_emitWord_1 ++ []
def dkwX3_emitWord_0 : List UInt8 := [16, 56, 62, 29, 155, 0, 33, 31, 29, 123, 20, 0, 192, 127, 9, 148, 153, 0, 15, 42, 31, 29, 123]
abbrev dktX3_emitWord_0 : List UInt8 := dkwX3_emitWord_0 ++ dktX3_emitWord_1
theorem dksX3_emitWord_0 : cX3_emitWord.data.toList.drop 0 = dktX3_emitWord_0 := by decide +kernel
theorem dksX3_emitWord_1 : cX3_emitWord.data.toList.drop 23 = dktX3_emitWord_1 := dk_seg dksX3_emitWord_0 23 rfl rfl
theorem dX3_emitWord_0 : decode cX3_emitWord 0 = .ok (.bipush 56, 2) := dk_16 56 (dk_at dksX3_emitWord_0 0 rfl rfl)
theorem dX3_emitWord_2 : decode cX3_emitWord 2 = .ok (.istore_n 3, 1) := dk_62 (dk_at dksX3_emitWord_0 2 rfl rfl)
theorem dX3_emitWord_3 : decode cX3_emitWord 3 = .ok (.iload_n 3, 1) := dk_29 (dk_at dksX3_emitWord_0 3 rfl rfl)
theorem dX3_emitWord_4 : decode cX3_emitWord 4 = .ok (.ifCond .lt 33, 3) := dk_155 0 33 (dk_at dksX3_emitWord_0 4 rfl rfl)
theorem dX3_emitWord_7 : decode cX3_emitWord 7 = .ok (.lload_n 1, 1) := dk_31 (dk_at dksX3_emitWord_0 7 rfl rfl)
theorem dX3_emitWord_8 : decode cX3_emitWord 8 = .ok (.iload_n 3, 1) := dk_29 (dk_at dksX3_emitWord_0 8 rfl rfl)
theorem dX3_emitWord_9 : decode cX3_emitWord 9 = .ok (.lshr, 1) := dk_123 (dk_at dksX3_emitWord_0 9 rfl rfl)
theorem dX3_emitWord_10 : decode cX3_emitWord 10 = .ok (.ldc2_w 192, 3) := dk_20 0 192 (dk_at dksX3_emitWord_0 10 rfl rfl)
theorem dX3_emitWord_13 : decode cX3_emitWord 13 = .ok (.land, 1) := dk_127 (dk_at dksX3_emitWord_0 13 rfl rfl)
theorem dX3_emitWord_14 : decode cX3_emitWord 14 = .ok (.lconst 0, 1) := dk_9 (dk_at dksX3_emitWord_0 14 rfl rfl)
theorem dX3_emitWord_15 : decode cX3_emitWord 15 = .ok (.lcmp, 1) := dk_148 (dk_at dksX3_emitWord_0 15 rfl rfl)
theorem dX3_emitWord_16 : decode cX3_emitWord 16 = .ok (.ifCond .eq 15, 3) := dk_153 0 15 (dk_at dksX3_emitWord_0 16 rfl rfl)
theorem dX3_emitWord_19 : decode cX3_emitWord 19 = .ok (.aload_n 0, 1) := dk_42 (dk_at dksX3_emitWord_0 19 rfl rfl)
theorem dX3_emitWord_20 : decode cX3_emitWord 20 = .ok (.lload_n 1, 1) := dk_31 (dk_at dksX3_emitWord_0 20 rfl rfl)
theorem dX3_emitWord_21 : decode cX3_emitWord 21 = .ok (.iload_n 3, 1) := dk_29 (dk_at dksX3_emitWord_0 21 rfl rfl)
theorem dX3_emitWord_22 : decode cX3_emitWord 22 = .ok (.lshr, 1) := dk_123 (dk_at dksX3_emitWord_0 22 rfl rfl)
theorem dX3_emitWord_23 : decode cX3_emitWord 23 = .ok (.ldc2_w 192, 3) := dk_20 0 192 (dk_at dksX3_emitWord_1 0 rfl rfl)
theorem dX3_emitWord_26 : decode cX3_emitWord 26 = .ok (.land, 1) := dk_127 (dk_at dksX3_emitWord_1 3 rfl rfl)
theorem dX3_emitWord_27 : decode cX3_emitWord 27 = .ok (.l2i, 1) := dk_136 (dk_at dksX3_emitWord_1 4 rfl rfl)
theorem dX3_emitWord_28 : decode cX3_emitWord 28 = .ok (.invokevirtual 349, 3) := dk_182 1 93 (dk_at dksX3_emitWord_1 5 rfl rfl)
theorem dX3_emitWord_31 : decode cX3_emitWord 31 = .ok (.iinc 3 (-8), 3) := dk_132 3 248 (dk_at dksX3_emitWord_1 8 rfl rfl)
theorem dX3_emitWord_34 : decode cX3_emitWord 34 = .ok (.goto (-31), 3) := dk_167 255 225 (dk_at dksX3_emitWord_1 11 rfl rfl)
theorem dX3_emitWord_37 : decode cX3_emitWord 37 = .ok (.return_, 1) := dk_177 (dk_at dksX3_emitWord_1 14 rfl rfl)
abbrev cX3_at : ByteArray := prog_24_method_68_code
def yX3_at : MethodName := ⟨RX3, "at", "(I)I"⟩
def dkwX3_at_1 : List UInt8 := [180, 0, 110, 27, 52, 182, 0, 162, 172]
abbrev dktX3_at_1 : List UInt8 := dkwX3_at_1 ++ []
def dkwX3_at_0 : List UInt8 := [27, 155, 0, 11, 27, 42, 180, 0, 119, 161, 0, 11, 42, 4, 182, 0, 158, 167, 0, 13, 42, 42]
abbrev dktX3_at_0 : List UInt8 := dkwX3_at_0 ++ dktX3_at_1
theorem dksX3_at_0 : cX3_at.data.toList.drop 0 = dktX3_at_0 := by decide +kernel
theorem dksX3_at_1 : cX3_at.data.toList.drop 22 = dktX3_at_1 := dk_seg dksX3_at_0 22 rfl rfl
theorem dX3_at_0 : decode cX3_at 0 = .ok (.iload_n 1, 1) := dk_27 (dk_at dksX3_at_0 0 rfl rfl)
theorem dX3_at_1 : decode cX3_at 1 = .ok (.ifCond .lt 11, 3) := dk_155 0 11 (dk_at dksX3_at_0 1 rfl rfl)
theorem dX3_at_4 : decode cX3_at 4 = .ok (.iload_n 1, 1) := dk_27 (dk_at dksX3_at_0 4 rfl rfl)
theorem dX3_at_5 : decode cX3_at 5 = .ok (.aload_n 0, 1) := dk_42 (dk_at dksX3_at_0 5 rfl rfl)
theorem dX3_at_6 : decode cX3_at 6 = .ok (.getfield 119, 3) := dk_180 0 119 (dk_at dksX3_at_0 6 rfl rfl)
theorem dX3_at_9 : decode cX3_at 9 = .ok (.if_icmp .lt 11, 3) := dk_161 0 11 (dk_at dksX3_at_0 9 rfl rfl)
theorem dX3_at_12 : decode cX3_at 12 = .ok (.aload_n 0, 1) := dk_42 (dk_at dksX3_at_0 12 rfl rfl)
theorem dX3_at_13 : decode cX3_at 13 = .ok (.iconst 1, 1) := dk_4 (dk_at dksX3_at_0 13 rfl rfl)
theorem dX3_at_14 : decode cX3_at 14 = .ok (.invokevirtual 158, 3) := dk_182 0 158 (dk_at dksX3_at_0 14 rfl rfl)
theorem dX3_at_17 : decode cX3_at 17 = .ok (.goto 13, 3) := dk_167 0 13 (dk_at dksX3_at_0 17 rfl rfl)
theorem dX3_at_20 : decode cX3_at 20 = .ok (.aload_n 0, 1) := dk_42 (dk_at dksX3_at_0 20 rfl rfl)
theorem dX3_at_21 : decode cX3_at 21 = .ok (.aload_n 0, 1) := dk_42 (dk_at dksX3_at_0 21 rfl rfl)
theorem dX3_at_22 : decode cX3_at 22 = .ok (.getfield 110, 3) := dk_180 0 110 (dk_at dksX3_at_1 0 rfl rfl)
theorem dX3_at_25 : decode cX3_at 25 = .ok (.iload_n 1, 1) := dk_27 (dk_at dksX3_at_1 3 rfl rfl)
theorem dX3_at_26 : decode cX3_at 26 = .ok (.caload, 1) := dk_52 (dk_at dksX3_at_1 4 rfl rfl)
theorem dX3_at_27 : decode cX3_at 27 = .ok (.invokevirtual 162, 3) := dk_182 0 162 (dk_at dksX3_at_1 5 rfl rfl)
theorem dX3_at_30 : decode cX3_at 30 = .ok (.ireturn, 1) := dk_172 (dk_at dksX3_at_1 8 rfl rfl)
abbrev cX3_kind : ByteArray := prog_24_method_69_code
def yX3_kind : MethodName := ⟨RX3, "kind", "(I)I"⟩
def dkwX3_kind_1 : List UInt8 := [182, 0, 162, 172]
abbrev dktX3_kind_1 : List UInt8 := dkwX3_kind_1 ++ []
def dkwX3_kind_0 : List UInt8 := [42, 27, 182, 0, 169, 153, 0, 11, 42, 4, 182, 0, 158, 167, 0, 13, 42, 42, 180, 0, 35, 27, 46]
abbrev dktX3_kind_0 : List UInt8 := dkwX3_kind_0 ++ dktX3_kind_1
theorem dksX3_kind_0 : cX3_kind.data.toList.drop 0 = dktX3_kind_0 := by decide +kernel
theorem dksX3_kind_1 : cX3_kind.data.toList.drop 23 = dktX3_kind_1 := dk_seg dksX3_kind_0 23 rfl rfl
theorem dX3_kind_0 : decode cX3_kind 0 = .ok (.aload_n 0, 1) := dk_42 (dk_at dksX3_kind_0 0 rfl rfl)
theorem dX3_kind_1 : decode cX3_kind 1 = .ok (.iload_n 1, 1) := dk_27 (dk_at dksX3_kind_0 1 rfl rfl)
theorem dX3_kind_2 : decode cX3_kind 2 = .ok (.invokevirtual 169, 3) := dk_182 0 169 (dk_at dksX3_kind_0 2 rfl rfl)
theorem dX3_kind_5 : decode cX3_kind 5 = .ok (.ifCond .eq 11, 3) := dk_153 0 11 (dk_at dksX3_kind_0 5 rfl rfl)
theorem dX3_kind_8 : decode cX3_kind 8 = .ok (.aload_n 0, 1) := dk_42 (dk_at dksX3_kind_0 8 rfl rfl)
theorem dX3_kind_9 : decode cX3_kind 9 = .ok (.iconst 1, 1) := dk_4 (dk_at dksX3_kind_0 9 rfl rfl)
theorem dX3_kind_10 : decode cX3_kind 10 = .ok (.invokevirtual 158, 3) := dk_182 0 158 (dk_at dksX3_kind_0 10 rfl rfl)
theorem dX3_kind_13 : decode cX3_kind 13 = .ok (.goto 13, 3) := dk_167 0 13 (dk_at dksX3_kind_0 13 rfl rfl)
theorem dX3_kind_16 : decode cX3_kind 16 = .ok (.aload_n 0, 1) := dk_42 (dk_at dksX3_kind_0 16 rfl rfl)
theorem dX3_kind_17 : decode cX3_kind 17 = .ok (.aload_n 0, 1) := dk_42 (dk_at dksX3_kind_0 17 rfl rfl)
theorem dX3_kind_18 : decode cX3_kind 18 = .ok (.getfield 35, 3) := dk_180 0 35 (dk_at dksX3_kind_0 18 rfl rfl)
theorem dX3_kind_21 : decode cX3_kind 21 = .ok (.iload_n 1, 1) := dk_27 (dk_at dksX3_kind_0 21 rfl rfl)
theorem dX3_kind_22 : decode cX3_kind 22 = .ok (.iaload, 1) := dk_46 (dk_at dksX3_kind_0 22 rfl rfl)
theorem dX3_kind_23 : decode cX3_kind 23 = .ok (.invokevirtual 162, 3) := dk_182 0 162 (dk_at dksX3_kind_1 0 rfl rfl)
theorem dX3_kind_26 : decode cX3_kind 26 = .ok (.ireturn, 1) := dk_172 (dk_at dksX3_kind_1 3 rfl rfl)
abbrev cX3_size : ByteArray := prog_24_method_70_code
def yX3_size : MethodName := ⟨RX3, "size", "(I)I"⟩
def dkwX3_size_1 : List UInt8 := [182, 1, 51, 182, 0, 162, 172]
abbrev dktX3_size_1 : List UInt8 := dkwX3_size_1 ++ []
def dkwX3_size_0 : List UInt8 := [42, 27, 182, 0, 169, 153, 0, 9, 42, 4, 182, 0, 158, 172, 42, 3, 27, 182, 1, 57, 42, 42, 3]
abbrev dktX3_size_0 : List UInt8 := dkwX3_size_0 ++ dktX3_size_1
theorem dksX3_size_0 : cX3_size.data.toList.drop 0 = dktX3_size_0 := by decide +kernel
theorem dksX3_size_1 : cX3_size.data.toList.drop 23 = dktX3_size_1 := dk_seg dksX3_size_0 23 rfl rfl
theorem dX3_size_0 : decode cX3_size 0 = .ok (.aload_n 0, 1) := dk_42 (dk_at dksX3_size_0 0 rfl rfl)
theorem dX3_size_1 : decode cX3_size 1 = .ok (.iload_n 1, 1) := dk_27 (dk_at dksX3_size_0 1 rfl rfl)
theorem dX3_size_2 : decode cX3_size 2 = .ok (.invokevirtual 169, 3) := dk_182 0 169 (dk_at dksX3_size_0 2 rfl rfl)
theorem dX3_size_5 : decode cX3_size 5 = .ok (.ifCond .eq 9, 3) := dk_153 0 9 (dk_at dksX3_size_0 5 rfl rfl)
theorem dX3_size_8 : decode cX3_size 8 = .ok (.aload_n 0, 1) := dk_42 (dk_at dksX3_size_0 8 rfl rfl)
theorem dX3_size_9 : decode cX3_size 9 = .ok (.iconst 1, 1) := dk_4 (dk_at dksX3_size_0 9 rfl rfl)
theorem dX3_size_10 : decode cX3_size 10 = .ok (.invokevirtual 158, 3) := dk_182 0 158 (dk_at dksX3_size_0 10 rfl rfl)
theorem dX3_size_13 : decode cX3_size 13 = .ok (.ireturn, 1) := dk_172 (dk_at dksX3_size_0 13 rfl rfl)
theorem dX3_size_14 : decode cX3_size 14 = .ok (.aload_n 0, 1) := dk_42 (dk_at dksX3_size_0 14 rfl rfl)
theorem dX3_size_15 : decode cX3_size 15 = .ok (.iconst 0, 1) := dk_3 (dk_at dksX3_size_0 15 rfl rfl)
theorem dX3_size_16 : decode cX3_size 16 = .ok (.iload_n 1, 1) := dk_27 (dk_at dksX3_size_0 16 rfl rfl)
theorem dX3_size_17 : decode cX3_size 17 = .ok (.invokevirtual 313, 3) := dk_182 1 57 (dk_at dksX3_size_0 17 rfl rfl)
theorem dX3_size_20 : decode cX3_size 20 = .ok (.aload_n 0, 1) := dk_42 (dk_at dksX3_size_0 20 rfl rfl)
theorem dX3_size_21 : decode cX3_size 21 = .ok (.aload_n 0, 1) := dk_42 (dk_at dksX3_size_0 21 rfl rfl)
theorem dX3_size_22 : decode cX3_size 22 = .ok (.iconst 0, 1) := dk_3 (dk_at dksX3_size_0 22 rfl rfl)
theorem dX3_size_23 : decode cX3_size 23 = .ok (.invokevirtual 307, 3) := dk_182 1 51 (dk_at dksX3_size_1 0 rfl rfl)
theorem dX3_size_26 : decode cX3_size 26 = .ok (.invokevirtual 162, 3) := dk_182 0 162 (dk_at dksX3_size_1 3 rfl rfl)
theorem dX3_size_29 : decode cX3_size 29 = .ok (.ireturn, 1) := dk_172 (dk_at dksX3_size_1 6 rfl rfl)
abbrev cX3_count : ByteArray := prog_24_method_71_code
def yX3_count : MethodName := ⟨RX3, "count", "(I)I"⟩
def dkwX3_count_4 : List UInt8 := [42, 180, 0, 13, 167, 0, 4, 2, 172]
abbrev dktX3_count_4 : List UInt8 := dkwX3_count_4 ++ []
def dkwX3_count_3 : List UInt8 := [42, 180, 0, 119, 167, 0, 28, 27, 7, 160, 0, 10, 42, 180, 0, 28, 167, 0, 16, 27, 8, 160, 0, 10]
abbrev dktX3_count_3 : List UInt8 := dkwX3_count_3 ++ dktX3_count_4
def dkwX3_count_2 : List UInt8 := [160, 0, 10, 42, 180, 0, 16, 167, 0, 49, 27, 5, 160, 0, 7, 28, 167, 0, 40, 27, 6, 160, 0, 10]
abbrev dktX3_count_2 : List UInt8 := dkwX3_count_2 ++ dktX3_count_3
def dkwX3_count_1 : List UInt8 := [132, 2, 1, 132, 3, 1, 167, 255, 236, 27, 154, 0, 10, 42, 180, 0, 22, 167, 0, 61, 27, 4]
abbrev dktX3_count_1 : List UInt8 := dkwX3_count_1 ++ dktX3_count_2
def dkwX3_count_0 : List UInt8 := [42, 3, 181, 0, 7, 3, 61, 3, 62, 29, 7, 162, 0, 21, 42, 180, 0, 65, 29, 51, 153, 0, 6]
abbrev dktX3_count_0 : List UInt8 := dkwX3_count_0 ++ dktX3_count_1
theorem dksX3_count_0 : cX3_count.data.toList.drop 0 = dktX3_count_0 := by decide +kernel
theorem dksX3_count_1 : cX3_count.data.toList.drop 23 = dktX3_count_1 := dk_seg dksX3_count_0 23 rfl rfl
theorem dksX3_count_2 : cX3_count.data.toList.drop 45 = dktX3_count_2 := dk_seg dksX3_count_1 22 rfl rfl
theorem dksX3_count_3 : cX3_count.data.toList.drop 69 = dktX3_count_3 := dk_seg dksX3_count_2 24 rfl rfl
theorem dksX3_count_4 : cX3_count.data.toList.drop 93 = dktX3_count_4 := dk_seg dksX3_count_3 24 rfl rfl
theorem dX3_count_0 : decode cX3_count 0 = .ok (.aload_n 0, 1) := dk_42 (dk_at dksX3_count_0 0 rfl rfl)
theorem dX3_count_1 : decode cX3_count 1 = .ok (.iconst 0, 1) := dk_3 (dk_at dksX3_count_0 1 rfl rfl)
theorem dX3_count_2 : decode cX3_count 2 = .ok (.putfield 7, 3) := dk_181 0 7 (dk_at dksX3_count_0 2 rfl rfl)
theorem dX3_count_5 : decode cX3_count 5 = .ok (.iconst 0, 1) := dk_3 (dk_at dksX3_count_0 5 rfl rfl)
theorem dX3_count_6 : decode cX3_count 6 = .ok (.istore_n 2, 1) := dk_61 (dk_at dksX3_count_0 6 rfl rfl)
theorem dX3_count_7 : decode cX3_count 7 = .ok (.iconst 0, 1) := dk_3 (dk_at dksX3_count_0 7 rfl rfl)
theorem dX3_count_8 : decode cX3_count 8 = .ok (.istore_n 3, 1) := dk_62 (dk_at dksX3_count_0 8 rfl rfl)
theorem dX3_count_9 : decode cX3_count 9 = .ok (.iload_n 3, 1) := dk_29 (dk_at dksX3_count_0 9 rfl rfl)
theorem dX3_count_10 : decode cX3_count 10 = .ok (.iconst 4, 1) := dk_7 (dk_at dksX3_count_0 10 rfl rfl)
theorem dX3_count_11 : decode cX3_count 11 = .ok (.if_icmp .ge 21, 3) := dk_162 0 21 (dk_at dksX3_count_0 11 rfl rfl)
theorem dX3_count_14 : decode cX3_count 14 = .ok (.aload_n 0, 1) := dk_42 (dk_at dksX3_count_0 14 rfl rfl)
theorem dX3_count_15 : decode cX3_count 15 = .ok (.getfield 65, 3) := dk_180 0 65 (dk_at dksX3_count_0 15 rfl rfl)
theorem dX3_count_18 : decode cX3_count 18 = .ok (.iload_n 3, 1) := dk_29 (dk_at dksX3_count_0 18 rfl rfl)
theorem dX3_count_19 : decode cX3_count 19 = .ok (.baload, 1) := dk_51 (dk_at dksX3_count_0 19 rfl rfl)
theorem dX3_count_20 : decode cX3_count 20 = .ok (.ifCond .eq 6, 3) := dk_153 0 6 (dk_at dksX3_count_0 20 rfl rfl)
theorem dX3_count_23 : decode cX3_count 23 = .ok (.iinc 2 1, 3) := dk_132 2 1 (dk_at dksX3_count_1 0 rfl rfl)
theorem dX3_count_26 : decode cX3_count 26 = .ok (.iinc 3 1, 3) := dk_132 3 1 (dk_at dksX3_count_1 3 rfl rfl)
theorem dX3_count_29 : decode cX3_count 29 = .ok (.goto (-20), 3) := dk_167 255 236 (dk_at dksX3_count_1 6 rfl rfl)
theorem dX3_count_32 : decode cX3_count 32 = .ok (.iload_n 1, 1) := dk_27 (dk_at dksX3_count_1 9 rfl rfl)
theorem dX3_count_33 : decode cX3_count 33 = .ok (.ifCond .ne 10, 3) := dk_154 0 10 (dk_at dksX3_count_1 10 rfl rfl)
theorem dX3_count_36 : decode cX3_count 36 = .ok (.aload_n 0, 1) := dk_42 (dk_at dksX3_count_1 13 rfl rfl)
theorem dX3_count_37 : decode cX3_count 37 = .ok (.getfield 22, 3) := dk_180 0 22 (dk_at dksX3_count_1 14 rfl rfl)
theorem dX3_count_40 : decode cX3_count 40 = .ok (.goto 61, 3) := dk_167 0 61 (dk_at dksX3_count_1 17 rfl rfl)
theorem dX3_count_43 : decode cX3_count 43 = .ok (.iload_n 1, 1) := dk_27 (dk_at dksX3_count_1 20 rfl rfl)
theorem dX3_count_44 : decode cX3_count 44 = .ok (.iconst 1, 1) := dk_4 (dk_at dksX3_count_1 21 rfl rfl)
theorem dX3_count_45 : decode cX3_count 45 = .ok (.if_icmp .ne 10, 3) := dk_160 0 10 (dk_at dksX3_count_2 0 rfl rfl)
theorem dX3_count_48 : decode cX3_count 48 = .ok (.aload_n 0, 1) := dk_42 (dk_at dksX3_count_2 3 rfl rfl)
theorem dX3_count_49 : decode cX3_count 49 = .ok (.getfield 16, 3) := dk_180 0 16 (dk_at dksX3_count_2 4 rfl rfl)
theorem dX3_count_52 : decode cX3_count 52 = .ok (.goto 49, 3) := dk_167 0 49 (dk_at dksX3_count_2 7 rfl rfl)
theorem dX3_count_55 : decode cX3_count 55 = .ok (.iload_n 1, 1) := dk_27 (dk_at dksX3_count_2 10 rfl rfl)
theorem dX3_count_56 : decode cX3_count 56 = .ok (.iconst 2, 1) := dk_5 (dk_at dksX3_count_2 11 rfl rfl)
theorem dX3_count_57 : decode cX3_count 57 = .ok (.if_icmp .ne 7, 3) := dk_160 0 7 (dk_at dksX3_count_2 12 rfl rfl)
theorem dX3_count_60 : decode cX3_count 60 = .ok (.iload_n 2, 1) := dk_28 (dk_at dksX3_count_2 15 rfl rfl)
theorem dX3_count_61 : decode cX3_count 61 = .ok (.goto 40, 3) := dk_167 0 40 (dk_at dksX3_count_2 16 rfl rfl)
theorem dX3_count_64 : decode cX3_count 64 = .ok (.iload_n 1, 1) := dk_27 (dk_at dksX3_count_2 19 rfl rfl)
theorem dX3_count_65 : decode cX3_count 65 = .ok (.iconst 3, 1) := dk_6 (dk_at dksX3_count_2 20 rfl rfl)
theorem dX3_count_66 : decode cX3_count 66 = .ok (.if_icmp .ne 10, 3) := dk_160 0 10 (dk_at dksX3_count_2 21 rfl rfl)
theorem dX3_count_69 : decode cX3_count 69 = .ok (.aload_n 0, 1) := dk_42 (dk_at dksX3_count_3 0 rfl rfl)
theorem dX3_count_70 : decode cX3_count 70 = .ok (.getfield 119, 3) := dk_180 0 119 (dk_at dksX3_count_3 1 rfl rfl)
theorem dX3_count_73 : decode cX3_count 73 = .ok (.goto 28, 3) := dk_167 0 28 (dk_at dksX3_count_3 4 rfl rfl)
theorem dX3_count_76 : decode cX3_count 76 = .ok (.iload_n 1, 1) := dk_27 (dk_at dksX3_count_3 7 rfl rfl)
theorem dX3_count_77 : decode cX3_count 77 = .ok (.iconst 4, 1) := dk_7 (dk_at dksX3_count_3 8 rfl rfl)
theorem dX3_count_78 : decode cX3_count 78 = .ok (.if_icmp .ne 10, 3) := dk_160 0 10 (dk_at dksX3_count_3 9 rfl rfl)
theorem dX3_count_81 : decode cX3_count 81 = .ok (.aload_n 0, 1) := dk_42 (dk_at dksX3_count_3 12 rfl rfl)
theorem dX3_count_82 : decode cX3_count 82 = .ok (.getfield 28, 3) := dk_180 0 28 (dk_at dksX3_count_3 13 rfl rfl)
theorem dX3_count_85 : decode cX3_count 85 = .ok (.goto 16, 3) := dk_167 0 16 (dk_at dksX3_count_3 16 rfl rfl)
theorem dX3_count_88 : decode cX3_count 88 = .ok (.iload_n 1, 1) := dk_27 (dk_at dksX3_count_3 19 rfl rfl)
theorem dX3_count_89 : decode cX3_count 89 = .ok (.iconst 5, 1) := dk_8 (dk_at dksX3_count_3 20 rfl rfl)
theorem dX3_count_90 : decode cX3_count 90 = .ok (.if_icmp .ne 10, 3) := dk_160 0 10 (dk_at dksX3_count_3 21 rfl rfl)
theorem dX3_count_93 : decode cX3_count 93 = .ok (.aload_n 0, 1) := dk_42 (dk_at dksX3_count_4 0 rfl rfl)
theorem dX3_count_94 : decode cX3_count 94 = .ok (.getfield 13, 3) := dk_180 0 13 (dk_at dksX3_count_4 1 rfl rfl)
theorem dX3_count_97 : decode cX3_count 97 = .ok (.goto 4, 3) := dk_167 0 4 (dk_at dksX3_count_4 4 rfl rfl)
theorem dX3_count_100 : decode cX3_count 100 = .ok (.iconst (-1), 1) := dk_2 (dk_at dksX3_count_4 7 rfl rfl)
theorem dX3_count_101 : decode cX3_count 101 = .ok (.ireturn, 1) := dk_172 (dk_at dksX3_count_4 8 rfl rfl)
theorem q93 : (Jvm.Cond.initialized "TemplateEngineModel") ∈ lw_all := lw_g (lw_at lw_m1 22 rfl) rfl
theorem q675 : (Jvm.Cond.selects "TemplateEngineModel" ({ cls := "java/lang/Object", name := "getClass", desc := "()Ljava/lang/Class;" } : Jvm.MethodName) ({ cls := "java/lang/Object", name := "getClass", desc := "()Ljava/lang/Class;" } : Jvm.MethodName)) ∈ lw_all := lw_g (lw_at lw_m3 124 rfl) rfl
theorem q1794 : (Jvm.Cond.instantiable "TemplateEngineModel" (48 : Nat)) ∈ lw_all := lw_g (lw_at lw_m8 43 rfl) rfl
theorem q1796 : (Jvm.Cond.instanceMethod ({ cls := "TemplateEngineModel", name := "<init>", desc := "()V" } : Jvm.MethodName)) ∈ lw_all := lw_g (lw_at lw_m8 45 rfl) rfl
theorem q1797 : (Jvm.Cond.code ({ cls := "TemplateEngineModel", name := "<init>", desc := "()V" } : Jvm.MethodName) prog_24_method_1_code (1 : Nat) (Option.none : Option Jvm.ClassFile.FieldType)) ∈ lw_all := lw_g (lw_at lw_m8 46 rfl) rfl
theorem q1798 : (Jvm.Cond.methodLink "TemplateEngineModel" (1 : Nat) ({ cls := "java/lang/Object", name := "<init>", desc := "()V" } : Jvm.MethodName)) ∈ lw_all := lw_g (lw_at lw_m8 47 rfl) rfl
theorem q1799 : (Jvm.Cond.fieldLink "TemplateEngineModel" (7 : Nat) "TemplateEngineModel" "code" "I") ∈ lw_all := lw_g (lw_at lw_m8 48 rfl) rfl
theorem q1800 : (Jvm.Cond.fieldLink "TemplateEngineModel" (13 : Nat) "TemplateEngineModel" "threw" "I") ∈ lw_all := lw_g (lw_at lw_m8 49 rfl) rfl
theorem q1801 : (Jvm.Cond.fieldLink "TemplateEngineModel" (16 : Nat) "TemplateEngineModel" "typed" "I") ∈ lw_all := lw_g (lw_at lw_m8 50 rfl) rfl
theorem q1802 : (Jvm.Cond.fieldLink "TemplateEngineModel" (19 : Nat) "TemplateEngineModel" "error" "I") ∈ lw_all := lw_g (lw_at lw_m8 51 rfl) rfl
theorem q1803 : (Jvm.Cond.fieldLink "TemplateEngineModel" (22 : Nat) "TemplateEngineModel" "data" "I") ∈ lw_all := lw_g (lw_at lw_m8 52 rfl) rfl
theorem q1804 : (Jvm.Cond.fieldLink "TemplateEngineModel" (25 : Nat) "TemplateEngineModel" "seen" "I") ∈ lw_all := lw_g (lw_at lw_m8 53 rfl) rfl
theorem q1805 : (Jvm.Cond.fieldLink "TemplateEngineModel" (28 : Nat) "TemplateEngineModel" "lastSeen" "I") ∈ lw_all := lw_g (lw_at lw_m8 54 rfl) rfl
theorem q1806 : (Jvm.Cond.fieldLink "TemplateEngineModel" (31 : Nat) "TemplateEngineModel" "line" "[C") ∈ lw_all := lw_g (lw_at lw_m8 55 rfl) rfl
theorem q1807 : (Jvm.Cond.fieldLink "TemplateEngineModel" (35 : Nat) "TemplateEngineModel" "kind" "[I") ∈ lw_all := lw_g (lw_at lw_m8 56 rfl) rfl
theorem q1808 : (Jvm.Cond.fieldLink "TemplateEngineModel" (39 : Nat) "TemplateEngineModel" "many" "[I") ∈ lw_all := lw_g (lw_at lw_m8 57 rfl) rfl
theorem q1809 : (Jvm.Cond.fieldLink "TemplateEngineModel" (42 : Nat) "TemplateEngineModel" "texts" "[I") ∈ lw_all := lw_g (lw_at lw_m8 58 rfl) rfl
theorem q1810 : (Jvm.Cond.fieldLink "TemplateEngineModel" (45 : Nat) "TemplateEngineModel" "part" "[I") ∈ lw_all := lw_g (lw_at lw_m8 59 rfl) rfl
theorem q1811 : (Jvm.Cond.fieldLink "TemplateEngineModel" (48 : Nat) "TemplateEngineModel" "name" "[J") ∈ lw_all := lw_g (lw_at lw_m8 60 rfl) rfl
theorem q1812 : (Jvm.Cond.fieldLink "TemplateEngineModel" (52 : Nat) "TemplateEngineModel" "marked" "[Z") ∈ lw_all := lw_g (lw_at lw_m8 61 rfl) rfl
theorem q1813 : (Jvm.Cond.fieldLink "TemplateEngineModel" (56 : Nat) "TemplateEngineModel" "text" "[C") ∈ lw_all := lw_g (lw_at lw_m8 62 rfl) rfl
theorem q1814 : (Jvm.Cond.fieldLink "TemplateEngineModel" (59 : Nat) "TemplateEngineModel" "length" "[I") ∈ lw_all := lw_g (lw_at lw_m8 63 rfl) rfl
theorem q1815 : (Jvm.Cond.fieldLink "TemplateEngineModel" (62 : Nat) "TemplateEngineModel" "tags" "[I") ∈ lw_all := lw_g (lw_at lw_m8 64 rfl) rfl
theorem q1816 : (Jvm.Cond.fieldLink "TemplateEngineModel" (65 : Nat) "TemplateEngineModel" "there" "[Z") ∈ lw_all := lw_g (lw_at lw_m8 65 rfl) rfl
theorem q1817 : (Jvm.Cond.fieldLink "TemplateEngineModel" (68 : Nat) "TemplateEngineModel" "begin" "[I") ∈ lw_all := lw_g (lw_at lw_m8 66 rfl) rfl
theorem q1818 : (Jvm.Cond.fieldLink "TemplateEngineModel" (71 : Nat) "TemplateEngineModel" "end" "[I") ∈ lw_all := lw_g (lw_at lw_m8 67 rfl) rfl
theorem q1819 : (Jvm.Cond.fieldLink "TemplateEngineModel" (74 : Nat) "TemplateEngineModel" "from" "[I") ∈ lw_all := lw_g (lw_at lw_m8 68 rfl) rfl
theorem q1820 : (Jvm.Cond.fieldLink "TemplateEngineModel" (77 : Nat) "TemplateEngineModel" "to" "[I") ∈ lw_all := lw_g (lw_at lw_m8 69 rfl) rfl
theorem q1821 : (Jvm.Cond.fieldLink "TemplateEngineModel" (80 : Nat) "TemplateEngineModel" "sort" "[I") ∈ lw_all := lw_g (lw_at lw_m8 70 rfl) rfl
theorem q1822 : (Jvm.Cond.fieldLink "TemplateEngineModel" (83 : Nat) "TemplateEngineModel" "other" "[I") ∈ lw_all := lw_g (lw_at lw_m8 71 rfl) rfl
theorem q1823 : (Jvm.Cond.fieldLink "TemplateEngineModel" (86 : Nat) "TemplateEngineModel" "last" "[I") ∈ lw_all := lw_g (lw_at lw_m8 72 rfl) rfl
theorem q1824 : (Jvm.Cond.fieldLink "TemplateEngineModel" (89 : Nat) "TemplateEngineModel" "open" "[I") ∈ lw_all := lw_g (lw_at lw_m8 73 rfl) rfl
theorem q1825 : (Jvm.Cond.fieldLink "TemplateEngineModel" (92 : Nat) "TemplateEngineModel" "is" "[I") ∈ lw_all := lw_g (lw_at lw_m8 74 rfl) rfl
theorem q1826 : (Jvm.Cond.fieldLink "TemplateEngineModel" (95 : Nat) "TemplateEngineModel" "num" "[I") ∈ lw_all := lw_g (lw_at lw_m8 75 rfl) rfl
theorem q1827 : (Jvm.Cond.fieldLink "TemplateEngineModel" (98 : Nat) "TemplateEngineModel" "size" "[I") ∈ lw_all := lw_g (lw_at lw_m8 76 rfl) rfl
theorem q1828 : (Jvm.Cond.fieldLink "TemplateEngineModel" (101 : Nat) "TemplateEngineModel" "words" "[C") ∈ lw_all := lw_g (lw_at lw_m8 77 rfl) rfl
theorem q1829 : (Jvm.Cond.fieldLink "TemplateEngineModel" (104 : Nat) "TemplateEngineModel" "raw" "[C") ∈ lw_all := lw_g (lw_at lw_m8 78 rfl) rfl
theorem q1830 : (Jvm.Cond.fieldLink "TemplateEngineModel" (107 : Nat) "TemplateEngineModel" "out" "[C") ∈ lw_all := lw_g (lw_at lw_m8 79 rfl) rfl
theorem q1831 : (Jvm.Cond.fieldLink "TemplateEngineModel" (110 : Nat) "TemplateEngineModel" "result" "[C") ∈ lw_all := lw_g (lw_at lw_m8 80 rfl) rfl
theorem q1832 : (Jvm.Cond.fieldLink "TemplateEngineModel" (113 : Nat) "TemplateEngineModel" "rawSize" "I") ∈ lw_all := lw_g (lw_at lw_m8 81 rfl) rfl
theorem q1833 : (Jvm.Cond.fieldLink "TemplateEngineModel" (116 : Nat) "TemplateEngineModel" "outSize" "I") ∈ lw_all := lw_g (lw_at lw_m8 82 rfl) rfl
theorem q1834 : (Jvm.Cond.fieldLink "TemplateEngineModel" (119 : Nat) "TemplateEngineModel" "resultSize" "I") ∈ lw_all := lw_g (lw_at lw_m8 83 rfl) rfl
theorem q1835 : (Jvm.Cond.fieldLink "TemplateEngineModel" (122 : Nat) "TemplateEngineModel" "contexts" "I") ∈ lw_all := lw_g (lw_at lw_m8 84 rfl) rfl
theorem q1836 : (Jvm.Cond.fieldLink "TemplateEngineModel" (125 : Nat) "TemplateEngineModel" "under" "I") ∈ lw_all := lw_g (lw_at lw_m8 85 rfl) rfl
theorem q1837 : (Jvm.Cond.fieldLink "TemplateEngineModel" (128 : Nat) "TemplateEngineModel" "fail" "I") ∈ lw_all := lw_g (lw_at lw_m8 86 rfl) rfl
theorem q1838 : (Jvm.Cond.fieldLink "TemplateEngineModel" (131 : Nat) "TemplateEngineModel" "rawDeep" "I") ∈ lw_all := lw_g (lw_at lw_m8 87 rfl) rfl
theorem q1839 : (Jvm.Cond.fieldLink "TemplateEngineModel" (134 : Nat) "TemplateEngineModel" "inside" "[I") ∈ lw_all := lw_g (lw_at lw_m8 88 rfl) rfl
theorem q1840 : (Jvm.Cond.fieldLink "TemplateEngineModel" (137 : Nat) "TemplateEngineModel" "tagOf" "[I") ∈ lw_all := lw_g (lw_at lw_m8 89 rfl) rfl
theorem q1841 : (Jvm.Cond.fieldLink "TemplateEngineModel" (140 : Nat) "TemplateEngineModel" "turn" "[I") ∈ lw_all := lw_g (lw_at lw_m8 90 rfl) rfl
theorem q1842 : (Jvm.Cond.fieldLink "TemplateEngineModel" (143 : Nat) "TemplateEngineModel" "over" "[I") ∈ lw_all := lw_g (lw_at lw_m8 91 rfl) rfl
theorem q1843 : (Jvm.Cond.fieldLink "TemplateEngineModel" (146 : Nat) "TemplateEngineModel" "listOf" "[I") ∈ lw_all := lw_g (lw_at lw_m8 92 rfl) rfl
theorem q1844 : (Jvm.Cond.fieldLink "TemplateEngineModel" (149 : Nat) "TemplateEngineModel" "nextOf" "[I") ∈ lw_all := lw_g (lw_at lw_m8 93 rfl) rfl
theorem q1845 : (Jvm.Cond.fieldLink "TemplateEngineModel" (152 : Nat) "TemplateEngineModel" "isOther" "[Z") ∈ lw_all := lw_g (lw_at lw_m8 94 rfl) rfl
theorem q1846 : (Jvm.Cond.fieldLink "TemplateEngineModel" (155 : Nat) "TemplateEngineModel" "isPartial" "[Z") ∈ lw_all := lw_g (lw_at lw_m8 95 rfl) rfl
theorem q1847 : (Jvm.Cond.lays "TemplateEngineModel" "TemplateEngineModel" "code" "I") ∈ lw_all := lw_g (lw_at lw_m8 96 rfl) rfl
theorem q1848 : (Jvm.Cond.soleField "TemplateEngineModel" "code") ∈ lw_all := lw_g (lw_at lw_m8 97 rfl) rfl
theorem q1849 : (Jvm.Cond.lays "TemplateEngineModel" "TemplateEngineModel" "threw" "I") ∈ lw_all := lw_g (lw_at lw_m8 98 rfl) rfl
theorem q1850 : (Jvm.Cond.soleField "TemplateEngineModel" "threw") ∈ lw_all := lw_g (lw_at lw_m8 99 rfl) rfl
theorem q1851 : (Jvm.Cond.lays "TemplateEngineModel" "TemplateEngineModel" "typed" "I") ∈ lw_all := lw_g (lw_at lw_m8 100 rfl) rfl
theorem q1852 : (Jvm.Cond.soleField "TemplateEngineModel" "typed") ∈ lw_all := lw_g (lw_at lw_m8 101 rfl) rfl
theorem q1853 : (Jvm.Cond.lays "TemplateEngineModel" "TemplateEngineModel" "error" "I") ∈ lw_all := lw_g (lw_at lw_m8 102 rfl) rfl
theorem q1854 : (Jvm.Cond.soleField "TemplateEngineModel" "error") ∈ lw_all := lw_g (lw_at lw_m8 103 rfl) rfl
theorem q1855 : (Jvm.Cond.lays "TemplateEngineModel" "TemplateEngineModel" "data" "I") ∈ lw_all := lw_g (lw_at lw_m8 104 rfl) rfl
theorem q1856 : (Jvm.Cond.soleField "TemplateEngineModel" "data") ∈ lw_all := lw_g (lw_at lw_m8 105 rfl) rfl
theorem q1857 : (Jvm.Cond.lays "TemplateEngineModel" "TemplateEngineModel" "seen" "I") ∈ lw_all := lw_g (lw_at lw_m8 106 rfl) rfl
theorem q1858 : (Jvm.Cond.soleField "TemplateEngineModel" "seen") ∈ lw_all := lw_g (lw_at lw_m8 107 rfl) rfl
theorem q1859 : (Jvm.Cond.lays "TemplateEngineModel" "TemplateEngineModel" "lastSeen" "I") ∈ lw_all := lw_g (lw_at lw_m8 108 rfl) rfl
theorem q1860 : (Jvm.Cond.soleField "TemplateEngineModel" "lastSeen") ∈ lw_all := lw_g (lw_at lw_m8 109 rfl) rfl
theorem q1861 : (Jvm.Cond.laysFinal "TemplateEngineModel" "TemplateEngineModel" "line" "[C") ∈ lw_all := lw_g (lw_at lw_m8 110 rfl) rfl
theorem q1862 : (Jvm.Cond.soleField "TemplateEngineModel" "line") ∈ lw_all := lw_g (lw_at lw_m8 111 rfl) rfl
theorem q1863 : (Jvm.Cond.laysFinal "TemplateEngineModel" "TemplateEngineModel" "kind" "[I") ∈ lw_all := lw_g (lw_at lw_m8 112 rfl) rfl
theorem q1864 : (Jvm.Cond.soleField "TemplateEngineModel" "kind") ∈ lw_all := lw_g (lw_at lw_m8 113 rfl) rfl
theorem q1865 : (Jvm.Cond.laysFinal "TemplateEngineModel" "TemplateEngineModel" "many" "[I") ∈ lw_all := lw_g (lw_at lw_m8 114 rfl) rfl
theorem q1866 : (Jvm.Cond.soleField "TemplateEngineModel" "many") ∈ lw_all := lw_g (lw_at lw_m8 115 rfl) rfl
theorem q1867 : (Jvm.Cond.laysFinal "TemplateEngineModel" "TemplateEngineModel" "texts" "[I") ∈ lw_all := lw_g (lw_at lw_m8 116 rfl) rfl
theorem q1868 : (Jvm.Cond.soleField "TemplateEngineModel" "texts") ∈ lw_all := lw_g (lw_at lw_m8 117 rfl) rfl
theorem q1869 : (Jvm.Cond.laysFinal "TemplateEngineModel" "TemplateEngineModel" "part" "[I") ∈ lw_all := lw_g (lw_at lw_m8 118 rfl) rfl
theorem q1870 : (Jvm.Cond.soleField "TemplateEngineModel" "part") ∈ lw_all := lw_g (lw_at lw_m8 119 rfl) rfl
theorem q1871 : (Jvm.Cond.laysFinal "TemplateEngineModel" "TemplateEngineModel" "name" "[J") ∈ lw_all := lw_g (lw_at lw_m8 120 rfl) rfl
theorem q1872 : (Jvm.Cond.soleField "TemplateEngineModel" "name") ∈ lw_all := lw_g (lw_at lw_m8 121 rfl) rfl
theorem q1873 : (Jvm.Cond.laysFinal "TemplateEngineModel" "TemplateEngineModel" "marked" "[Z") ∈ lw_all := lw_g (lw_at lw_m8 122 rfl) rfl
theorem q1874 : (Jvm.Cond.soleField "TemplateEngineModel" "marked") ∈ lw_all := lw_g (lw_at lw_m8 123 rfl) rfl
theorem q1875 : (Jvm.Cond.laysFinal "TemplateEngineModel" "TemplateEngineModel" "text" "[C") ∈ lw_all := lw_g (lw_at lw_m8 124 rfl) rfl
theorem q1876 : (Jvm.Cond.soleField "TemplateEngineModel" "text") ∈ lw_all := lw_g (lw_at lw_m8 125 rfl) rfl
theorem q1877 : (Jvm.Cond.laysFinal "TemplateEngineModel" "TemplateEngineModel" "length" "[I") ∈ lw_all := lw_g (lw_at lw_m8 126 rfl) rfl
theorem q1878 : (Jvm.Cond.soleField "TemplateEngineModel" "length") ∈ lw_all := lw_g (lw_at lw_m8 127 rfl) rfl
theorem q1879 : (Jvm.Cond.laysFinal "TemplateEngineModel" "TemplateEngineModel" "tags" "[I") ∈ lw_all := lw_g (lw_at lw_m8 128 rfl) rfl
theorem q1880 : (Jvm.Cond.soleField "TemplateEngineModel" "tags") ∈ lw_all := lw_g (lw_at lw_m8 129 rfl) rfl
theorem q1881 : (Jvm.Cond.laysFinal "TemplateEngineModel" "TemplateEngineModel" "there" "[Z") ∈ lw_all := lw_g (lw_at lw_m8 130 rfl) rfl
theorem q1882 : (Jvm.Cond.soleField "TemplateEngineModel" "there") ∈ lw_all := lw_g (lw_at lw_m8 131 rfl) rfl
theorem q1883 : (Jvm.Cond.laysFinal "TemplateEngineModel" "TemplateEngineModel" "begin" "[I") ∈ lw_all := lw_g (lw_at lw_m8 132 rfl) rfl
theorem q1884 : (Jvm.Cond.soleField "TemplateEngineModel" "begin") ∈ lw_all := lw_g (lw_at lw_m8 133 rfl) rfl
theorem q1885 : (Jvm.Cond.laysFinal "TemplateEngineModel" "TemplateEngineModel" "end" "[I") ∈ lw_all := lw_g (lw_at lw_m8 134 rfl) rfl
theorem q1886 : (Jvm.Cond.soleField "TemplateEngineModel" "end") ∈ lw_all := lw_g (lw_at lw_m8 135 rfl) rfl
theorem q1887 : (Jvm.Cond.laysFinal "TemplateEngineModel" "TemplateEngineModel" "from" "[I") ∈ lw_all := lw_g (lw_at lw_m8 136 rfl) rfl
theorem q1888 : (Jvm.Cond.soleField "TemplateEngineModel" "from") ∈ lw_all := lw_g (lw_at lw_m8 137 rfl) rfl
theorem q1889 : (Jvm.Cond.laysFinal "TemplateEngineModel" "TemplateEngineModel" "to" "[I") ∈ lw_all := lw_g (lw_at lw_m8 138 rfl) rfl
theorem q1890 : (Jvm.Cond.soleField "TemplateEngineModel" "to") ∈ lw_all := lw_g (lw_at lw_m8 139 rfl) rfl
theorem q1891 : (Jvm.Cond.laysFinal "TemplateEngineModel" "TemplateEngineModel" "sort" "[I") ∈ lw_all := lw_g (lw_at lw_m8 140 rfl) rfl
theorem q1892 : (Jvm.Cond.soleField "TemplateEngineModel" "sort") ∈ lw_all := lw_g (lw_at lw_m8 141 rfl) rfl
theorem q1893 : (Jvm.Cond.laysFinal "TemplateEngineModel" "TemplateEngineModel" "other" "[I") ∈ lw_all := lw_g (lw_at lw_m8 142 rfl) rfl
theorem q1894 : (Jvm.Cond.soleField "TemplateEngineModel" "other") ∈ lw_all := lw_g (lw_at lw_m8 143 rfl) rfl
theorem q1895 : (Jvm.Cond.laysFinal "TemplateEngineModel" "TemplateEngineModel" "last" "[I") ∈ lw_all := lw_g (lw_at lw_m8 144 rfl) rfl
theorem q1896 : (Jvm.Cond.soleField "TemplateEngineModel" "last") ∈ lw_all := lw_g (lw_at lw_m8 145 rfl) rfl
theorem q1897 : (Jvm.Cond.laysFinal "TemplateEngineModel" "TemplateEngineModel" "open" "[I") ∈ lw_all := lw_g (lw_at lw_m8 146 rfl) rfl
theorem q1898 : (Jvm.Cond.soleField "TemplateEngineModel" "open") ∈ lw_all := lw_g (lw_at lw_m8 147 rfl) rfl
theorem q1899 : (Jvm.Cond.laysFinal "TemplateEngineModel" "TemplateEngineModel" "is" "[I") ∈ lw_all := lw_g (lw_at lw_m8 148 rfl) rfl
theorem q1900 : (Jvm.Cond.soleField "TemplateEngineModel" "is") ∈ lw_all := lw_g (lw_at lw_m8 149 rfl) rfl
theorem q1901 : (Jvm.Cond.laysFinal "TemplateEngineModel" "TemplateEngineModel" "num" "[I") ∈ lw_all := lw_g (lw_at lw_m8 150 rfl) rfl
theorem q1902 : (Jvm.Cond.soleField "TemplateEngineModel" "num") ∈ lw_all := lw_g (lw_at lw_m8 151 rfl) rfl
theorem q1903 : (Jvm.Cond.laysFinal "TemplateEngineModel" "TemplateEngineModel" "size" "[I") ∈ lw_all := lw_g (lw_at lw_m8 152 rfl) rfl
theorem q1904 : (Jvm.Cond.soleField "TemplateEngineModel" "size") ∈ lw_all := lw_g (lw_at lw_m8 153 rfl) rfl
theorem q1905 : (Jvm.Cond.laysFinal "TemplateEngineModel" "TemplateEngineModel" "words" "[C") ∈ lw_all := lw_g (lw_at lw_m8 154 rfl) rfl
theorem q1906 : (Jvm.Cond.soleField "TemplateEngineModel" "words") ∈ lw_all := lw_g (lw_at lw_m8 155 rfl) rfl
theorem q1907 : (Jvm.Cond.laysFinal "TemplateEngineModel" "TemplateEngineModel" "raw" "[C") ∈ lw_all := lw_g (lw_at lw_m8 156 rfl) rfl
theorem q1908 : (Jvm.Cond.soleField "TemplateEngineModel" "raw") ∈ lw_all := lw_g (lw_at lw_m8 157 rfl) rfl
theorem q1909 : (Jvm.Cond.laysFinal "TemplateEngineModel" "TemplateEngineModel" "out" "[C") ∈ lw_all := lw_g (lw_at lw_m8 158 rfl) rfl
theorem q1910 : (Jvm.Cond.soleField "TemplateEngineModel" "out") ∈ lw_all := lw_g (lw_at lw_m8 159 rfl) rfl
theorem q1911 : (Jvm.Cond.laysFinal "TemplateEngineModel" "TemplateEngineModel" "result" "[C") ∈ lw_all := lw_g (lw_at lw_m8 160 rfl) rfl
theorem q1912 : (Jvm.Cond.soleField "TemplateEngineModel" "result") ∈ lw_all := lw_g (lw_at lw_m8 161 rfl) rfl
theorem q1913 : (Jvm.Cond.lays "TemplateEngineModel" "TemplateEngineModel" "rawSize" "I") ∈ lw_all := lw_g (lw_at lw_m8 162 rfl) rfl
theorem q1914 : (Jvm.Cond.soleField "TemplateEngineModel" "rawSize") ∈ lw_all := lw_g (lw_at lw_m8 163 rfl) rfl
theorem q1915 : (Jvm.Cond.lays "TemplateEngineModel" "TemplateEngineModel" "outSize" "I") ∈ lw_all := lw_g (lw_at lw_m8 164 rfl) rfl
theorem q1916 : (Jvm.Cond.soleField "TemplateEngineModel" "outSize") ∈ lw_all := lw_g (lw_at lw_m8 165 rfl) rfl
theorem q1917 : (Jvm.Cond.lays "TemplateEngineModel" "TemplateEngineModel" "resultSize" "I") ∈ lw_all := lw_g (lw_at lw_m8 166 rfl) rfl
theorem q1918 : (Jvm.Cond.soleField "TemplateEngineModel" "resultSize") ∈ lw_all := lw_g (lw_at lw_m8 167 rfl) rfl
theorem q1919 : (Jvm.Cond.lays "TemplateEngineModel" "TemplateEngineModel" "contexts" "I") ∈ lw_all := lw_g (lw_at lw_m8 168 rfl) rfl
theorem q1920 : (Jvm.Cond.soleField "TemplateEngineModel" "contexts") ∈ lw_all := lw_g (lw_at lw_m8 169 rfl) rfl
theorem q1921 : (Jvm.Cond.lays "TemplateEngineModel" "TemplateEngineModel" "under" "I") ∈ lw_all := lw_g (lw_at lw_m8 170 rfl) rfl
theorem q1922 : (Jvm.Cond.soleField "TemplateEngineModel" "under") ∈ lw_all := lw_g (lw_at lw_m8 171 rfl) rfl
theorem q1923 : (Jvm.Cond.lays "TemplateEngineModel" "TemplateEngineModel" "fail" "I") ∈ lw_all := lw_g (lw_at lw_m8 172 rfl) rfl
theorem q1924 : (Jvm.Cond.soleField "TemplateEngineModel" "fail") ∈ lw_all := lw_g (lw_at lw_m8 173 rfl) rfl
theorem q1925 : (Jvm.Cond.lays "TemplateEngineModel" "TemplateEngineModel" "rawDeep" "I") ∈ lw_all := lw_g (lw_at lw_m8 174 rfl) rfl
theorem q1926 : (Jvm.Cond.soleField "TemplateEngineModel" "rawDeep") ∈ lw_all := lw_g (lw_at lw_m8 175 rfl) rfl
theorem q1927 : (Jvm.Cond.laysFinal "TemplateEngineModel" "TemplateEngineModel" "inside" "[I") ∈ lw_all := lw_g (lw_at lw_m8 176 rfl) rfl
theorem q1928 : (Jvm.Cond.soleField "TemplateEngineModel" "inside") ∈ lw_all := lw_g (lw_at lw_m8 177 rfl) rfl
theorem q1929 : (Jvm.Cond.laysFinal "TemplateEngineModel" "TemplateEngineModel" "tagOf" "[I") ∈ lw_all := lw_g (lw_at lw_m8 178 rfl) rfl
theorem q1930 : (Jvm.Cond.soleField "TemplateEngineModel" "tagOf") ∈ lw_all := lw_g (lw_at lw_m8 179 rfl) rfl
theorem q1931 : (Jvm.Cond.laysFinal "TemplateEngineModel" "TemplateEngineModel" "turn" "[I") ∈ lw_all := lw_g (lw_at lw_m8 180 rfl) rfl
theorem q1932 : (Jvm.Cond.soleField "TemplateEngineModel" "turn") ∈ lw_all := lw_g (lw_at lw_m8 181 rfl) rfl
theorem q1933 : (Jvm.Cond.laysFinal "TemplateEngineModel" "TemplateEngineModel" "over" "[I") ∈ lw_all := lw_g (lw_at lw_m8 182 rfl) rfl
theorem q1934 : (Jvm.Cond.soleField "TemplateEngineModel" "over") ∈ lw_all := lw_g (lw_at lw_m8 183 rfl) rfl
theorem q1935 : (Jvm.Cond.laysFinal "TemplateEngineModel" "TemplateEngineModel" "listOf" "[I") ∈ lw_all := lw_g (lw_at lw_m8 184 rfl) rfl
theorem q1936 : (Jvm.Cond.soleField "TemplateEngineModel" "listOf") ∈ lw_all := lw_g (lw_at lw_m8 185 rfl) rfl
theorem q1937 : (Jvm.Cond.laysFinal "TemplateEngineModel" "TemplateEngineModel" "nextOf" "[I") ∈ lw_all := lw_g (lw_at lw_m8 186 rfl) rfl
theorem q1938 : (Jvm.Cond.soleField "TemplateEngineModel" "nextOf") ∈ lw_all := lw_g (lw_at lw_m8 187 rfl) rfl
theorem q1939 : (Jvm.Cond.laysFinal "TemplateEngineModel" "TemplateEngineModel" "isOther" "[Z") ∈ lw_all := lw_g (lw_at lw_m8 188 rfl) rfl
theorem q1940 : (Jvm.Cond.soleField "TemplateEngineModel" "isOther") ∈ lw_all := lw_g (lw_at lw_m8 189 rfl) rfl
theorem q1941 : (Jvm.Cond.laysFinal "TemplateEngineModel" "TemplateEngineModel" "isPartial" "[Z") ∈ lw_all := lw_g (lw_at lw_m8 190 rfl) rfl
theorem q1942 : (Jvm.Cond.soleField "TemplateEngineModel" "isPartial") ∈ lw_all := lw_g (lw_at lw_m8 191 rfl) rfl
theorem q1943 : (Jvm.Cond.superclass "TemplateEngineModel" "java/lang/Object") ∈ lw_all := lw_g (lw_at lw_m8 192 rfl) rfl
theorem q1949 : (Jvm.Cond.instanceMethod ({ cls := "TemplateEngineModel", name := "thrown", desc := "()I" } : Jvm.MethodName)) ∈ lw_all := lw_g (lw_at lw_m8 198 rfl) rfl
theorem q1950 : (Jvm.Cond.selects "TemplateEngineModel" ({ cls := "TemplateEngineModel", name := "thrown", desc := "()I" } : Jvm.MethodName) ({ cls := "TemplateEngineModel", name := "thrown", desc := "()I" } : Jvm.MethodName)) ∈ lw_all := lw_g (lw_at lw_m8 199 rfl) rfl
theorem q1951 : (Jvm.Cond.code ({ cls := "TemplateEngineModel", name := "thrown", desc := "()I" } : Jvm.MethodName) prog_24_method_2_code (1 : Nat) (Option.some Jvm.ClassFile.FieldType.int)) ∈ lw_all := lw_g (lw_at lw_m8 200 rfl) rfl
theorem q1953 : (Jvm.Cond.instanceMethod ({ cls := "TemplateEngineModel", name := "type", desc := "(I)I" } : Jvm.MethodName)) ∈ lw_all := lw_g (lw_at lw_m8 202 rfl) rfl
theorem q1954 : (Jvm.Cond.selects "TemplateEngineModel" ({ cls := "TemplateEngineModel", name := "type", desc := "(I)I" } : Jvm.MethodName) ({ cls := "TemplateEngineModel", name := "type", desc := "(I)I" } : Jvm.MethodName)) ∈ lw_all := lw_g (lw_at lw_m8 203 rfl) rfl
theorem q1955 : (Jvm.Cond.code ({ cls := "TemplateEngineModel", name := "type", desc := "(I)I" } : Jvm.MethodName) prog_24_method_5_code (2 : Nat) (Option.some Jvm.ClassFile.FieldType.int)) ∈ lw_all := lw_g (lw_at lw_m8 204 rfl) rfl
theorem q1956 : (Jvm.Cond.methodLink "TemplateEngineModel" (158 : Nat) ({ cls := "TemplateEngineModel", name := "refuse", desc := "(I)I" } : Jvm.MethodName)) ∈ lw_all := lw_g (lw_at lw_m8 205 rfl) rfl
theorem q1957 : (Jvm.Cond.privateMethod ({ cls := "TemplateEngineModel", name := "refuse", desc := "(I)I" } : Jvm.MethodName)) ∈ lw_tbl := lw_at lw_m8 206 rfl
theorem q1958 : (Jvm.Cond.instanceMethod ({ cls := "TemplateEngineModel", name := "refuse", desc := "(I)I" } : Jvm.MethodName)) ∈ lw_all := lw_g (lw_at lw_m8 207 rfl) rfl
theorem q1959 : (Jvm.Cond.code ({ cls := "TemplateEngineModel", name := "refuse", desc := "(I)I" } : Jvm.MethodName) prog_24_method_3_code (2 : Nat) (Option.some Jvm.ClassFile.FieldType.int)) ∈ lw_all := lw_g (lw_at lw_m8 208 rfl) rfl
theorem q1960 : (Jvm.Cond.methodLink "TemplateEngineModel" (162 : Nat) ({ cls := "TemplateEngineModel", name := "fine", desc := "(I)I" } : Jvm.MethodName)) ∈ lw_all := lw_g (lw_at lw_m8 209 rfl) rfl
theorem q1961 : (Jvm.Cond.privateMethod ({ cls := "TemplateEngineModel", name := "fine", desc := "(I)I" } : Jvm.MethodName)) ∈ lw_tbl := lw_at lw_m8 210 rfl
theorem q1962 : (Jvm.Cond.instanceMethod ({ cls := "TemplateEngineModel", name := "fine", desc := "(I)I" } : Jvm.MethodName)) ∈ lw_all := lw_g (lw_at lw_m8 211 rfl) rfl
theorem q1963 : (Jvm.Cond.code ({ cls := "TemplateEngineModel", name := "fine", desc := "(I)I" } : Jvm.MethodName) prog_24_method_4_code (2 : Nat) (Option.some Jvm.ClassFile.FieldType.int)) ∈ lw_all := lw_g (lw_at lw_m8 212 rfl) rfl
theorem q1965 : (Jvm.Cond.instanceMethod ({ cls := "TemplateEngineModel", name := "number", desc := "(I)I" } : Jvm.MethodName)) ∈ lw_all := lw_g (lw_at lw_m8 214 rfl) rfl
theorem q1966 : (Jvm.Cond.selects "TemplateEngineModel" ({ cls := "TemplateEngineModel", name := "number", desc := "(I)I" } : Jvm.MethodName) ({ cls := "TemplateEngineModel", name := "number", desc := "(I)I" } : Jvm.MethodName)) ∈ lw_all := lw_g (lw_at lw_m8 215 rfl) rfl
theorem q1967 : (Jvm.Cond.code ({ cls := "TemplateEngineModel", name := "number", desc := "(I)I" } : Jvm.MethodName) prog_24_method_7_code (2 : Nat) (Option.some Jvm.ClassFile.FieldType.int)) ∈ lw_all := lw_g (lw_at lw_m8 216 rfl) rfl
theorem q1968 : (Jvm.Cond.methodLink "TemplateEngineModel" (165 : Nat) ({ cls := "TemplateEngineModel", name := "make", desc := "(II)I" } : Jvm.MethodName)) ∈ lw_all := lw_g (lw_at lw_m8 217 rfl) rfl
theorem q1969 : (Jvm.Cond.privateMethod ({ cls := "TemplateEngineModel", name := "make", desc := "(II)I" } : Jvm.MethodName)) ∈ lw_tbl := lw_at lw_m8 218 rfl
theorem q1970 : (Jvm.Cond.instanceMethod ({ cls := "TemplateEngineModel", name := "make", desc := "(II)I" } : Jvm.MethodName)) ∈ lw_all := lw_g (lw_at lw_m8 219 rfl) rfl
theorem q1971 : (Jvm.Cond.code ({ cls := "TemplateEngineModel", name := "make", desc := "(II)I" } : Jvm.MethodName) prog_24_method_6_code (3 : Nat) (Option.some Jvm.ClassFile.FieldType.int)) ∈ lw_all := lw_g (lw_at lw_m8 220 rfl) rfl
theorem q1973 : (Jvm.Cond.instanceMethod ({ cls := "TemplateEngineModel", name := "text", desc := "()I" } : Jvm.MethodName)) ∈ lw_all := lw_g (lw_at lw_m8 222 rfl) rfl
theorem q1974 : (Jvm.Cond.selects "TemplateEngineModel" ({ cls := "TemplateEngineModel", name := "text", desc := "()I" } : Jvm.MethodName) ({ cls := "TemplateEngineModel", name := "text", desc := "()I" } : Jvm.MethodName)) ∈ lw_all := lw_g (lw_at lw_m8 223 rfl) rfl
theorem q1975 : (Jvm.Cond.code ({ cls := "TemplateEngineModel", name := "text", desc := "()I" } : Jvm.MethodName) prog_24_method_8_code (2 : Nat) (Option.some Jvm.ClassFile.FieldType.int)) ∈ lw_all := lw_g (lw_at lw_m8 224 rfl) rfl
theorem q1977 : (Jvm.Cond.instanceMethod ({ cls := "TemplateEngineModel", name := "list", desc := "()I" } : Jvm.MethodName)) ∈ lw_all := lw_g (lw_at lw_m8 226 rfl) rfl
theorem q1978 : (Jvm.Cond.selects "TemplateEngineModel" ({ cls := "TemplateEngineModel", name := "list", desc := "()I" } : Jvm.MethodName) ({ cls := "TemplateEngineModel", name := "list", desc := "()I" } : Jvm.MethodName)) ∈ lw_all := lw_g (lw_at lw_m8 227 rfl) rfl
theorem q1979 : (Jvm.Cond.code ({ cls := "TemplateEngineModel", name := "list", desc := "()I" } : Jvm.MethodName) prog_24_method_9_code (1 : Nat) (Option.some Jvm.ClassFile.FieldType.int)) ∈ lw_all := lw_g (lw_at lw_m8 228 rfl) rfl
theorem q1981 : (Jvm.Cond.instanceMethod ({ cls := "TemplateEngineModel", name := "map", desc := "()I" } : Jvm.MethodName)) ∈ lw_all := lw_g (lw_at lw_m8 230 rfl) rfl
theorem q1982 : (Jvm.Cond.selects "TemplateEngineModel" ({ cls := "TemplateEngineModel", name := "map", desc := "()I" } : Jvm.MethodName) ({ cls := "TemplateEngineModel", name := "map", desc := "()I" } : Jvm.MethodName)) ∈ lw_all := lw_g (lw_at lw_m8 231 rfl) rfl
theorem q1983 : (Jvm.Cond.code ({ cls := "TemplateEngineModel", name := "map", desc := "()I" } : Jvm.MethodName) prog_24_method_10_code (1 : Nat) (Option.some Jvm.ClassFile.FieldType.int)) ∈ lw_all := lw_g (lw_at lw_m8 232 rfl) rfl
theorem q1985 : (Jvm.Cond.instanceMethod ({ cls := "TemplateEngineModel", name := "add", desc := "(II)I" } : Jvm.MethodName)) ∈ lw_all := lw_g (lw_at lw_m8 234 rfl) rfl
theorem q1986 : (Jvm.Cond.selects "TemplateEngineModel" ({ cls := "TemplateEngineModel", name := "add", desc := "(II)I" } : Jvm.MethodName) ({ cls := "TemplateEngineModel", name := "add", desc := "(II)I" } : Jvm.MethodName)) ∈ lw_all := lw_g (lw_at lw_m8 235 rfl) rfl
theorem q1987 : (Jvm.Cond.code ({ cls := "TemplateEngineModel", name := "add", desc := "(II)I" } : Jvm.MethodName) prog_24_method_13_code (3 : Nat) (Option.some Jvm.ClassFile.FieldType.int)) ∈ lw_all := lw_g (lw_at lw_m8 236 rfl) rfl
theorem q1988 : (Jvm.Cond.methodLink "TemplateEngineModel" (169 : Nat) ({ cls := "TemplateEngineModel", name := "no", desc := "(I)Z" } : Jvm.MethodName)) ∈ lw_all := lw_g (lw_at lw_m8 237 rfl) rfl
theorem q1989 : (Jvm.Cond.privateMethod ({ cls := "TemplateEngineModel", name := "no", desc := "(I)Z" } : Jvm.MethodName)) ∈ lw_tbl := lw_at lw_m8 238 rfl
theorem q1990 : (Jvm.Cond.instanceMethod ({ cls := "TemplateEngineModel", name := "no", desc := "(I)Z" } : Jvm.MethodName)) ∈ lw_all := lw_g (lw_at lw_m8 239 rfl) rfl
theorem q1991 : (Jvm.Cond.code ({ cls := "TemplateEngineModel", name := "no", desc := "(I)Z" } : Jvm.MethodName) prog_24_method_11_code (2 : Nat) (Option.some Jvm.ClassFile.FieldType.boolean)) ∈ lw_all := lw_g (lw_at lw_m9 0 rfl) rfl
theorem q1992 : (Jvm.Cond.methodLink "TemplateEngineModel" (173 : Nat) ({ cls := "TemplateEngineModel", name := "holds", desc := "(II)Z" } : Jvm.MethodName)) ∈ lw_all := lw_g (lw_at lw_m9 1 rfl) rfl
theorem q1993 : (Jvm.Cond.privateMethod ({ cls := "TemplateEngineModel", name := "holds", desc := "(II)Z" } : Jvm.MethodName)) ∈ lw_tbl := lw_at lw_m9 2 rfl
theorem q1994 : (Jvm.Cond.instanceMethod ({ cls := "TemplateEngineModel", name := "holds", desc := "(II)Z" } : Jvm.MethodName)) ∈ lw_all := lw_g (lw_at lw_m9 3 rfl) rfl
theorem q1995 : (Jvm.Cond.code ({ cls := "TemplateEngineModel", name := "holds", desc := "(II)Z" } : Jvm.MethodName) prog_24_method_12_code (7 : Nat) (Option.some Jvm.ClassFile.FieldType.boolean)) ∈ lw_all := lw_g (lw_at lw_m9 4 rfl) rfl
theorem q1997 : (Jvm.Cond.instanceMethod ({ cls := "TemplateEngineModel", name := "put", desc := "(II)I" } : Jvm.MethodName)) ∈ lw_all := lw_g (lw_at lw_m9 6 rfl) rfl
theorem q1998 : (Jvm.Cond.selects "TemplateEngineModel" ({ cls := "TemplateEngineModel", name := "put", desc := "(II)I" } : Jvm.MethodName) ({ cls := "TemplateEngineModel", name := "put", desc := "(II)I" } : Jvm.MethodName)) ∈ lw_all := lw_g (lw_at lw_m9 7 rfl) rfl
theorem q1999 : (Jvm.Cond.code ({ cls := "TemplateEngineModel", name := "put", desc := "(II)I" } : Jvm.MethodName) prog_24_method_17_code (6 : Nat) (Option.some Jvm.ClassFile.FieldType.int)) ∈ lw_all := lw_g (lw_at lw_m9 8 rfl) rfl
theorem q2000 : (Jvm.Cond.methodLink "TemplateEngineModel" (184 : Nat) ({ cls := "TemplateEngineModel", name := "lineName", desc := "()J" } : Jvm.MethodName)) ∈ lw_all := lw_g (lw_at lw_m9 9 rfl) rfl
theorem q2001 : (Jvm.Cond.privateMethod ({ cls := "TemplateEngineModel", name := "lineName", desc := "()J" } : Jvm.MethodName)) ∈ lw_tbl := lw_at lw_m9 10 rfl
theorem q2002 : (Jvm.Cond.instanceMethod ({ cls := "TemplateEngineModel", name := "lineName", desc := "()J" } : Jvm.MethodName)) ∈ lw_all := lw_g (lw_at lw_m9 11 rfl) rfl
theorem q2003 : (Jvm.Cond.code ({ cls := "TemplateEngineModel", name := "lineName", desc := "()J" } : Jvm.MethodName) prog_24_method_15_code (4 : Nat) (Option.some Jvm.ClassFile.FieldType.long)) ∈ lw_all := lw_g (lw_at lw_m9 12 rfl) rfl
theorem q2004 : (Jvm.Cond.methodLink "TemplateEngineModel" (177 : Nat) ({ cls := "TemplateEngineModel", name := "letter", desc := "(I)Z" } : Jvm.MethodName)) ∈ lw_all := lw_g (lw_at lw_m9 13 rfl) rfl
theorem q2005 : (Jvm.Cond.privateMethod ({ cls := "TemplateEngineModel", name := "letter", desc := "(I)Z" } : Jvm.MethodName)) ∈ lw_tbl := lw_at lw_m9 14 rfl
theorem q2006 : (Jvm.Cond.instanceMethod ({ cls := "TemplateEngineModel", name := "letter", desc := "(I)Z" } : Jvm.MethodName)) ∈ lw_all := lw_g (lw_at lw_m9 15 rfl) rfl
theorem q2007 : (Jvm.Cond.code ({ cls := "TemplateEngineModel", name := "letter", desc := "(I)Z" } : Jvm.MethodName) prog_24_method_14_code (2 : Nat) (Option.some Jvm.ClassFile.FieldType.boolean)) ∈ lw_all := lw_g (lw_at lw_m9 16 rfl) rfl
theorem q2008 : (Jvm.Cond.constantLong "TemplateEngineModel" (180 : Nat) (32 : Int64)) ∈ lw_all := lw_g (lw_at lw_m9 17 rfl) rfl
theorem q2009 : (Jvm.Cond.constantLong "TemplateEngineModel" (182 : Nat) (96 : Int64)) ∈ lw_all := lw_g (lw_at lw_m9 18 rfl) rfl
theorem q2010 : (Jvm.Cond.methodLink "TemplateEngineModel" (188 : Nat) ({ cls := "TemplateEngineModel", name := "find", desc := "(IJ)I" } : Jvm.MethodName)) ∈ lw_all := lw_g (lw_at lw_m9 19 rfl) rfl
theorem q2011 : (Jvm.Cond.privateMethod ({ cls := "TemplateEngineModel", name := "find", desc := "(IJ)I" } : Jvm.MethodName)) ∈ lw_tbl := lw_at lw_m9 20 rfl
theorem q2012 : (Jvm.Cond.instanceMethod ({ cls := "TemplateEngineModel", name := "find", desc := "(IJ)I" } : Jvm.MethodName)) ∈ lw_all := lw_g (lw_at lw_m9 21 rfl) rfl
theorem q2013 : (Jvm.Cond.code ({ cls := "TemplateEngineModel", name := "find", desc := "(IJ)I" } : Jvm.MethodName) prog_24_method_16_code (5 : Nat) (Option.some Jvm.ClassFile.FieldType.int)) ∈ lw_all := lw_g (lw_at lw_m9 22 rfl) rfl
theorem q2015 : (Jvm.Cond.instanceMethod ({ cls := "TemplateEngineModel", name := "compile", desc := "(I)I" } : Jvm.MethodName)) ∈ lw_all := lw_g (lw_at lw_m9 24 rfl) rfl
theorem q2016 : (Jvm.Cond.selects "TemplateEngineModel" ({ cls := "TemplateEngineModel", name := "compile", desc := "(I)I" } : Jvm.MethodName) ({ cls := "TemplateEngineModel", name := "compile", desc := "(I)I" } : Jvm.MethodName)) ∈ lw_all := lw_g (lw_at lw_m9 25 rfl) rfl
theorem q2017 : (Jvm.Cond.code ({ cls := "TemplateEngineModel", name := "compile", desc := "(I)I" } : Jvm.MethodName) prog_24_method_32_code (7 : Nat) (Option.some Jvm.ClassFile.FieldType.int)) ∈ lw_all := lw_g (lw_at lw_m9 26 rfl) rfl
theorem q2018 : (Jvm.Cond.methodLink "TemplateEngineModel" (275 : Nat) ({ cls := "TemplateEngineModel", name := "takeApart", desc := "()I" } : Jvm.MethodName)) ∈ lw_all := lw_g (lw_at lw_m9 27 rfl) rfl
theorem q2019 : (Jvm.Cond.privateMethod ({ cls := "TemplateEngineModel", name := "takeApart", desc := "()I" } : Jvm.MethodName)) ∈ lw_tbl := lw_at lw_m9 28 rfl
theorem q2020 : (Jvm.Cond.instanceMethod ({ cls := "TemplateEngineModel", name := "takeApart", desc := "()I" } : Jvm.MethodName)) ∈ lw_all := lw_g (lw_at lw_m9 29 rfl) rfl
theorem q2021 : (Jvm.Cond.code ({ cls := "TemplateEngineModel", name := "takeApart", desc := "()I" } : Jvm.MethodName) prog_24_method_30_code (6 : Nat) (Option.some Jvm.ClassFile.FieldType.int)) ∈ lw_all := lw_g (lw_at lw_m9 30 rfl) rfl
theorem q2022 : (Jvm.Cond.methodLink "TemplateEngineModel" (268 : Nat) ({ cls := "TemplateEngineModel", name := "takeTag", desc := "(III)I" } : Jvm.MethodName)) ∈ lw_all := lw_g (lw_at lw_m9 31 rfl) rfl
theorem q2023 : (Jvm.Cond.privateMethod ({ cls := "TemplateEngineModel", name := "takeTag", desc := "(III)I" } : Jvm.MethodName)) ∈ lw_tbl := lw_at lw_m9 32 rfl
theorem q2024 : (Jvm.Cond.instanceMethod ({ cls := "TemplateEngineModel", name := "takeTag", desc := "(III)I" } : Jvm.MethodName)) ∈ lw_all := lw_g (lw_at lw_m9 33 rfl) rfl
theorem q2025 : (Jvm.Cond.code ({ cls := "TemplateEngineModel", name := "takeTag", desc := "(III)I" } : Jvm.MethodName) prog_24_method_28_code (8 : Nat) (Option.some Jvm.ClassFile.FieldType.int)) ∈ lw_all := lw_g (lw_at lw_m9 34 rfl) rfl
theorem q2026 : (Jvm.Cond.constantLong "TemplateEngineModel" (256 : Nat) (31611 : Int64)) ∈ lw_all := lw_g (lw_at lw_m9 35 rfl) rfl
theorem q2027 : (Jvm.Cond.methodLink "TemplateEngineModel" (199 : Nat) ({ cls := "TemplateEngineModel", name := "stands", desc := "(IIJ)Z" } : Jvm.MethodName)) ∈ lw_all := lw_g (lw_at lw_m9 36 rfl) rfl
theorem q2028 : (Jvm.Cond.privateMethod ({ cls := "TemplateEngineModel", name := "stands", desc := "(IIJ)Z" } : Jvm.MethodName)) ∈ lw_tbl := lw_at lw_m9 37 rfl
theorem q2029 : (Jvm.Cond.instanceMethod ({ cls := "TemplateEngineModel", name := "stands", desc := "(IIJ)Z" } : Jvm.MethodName)) ∈ lw_all := lw_g (lw_at lw_m9 38 rfl) rfl
theorem q2030 : (Jvm.Cond.code ({ cls := "TemplateEngineModel", name := "stands", desc := "(IIJ)Z" } : Jvm.MethodName) prog_24_method_19_code (8 : Nat) (Option.some Jvm.ClassFile.FieldType.boolean)) ∈ lw_all := lw_g (lw_at lw_m9 39 rfl) rfl
theorem q2031 : (Jvm.Cond.constantLong "TemplateEngineModel" (192 : Nat) (255 : Int64)) ∈ lw_all := lw_g (lw_at lw_m9 40 rfl) rfl
theorem q2032 : (Jvm.Cond.methodLink "TemplateEngineModel" (194 : Nat) ({ cls := "TemplateEngineModel", name := "at0", desc := "(II)I" } : Jvm.MethodName)) ∈ lw_all := lw_g (lw_at lw_m9 41 rfl) rfl
theorem q2033 : (Jvm.Cond.privateMethod ({ cls := "TemplateEngineModel", name := "at0", desc := "(II)I" } : Jvm.MethodName)) ∈ lw_tbl := lw_at lw_m9 42 rfl
theorem q2034 : (Jvm.Cond.instanceMethod ({ cls := "TemplateEngineModel", name := "at0", desc := "(II)I" } : Jvm.MethodName)) ∈ lw_all := lw_g (lw_at lw_m9 43 rfl) rfl
theorem q2035 : (Jvm.Cond.code ({ cls := "TemplateEngineModel", name := "at0", desc := "(II)I" } : Jvm.MethodName) prog_24_method_18_code (3 : Nat) (Option.some Jvm.ClassFile.FieldType.int)) ∈ lw_all := lw_g (lw_at lw_m9 44 rfl) rfl
theorem q2036 : (Jvm.Cond.constantLong "TemplateEngineModel" (258 : Nat) (8092539 : Int64)) ∈ lw_all := lw_g (lw_at lw_m9 45 rfl) rfl
theorem q2037 : (Jvm.Cond.constantLong "TemplateEngineModel" (260 : Nat) (8224125 : Int64)) ∈ lw_all := lw_g (lw_at lw_m9 46 rfl) rfl
theorem q2038 : (Jvm.Cond.constantLong "TemplateEngineModel" (262 : Nat) (32125 : Int64)) ∈ lw_all := lw_g (lw_at lw_m9 47 rfl) rfl
theorem q2039 : (Jvm.Cond.methodLink "TemplateEngineModel" (264 : Nat) ({ cls := "TemplateEngineModel", name := "sortOf", desc := "(IIZ)I" } : Jvm.MethodName)) ∈ lw_all := lw_g (lw_at lw_m9 48 rfl) rfl
theorem q2040 : (Jvm.Cond.privateMethod ({ cls := "TemplateEngineModel", name := "sortOf", desc := "(IIZ)I" } : Jvm.MethodName)) ∈ lw_tbl := lw_at lw_m9 49 rfl
theorem q2041 : (Jvm.Cond.instanceMethod ({ cls := "TemplateEngineModel", name := "sortOf", desc := "(IIZ)I" } : Jvm.MethodName)) ∈ lw_all := lw_g (lw_at lw_m9 50 rfl) rfl
theorem q2042 : (Jvm.Cond.code ({ cls := "TemplateEngineModel", name := "sortOf", desc := "(IIZ)I" } : Jvm.MethodName) prog_24_method_27_code (4 : Nat) (Option.some Jvm.ClassFile.FieldType.int)) ∈ lw_all := lw_g (lw_at lw_m9 51 rfl) rfl
theorem q2043 : (Jvm.Cond.methodLink "TemplateEngineModel" (239 : Nat) ({ cls := "TemplateEngineModel", name := "isExpr", desc := "(II)Z" } : Jvm.MethodName)) ∈ lw_all := lw_g (lw_at lw_m9 52 rfl) rfl
theorem q2044 : (Jvm.Cond.privateMethod ({ cls := "TemplateEngineModel", name := "isExpr", desc := "(II)Z" } : Jvm.MethodName)) ∈ lw_tbl := lw_at lw_m9 53 rfl
theorem q2045 : (Jvm.Cond.instanceMethod ({ cls := "TemplateEngineModel", name := "isExpr", desc := "(II)Z" } : Jvm.MethodName)) ∈ lw_all := lw_g (lw_at lw_m9 54 rfl) rfl
theorem q2046 : (Jvm.Cond.code ({ cls := "TemplateEngineModel", name := "isExpr", desc := "(II)Z" } : Jvm.MethodName) prog_24_method_26_code (5 : Nat) (Option.some Jvm.ClassFile.FieldType.boolean)) ∈ lw_all := lw_g (lw_at lw_m9 55 rfl) rfl
theorem q2047 : (Jvm.Cond.methodLink "TemplateEngineModel" (230 : Nat) ({ cls := "TemplateEngineModel", name := "helper", desc := "(II)I" } : Jvm.MethodName)) ∈ lw_all := lw_g (lw_at lw_m9 56 rfl) rfl
theorem q2048 : (Jvm.Cond.privateMethod ({ cls := "TemplateEngineModel", name := "helper", desc := "(II)I" } : Jvm.MethodName)) ∈ lw_tbl := lw_at lw_m9 57 rfl
theorem q2049 : (Jvm.Cond.instanceMethod ({ cls := "TemplateEngineModel", name := "helper", desc := "(II)I" } : Jvm.MethodName)) ∈ lw_all := lw_g (lw_at lw_m9 58 rfl) rfl
theorem q2050 : (Jvm.Cond.code ({ cls := "TemplateEngineModel", name := "helper", desc := "(II)I" } : Jvm.MethodName) prog_24_method_24_code (3 : Nat) (Option.some Jvm.ClassFile.FieldType.int)) ∈ lw_all := lw_g (lw_at lw_m9 59 rfl) rfl
theorem q2051 : (Jvm.Cond.constantLong "TemplateEngineModel" (218 : Nat) (7696416 : Int64)) ∈ lw_all := lw_g (lw_at lw_m9 60 rfl) rfl
theorem q2052 : (Jvm.Cond.constantLong "TemplateEngineModel" (220 : Nat) (1818586656 : Int64)) ∈ lw_all := lw_g (lw_at lw_m9 61 rfl) rfl
theorem q2053 : (Jvm.Cond.constantLong "TemplateEngineModel" (222 : Nat) (1852797984 : Int64)) ∈ lw_all := lw_g (lw_at lw_m9 62 rfl) rfl
theorem q2054 : (Jvm.Cond.constantLong "TemplateEngineModel" (224 : Nat) (1633969184 : Int64)) ∈ lw_all := lw_g (lw_at lw_m9 63 rfl) rfl
theorem q2055 : (Jvm.Cond.constantLong "TemplateEngineModel" (226 : Nat) (6648096 : Int64)) ∈ lw_all := lw_g (lw_at lw_m9 64 rfl) rfl
theorem q2056 : (Jvm.Cond.constantLong "TemplateEngineModel" (228 : Nat) (6386720 : Int64)) ∈ lw_all := lw_g (lw_at lw_m9 65 rfl) rfl
theorem q2057 : (Jvm.Cond.methodLink "TemplateEngineModel" (233 : Nat) ({ cls := "TemplateEngineModel", name := "operandEnd", desc := "(II)I" } : Jvm.MethodName)) ∈ lw_all := lw_g (lw_at lw_m9 66 rfl) rfl
theorem q2058 : (Jvm.Cond.privateMethod ({ cls := "TemplateEngineModel", name := "operandEnd", desc := "(II)I" } : Jvm.MethodName)) ∈ lw_tbl := lw_at lw_m9 67 rfl
theorem q2059 : (Jvm.Cond.instanceMethod ({ cls := "TemplateEngineModel", name := "operandEnd", desc := "(II)I" } : Jvm.MethodName)) ∈ lw_all := lw_g (lw_at lw_m9 68 rfl) rfl
theorem q2060 : (Jvm.Cond.code ({ cls := "TemplateEngineModel", name := "operandEnd", desc := "(II)I" } : Jvm.MethodName) prog_24_method_23_code (5 : Nat) (Option.some Jvm.ClassFile.FieldType.int)) ∈ lw_all := lw_g (lw_at lw_m9 69 rfl) rfl
theorem q2061 : (Jvm.Cond.methodLink "TemplateEngineModel" (212 : Nat) ({ cls := "TemplateEngineModel", name := "digit", desc := "(I)Z" } : Jvm.MethodName)) ∈ lw_all := lw_g (lw_at lw_m9 70 rfl) rfl
theorem q2062 : (Jvm.Cond.privateMethod ({ cls := "TemplateEngineModel", name := "digit", desc := "(I)Z" } : Jvm.MethodName)) ∈ lw_tbl := lw_at lw_m9 71 rfl
theorem q2063 : (Jvm.Cond.instanceMethod ({ cls := "TemplateEngineModel", name := "digit", desc := "(I)Z" } : Jvm.MethodName)) ∈ lw_all := lw_g (lw_at lw_m9 72 rfl) rfl
theorem q2064 : (Jvm.Cond.code ({ cls := "TemplateEngineModel", name := "digit", desc := "(I)Z" } : Jvm.MethodName) prog_24_method_21_code (2 : Nat) (Option.some Jvm.ClassFile.FieldType.boolean)) ∈ lw_all := lw_g (lw_at lw_m9 73 rfl) rfl
theorem q2065 : (Jvm.Cond.methodLink "TemplateEngineModel" (215 : Nat) ({ cls := "TemplateEngineModel", name := "pathEnd", desc := "(II)I" } : Jvm.MethodName)) ∈ lw_all := lw_g (lw_at lw_m9 74 rfl) rfl
theorem q2066 : (Jvm.Cond.privateMethod ({ cls := "TemplateEngineModel", name := "pathEnd", desc := "(II)I" } : Jvm.MethodName)) ∈ lw_tbl := lw_at lw_m9 75 rfl
theorem q2067 : (Jvm.Cond.instanceMethod ({ cls := "TemplateEngineModel", name := "pathEnd", desc := "(II)I" } : Jvm.MethodName)) ∈ lw_all := lw_g (lw_at lw_m9 76 rfl) rfl
theorem q2068 : (Jvm.Cond.code ({ cls := "TemplateEngineModel", name := "pathEnd", desc := "(II)I" } : Jvm.MethodName) prog_24_method_22_code (5 : Nat) (Option.some Jvm.ClassFile.FieldType.int)) ∈ lw_all := lw_g (lw_at lw_m9 77 rfl) rfl
theorem q2069 : (Jvm.Cond.constantLong "TemplateEngineModel" (197 : Nat) (70821567817080 : Int64)) ∈ lw_all := lw_g (lw_at lw_m9 78 rfl) rfl
theorem q2070 : (Jvm.Cond.constantLong "TemplateEngineModel" (203 : Nat) (70808599950196 : Int64)) ∈ lw_all := lw_g (lw_at lw_m9 79 rfl) rfl
theorem q2071 : (Jvm.Cond.constantLong "TemplateEngineModel" (205 : Nat) (3026479 : Int64)) ∈ lw_all := lw_g (lw_at lw_m9 80 rfl) rfl
theorem q2072 : (Jvm.Cond.methodLink "TemplateEngineModel" (207 : Nat) ({ cls := "TemplateEngineModel", name := "letters", desc := "(II)I" } : Jvm.MethodName)) ∈ lw_all := lw_g (lw_at lw_m9 81 rfl) rfl
theorem q2073 : (Jvm.Cond.privateMethod ({ cls := "TemplateEngineModel", name := "letters", desc := "(II)I" } : Jvm.MethodName)) ∈ lw_tbl := lw_at lw_m9 82 rfl
theorem q2074 : (Jvm.Cond.instanceMethod ({ cls := "TemplateEngineModel", name := "letters", desc := "(II)I" } : Jvm.MethodName)) ∈ lw_all := lw_g (lw_at lw_m9 83 rfl) rfl
theorem q2075 : (Jvm.Cond.code ({ cls := "TemplateEngineModel", name := "letters", desc := "(II)I" } : Jvm.MethodName) prog_24_method_20_code (4 : Nat) (Option.some Jvm.ClassFile.FieldType.int)) ∈ lw_all := lw_g (lw_at lw_m9 84 rfl) rfl
theorem q2076 : (Jvm.Cond.constantLong "TemplateEngineModel" (210 : Nat) (1952999795 : Int64)) ∈ lw_all := lw_g (lw_at lw_m9 85 rfl) rfl
theorem q2077 : (Jvm.Cond.methodLink "TemplateEngineModel" (236 : Nat) ({ cls := "TemplateEngineModel", name := "nameSize", desc := "(I)I" } : Jvm.MethodName)) ∈ lw_all := lw_g (lw_at lw_m9 86 rfl) rfl
theorem q2078 : (Jvm.Cond.privateMethod ({ cls := "TemplateEngineModel", name := "nameSize", desc := "(I)I" } : Jvm.MethodName)) ∈ lw_tbl := lw_at lw_m9 87 rfl
theorem q2079 : (Jvm.Cond.instanceMethod ({ cls := "TemplateEngineModel", name := "nameSize", desc := "(I)I" } : Jvm.MethodName)) ∈ lw_all := lw_g (lw_at lw_m9 88 rfl) rfl
theorem q2080 : (Jvm.Cond.code ({ cls := "TemplateEngineModel", name := "nameSize", desc := "(I)I" } : Jvm.MethodName) prog_24_method_25_code (2 : Nat) (Option.some Jvm.ClassFile.FieldType.int)) ∈ lw_all := lw_g (lw_at lw_m9 89 rfl) rfl
theorem q2081 : (Jvm.Cond.constantLong "TemplateEngineModel" (242 : Nat) (594109984 : Int64)) ∈ lw_all := lw_g (lw_at lw_m9 90 rfl) rfl
theorem q2082 : (Jvm.Cond.constantLong "TemplateEngineModel" (244 : Nat) (2550551843551838208 : Int64)) ∈ lw_all := lw_g (lw_at lw_m9 91 rfl) rfl
theorem q2083 : (Jvm.Cond.constantLong "TemplateEngineModel" (246 : Nat) (2555627262240096256 : Int64)) ∈ lw_all := lw_g (lw_at lw_m9 92 rfl) rfl
theorem q2084 : (Jvm.Cond.constantLong "TemplateEngineModel" (248 : Nat) (1701606245 : Int64)) ∈ lw_all := lw_g (lw_at lw_m9 93 rfl) rfl
theorem q2085 : (Jvm.Cond.constantLong "TemplateEngineModel" (250 : Nat) (3107174 : Int64)) ∈ lw_all := lw_g (lw_at lw_m9 94 rfl) rfl
theorem q2086 : (Jvm.Cond.constantLong "TemplateEngineModel" (252 : Nat) (203564344168 : Int64)) ∈ lw_all := lw_g (lw_at lw_m9 95 rfl) rfl
theorem q2087 : (Jvm.Cond.constantLong "TemplateEngineModel" (254 : Nat) (203866862696 : Int64)) ∈ lw_all := lw_g (lw_at lw_m9 96 rfl) rfl
theorem q2088 : (Jvm.Cond.methodLink "TemplateEngineModel" (272 : Nat) ({ cls := "TemplateEngineModel", name := "fit", desc := "(II)I" } : Jvm.MethodName)) ∈ lw_all := lw_g (lw_at lw_m9 97 rfl) rfl
theorem q2089 : (Jvm.Cond.privateMethod ({ cls := "TemplateEngineModel", name := "fit", desc := "(II)I" } : Jvm.MethodName)) ∈ lw_tbl := lw_at lw_m9 98 rfl
theorem q2090 : (Jvm.Cond.instanceMethod ({ cls := "TemplateEngineModel", name := "fit", desc := "(II)I" } : Jvm.MethodName)) ∈ lw_all := lw_g (lw_at lw_m9 99 rfl) rfl
theorem q2091 : (Jvm.Cond.code ({ cls := "TemplateEngineModel", name := "fit", desc := "(II)I" } : Jvm.MethodName) prog_24_method_29_code (5 : Nat) (Option.some Jvm.ClassFile.FieldType.int)) ∈ lw_all := lw_g (lw_at lw_m9 100 rfl) rfl
theorem q2092 : (Jvm.Cond.methodLink "TemplateEngineModel" (279 : Nat) ({ cls := "TemplateEngineModel", name := "moved", desc := "(II)I" } : Jvm.MethodName)) ∈ lw_all := lw_g (lw_at lw_m9 101 rfl) rfl
theorem q2093 : (Jvm.Cond.privateMethod ({ cls := "TemplateEngineModel", name := "moved", desc := "(II)I" } : Jvm.MethodName)) ∈ lw_tbl := lw_at lw_m9 102 rfl
theorem q2094 : (Jvm.Cond.instanceMethod ({ cls := "TemplateEngineModel", name := "moved", desc := "(II)I" } : Jvm.MethodName)) ∈ lw_all := lw_g (lw_at lw_m9 103 rfl) rfl
theorem q2095 : (Jvm.Cond.code ({ cls := "TemplateEngineModel", name := "moved", desc := "(II)I" } : Jvm.MethodName) prog_24_method_31_code (3 : Nat) (Option.some Jvm.ClassFile.FieldType.int)) ∈ lw_all := lw_g (lw_at lw_m9 104 rfl) rfl
theorem q2097 : (Jvm.Cond.instanceMethod ({ cls := "TemplateEngineModel", name := "errorAt", desc := "()I" } : Jvm.MethodName)) ∈ lw_all := lw_g (lw_at lw_m9 106 rfl) rfl
theorem q2098 : (Jvm.Cond.selects "TemplateEngineModel" ({ cls := "TemplateEngineModel", name := "errorAt", desc := "()I" } : Jvm.MethodName) ({ cls := "TemplateEngineModel", name := "errorAt", desc := "()I" } : Jvm.MethodName)) ∈ lw_all := lw_g (lw_at lw_m9 107 rfl) rfl
theorem q2099 : (Jvm.Cond.code ({ cls := "TemplateEngineModel", name := "errorAt", desc := "()I" } : Jvm.MethodName) prog_24_method_33_code (1 : Nat) (Option.some Jvm.ClassFile.FieldType.int)) ∈ lw_all := lw_g (lw_at lw_m9 108 rfl) rfl
theorem q2101 : (Jvm.Cond.instanceMethod ({ cls := "TemplateEngineModel", name := "render", desc := "(II)I" } : Jvm.MethodName)) ∈ lw_all := lw_g (lw_at lw_m9 110 rfl) rfl
theorem q2102 : (Jvm.Cond.selects "TemplateEngineModel" ({ cls := "TemplateEngineModel", name := "render", desc := "(II)I" } : Jvm.MethodName) ({ cls := "TemplateEngineModel", name := "render", desc := "(II)I" } : Jvm.MethodName)) ∈ lw_all := lw_g (lw_at lw_m9 111 rfl) rfl
theorem q2103 : (Jvm.Cond.code ({ cls := "TemplateEngineModel", name := "render", desc := "(II)I" } : Jvm.MethodName) prog_24_method_67_code (4 : Nat) (Option.some Jvm.ClassFile.FieldType.int)) ∈ lw_all := lw_g (lw_at lw_m9 112 rfl) rfl
theorem q2104 : (Jvm.Cond.methodLink "TemplateEngineModel" (313 : Nat) ({ cls := "TemplateEngineModel", name := "load", desc := "(II)V" } : Jvm.MethodName)) ∈ lw_all := lw_g (lw_at lw_m9 113 rfl) rfl
theorem q2105 : (Jvm.Cond.privateMethod ({ cls := "TemplateEngineModel", name := "load", desc := "(II)V" } : Jvm.MethodName)) ∈ lw_tbl := lw_at lw_m9 114 rfl
theorem q2106 : (Jvm.Cond.instanceMethod ({ cls := "TemplateEngineModel", name := "load", desc := "(II)V" } : Jvm.MethodName)) ∈ lw_all := lw_g (lw_at lw_m9 115 rfl) rfl
theorem q2107 : (Jvm.Cond.code ({ cls := "TemplateEngineModel", name := "load", desc := "(II)V" } : Jvm.MethodName) prog_24_method_37_code (4 : Nat) (Option.none : Option Jvm.ClassFile.FieldType)) ∈ lw_all := lw_g (lw_at lw_m9 116 rfl) rfl
theorem q2108 : (Jvm.Cond.methodLink "TemplateEngineModel" (282 : Nat) ({ cls := "TemplateEngineModel", name := "dataLetter", desc := "(II)I" } : Jvm.MethodName)) ∈ lw_all := lw_g (lw_at lw_m9 117 rfl) rfl
theorem q2109 : (Jvm.Cond.privateMethod ({ cls := "TemplateEngineModel", name := "dataLetter", desc := "(II)I" } : Jvm.MethodName)) ∈ lw_tbl := lw_at lw_m9 118 rfl
theorem q2110 : (Jvm.Cond.instanceMethod ({ cls := "TemplateEngineModel", name := "dataLetter", desc := "(II)I" } : Jvm.MethodName)) ∈ lw_all := lw_g (lw_at lw_m9 119 rfl) rfl
theorem q2111 : (Jvm.Cond.code ({ cls := "TemplateEngineModel", name := "dataLetter", desc := "(II)I" } : Jvm.MethodName) prog_24_method_36_code (3 : Nat) (Option.some Jvm.ClassFile.FieldType.int)) ∈ lw_all := lw_g (lw_at lw_m9 120 rfl) rfl
theorem q2112 : (Jvm.Cond.methodLink "TemplateEngineModel" (399 : Nat) ({ cls := "TemplateEngineModel", name := "go", desc := "(I)V" } : Jvm.MethodName)) ∈ lw_all := lw_g (lw_at lw_m9 121 rfl) rfl
theorem q2113 : (Jvm.Cond.privateMethod ({ cls := "TemplateEngineModel", name := "go", desc := "(I)V" } : Jvm.MethodName)) ∈ lw_tbl := lw_at lw_m9 122 rfl
theorem q2114 : (Jvm.Cond.instanceMethod ({ cls := "TemplateEngineModel", name := "go", desc := "(I)V" } : Jvm.MethodName)) ∈ lw_all := lw_g (lw_at lw_m9 123 rfl) rfl
theorem q2115 : (Jvm.Cond.code ({ cls := "TemplateEngineModel", name := "go", desc := "(I)V" } : Jvm.MethodName) prog_24_method_66_code (6 : Nat) (Option.none : Option Jvm.ClassFile.FieldType)) ∈ lw_all := lw_g (lw_at lw_m9 124 rfl) rfl
theorem q2116 : (Jvm.Cond.methodLink "TemplateEngineModel" (390 : Nat) ({ cls := "TemplateEngineModel", name := "here", desc := "(I)I" } : Jvm.MethodName)) ∈ lw_all := lw_g (lw_at lw_m9 125 rfl) rfl
theorem q2117 : (Jvm.Cond.privateMethod ({ cls := "TemplateEngineModel", name := "here", desc := "(I)I" } : Jvm.MethodName)) ∈ lw_tbl := lw_at lw_m9 126 rfl
theorem q2118 : (Jvm.Cond.instanceMethod ({ cls := "TemplateEngineModel", name := "here", desc := "(I)I" } : Jvm.MethodName)) ∈ lw_all := lw_g (lw_at lw_m9 127 rfl) rfl
theorem q2119 : (Jvm.Cond.code ({ cls := "TemplateEngineModel", name := "here", desc := "(I)I" } : Jvm.MethodName) prog_24_method_63_code (3 : Nat) (Option.some Jvm.ClassFile.FieldType.int)) ∈ lw_all := lw_g (lw_at lw_m9 128 rfl) rfl
theorem q2120 : (Jvm.Cond.methodLink "TemplateEngineModel" (393 : Nat) ({ cls := "TemplateEngineModel", name := "tagFrom", desc := "(II)I" } : Jvm.MethodName)) ∈ lw_all := lw_g (lw_at lw_m9 129 rfl) rfl
theorem q2121 : (Jvm.Cond.privateMethod ({ cls := "TemplateEngineModel", name := "tagFrom", desc := "(II)I" } : Jvm.MethodName)) ∈ lw_tbl := lw_at lw_m9 130 rfl
theorem q2122 : (Jvm.Cond.instanceMethod ({ cls := "TemplateEngineModel", name := "tagFrom", desc := "(II)I" } : Jvm.MethodName)) ∈ lw_all := lw_g (lw_at lw_m9 131 rfl) rfl
theorem q2123 : (Jvm.Cond.code ({ cls := "TemplateEngineModel", name := "tagFrom", desc := "(II)I" } : Jvm.MethodName) prog_24_method_65_code (4 : Nat) (Option.some Jvm.ClassFile.FieldType.int)) ∈ lw_all := lw_g (lw_at lw_m9 132 rfl) rfl
theorem q2124 : (Jvm.Cond.methodLink "TemplateEngineModel" (349 : Nat) ({ cls := "TemplateEngineModel", name := "emit", desc := "(I)V" } : Jvm.MethodName)) ∈ lw_all := lw_g (lw_at lw_m9 133 rfl) rfl
theorem q2125 : (Jvm.Cond.privateMethod ({ cls := "TemplateEngineModel", name := "emit", desc := "(I)V" } : Jvm.MethodName)) ∈ lw_tbl := lw_at lw_m9 134 rfl
theorem q2126 : (Jvm.Cond.instanceMethod ({ cls := "TemplateEngineModel", name := "emit", desc := "(I)V" } : Jvm.MethodName)) ∈ lw_all := lw_g (lw_at lw_m9 135 rfl) rfl
theorem q2127 : (Jvm.Cond.code ({ cls := "TemplateEngineModel", name := "emit", desc := "(I)V" } : Jvm.MethodName) prog_24_method_54_code (2 : Nat) (Option.none : Option Jvm.ClassFile.FieldType)) ∈ lw_all := lw_g (lw_at lw_m9 136 rfl) rfl
theorem q2128 : (Jvm.Cond.methodLink "TemplateEngineModel" (396 : Nat) ({ cls := "TemplateEngineModel", name := "tag", desc := "(I)I" } : Jvm.MethodName)) ∈ lw_all := lw_g (lw_at lw_m9 137 rfl) rfl
theorem q2129 : (Jvm.Cond.privateMethod ({ cls := "TemplateEngineModel", name := "tag", desc := "(I)I" } : Jvm.MethodName)) ∈ lw_tbl := lw_at lw_m9 138 rfl
theorem q2130 : (Jvm.Cond.instanceMethod ({ cls := "TemplateEngineModel", name := "tag", desc := "(I)I" } : Jvm.MethodName)) ∈ lw_all := lw_g (lw_at lw_m9 139 rfl) rfl
theorem q2131 : (Jvm.Cond.code ({ cls := "TemplateEngineModel", name := "tag", desc := "(I)I" } : Jvm.MethodName) prog_24_method_64_code (3 : Nat) (Option.some Jvm.ClassFile.FieldType.int)) ∈ lw_all := lw_g (lw_at lw_m9 140 rfl) rfl
theorem q2132 : (Jvm.Cond.methodLink "TemplateEngineModel" (374 : Nat) ({ cls := "TemplateEngineModel", name := "ends", desc := "(I)I" } : Jvm.MethodName)) ∈ lw_all := lw_g (lw_at lw_m9 141 rfl) rfl
theorem q2133 : (Jvm.Cond.privateMethod ({ cls := "TemplateEngineModel", name := "ends", desc := "(I)I" } : Jvm.MethodName)) ∈ lw_tbl := lw_at lw_m9 142 rfl
theorem q2134 : (Jvm.Cond.instanceMethod ({ cls := "TemplateEngineModel", name := "ends", desc := "(I)I" } : Jvm.MethodName)) ∈ lw_all := lw_g (lw_at lw_m9 143 rfl) rfl
theorem q2135 : (Jvm.Cond.code ({ cls := "TemplateEngineModel", name := "ends", desc := "(I)I" } : Jvm.MethodName) prog_24_method_60_code (5 : Nat) (Option.some Jvm.ClassFile.FieldType.int)) ∈ lw_all := lw_g (lw_at lw_m9 144 rfl) rfl
theorem q2136 : (Jvm.Cond.methodLink "TemplateEngineModel" (371 : Nat) ({ cls := "TemplateEngineModel", name := "nextTurn", desc := "(I)Z" } : Jvm.MethodName)) ∈ lw_all := lw_g (lw_at lw_m9 145 rfl) rfl
theorem q2137 : (Jvm.Cond.privateMethod ({ cls := "TemplateEngineModel", name := "nextTurn", desc := "(I)Z" } : Jvm.MethodName)) ∈ lw_tbl := lw_at lw_m9 146 rfl
theorem q2138 : (Jvm.Cond.instanceMethod ({ cls := "TemplateEngineModel", name := "nextTurn", desc := "(I)Z" } : Jvm.MethodName)) ∈ lw_all := lw_g (lw_at lw_m9 147 rfl) rfl
theorem q2139 : (Jvm.Cond.code ({ cls := "TemplateEngineModel", name := "nextTurn", desc := "(I)Z" } : Jvm.MethodName) prog_24_method_58_code (3 : Nat) (Option.some Jvm.ClassFile.FieldType.boolean)) ∈ lw_all := lw_g (lw_at lw_m9 148 rfl) rfl
theorem q2140 : (Jvm.Cond.methodLink "TemplateEngineModel" (377 : Nat) ({ cls := "TemplateEngineModel", name := "block", desc := "(I)I" } : Jvm.MethodName)) ∈ lw_all := lw_g (lw_at lw_m9 149 rfl) rfl
theorem q2141 : (Jvm.Cond.privateMethod ({ cls := "TemplateEngineModel", name := "block", desc := "(I)I" } : Jvm.MethodName)) ∈ lw_tbl := lw_at lw_m9 150 rfl
theorem q2142 : (Jvm.Cond.instanceMethod ({ cls := "TemplateEngineModel", name := "block", desc := "(I)I" } : Jvm.MethodName)) ∈ lw_all := lw_g (lw_at lw_m9 151 rfl) rfl
theorem q2143 : (Jvm.Cond.code ({ cls := "TemplateEngineModel", name := "block", desc := "(I)I" } : Jvm.MethodName) prog_24_method_59_code (4 : Nat) (Option.some Jvm.ClassFile.FieldType.int)) ∈ lw_all := lw_g (lw_at lw_m9 152 rfl) rfl
theorem q2144 : (Jvm.Cond.methodLink "TemplateEngineModel" (364 : Nat) ({ cls := "TemplateEngineModel", name := "expr", desc := "(II)V" } : Jvm.MethodName)) ∈ lw_all := lw_g (lw_at lw_m9 153 rfl) rfl
theorem q2145 : (Jvm.Cond.privateMethod ({ cls := "TemplateEngineModel", name := "expr", desc := "(II)V" } : Jvm.MethodName)) ∈ lw_tbl := lw_at lw_m9 154 rfl
theorem q2146 : (Jvm.Cond.instanceMethod ({ cls := "TemplateEngineModel", name := "expr", desc := "(II)V" } : Jvm.MethodName)) ∈ lw_all := lw_g (lw_at lw_m9 155 rfl) rfl
theorem q2147 : (Jvm.Cond.code ({ cls := "TemplateEngineModel", name := "expr", desc := "(II)V" } : Jvm.MethodName) prog_24_method_53_code (6 : Nat) (Option.none : Option Jvm.ClassFile.FieldType)) ∈ lw_all := lw_g (lw_at lw_m9 156 rfl) rfl
theorem q2148 : (Jvm.Cond.methodLink "TemplateEngineModel" (336 : Nat) ({ cls := "TemplateEngineModel", name := "operand", desc := "(III)V" } : Jvm.MethodName)) ∈ lw_all := lw_g (lw_at lw_m9 157 rfl) rfl
theorem q2149 : (Jvm.Cond.privateMethod ({ cls := "TemplateEngineModel", name := "operand", desc := "(III)V" } : Jvm.MethodName)) ∈ lw_tbl := lw_at lw_m9 158 rfl
theorem q2150 : (Jvm.Cond.instanceMethod ({ cls := "TemplateEngineModel", name := "operand", desc := "(III)V" } : Jvm.MethodName)) ∈ lw_all := lw_g (lw_at lw_m9 159 rfl) rfl
theorem q2151 : (Jvm.Cond.code ({ cls := "TemplateEngineModel", name := "operand", desc := "(III)V" } : Jvm.MethodName) prog_24_method_50_code (6 : Nat) (Option.none : Option Jvm.ClassFile.FieldType)) ∈ lw_all := lw_g (lw_at lw_m9 160 rfl) rfl
theorem q2152 : (Jvm.Cond.methodLink "TemplateEngineModel" (320 : Nat) ({ cls := "TemplateEngineModel", name := "setNumber", desc := "(II)V" } : Jvm.MethodName)) ∈ lw_all := lw_g (lw_at lw_m9 161 rfl) rfl
theorem q2153 : (Jvm.Cond.privateMethod ({ cls := "TemplateEngineModel", name := "setNumber", desc := "(II)V" } : Jvm.MethodName)) ∈ lw_tbl := lw_at lw_m9 162 rfl
theorem q2154 : (Jvm.Cond.instanceMethod ({ cls := "TemplateEngineModel", name := "setNumber", desc := "(II)V" } : Jvm.MethodName)) ∈ lw_all := lw_g (lw_at lw_m9 163 rfl) rfl
theorem q2155 : (Jvm.Cond.code ({ cls := "TemplateEngineModel", name := "setNumber", desc := "(II)V" } : Jvm.MethodName) prog_24_method_35_code (3 : Nat) (Option.none : Option Jvm.ClassFile.FieldType)) ∈ lw_all := lw_g (lw_at lw_m9 164 rfl) rfl
theorem q2156 : (Jvm.Cond.methodLink "TemplateEngineModel" (333 : Nat) ({ cls := "TemplateEngineModel", name := "path", desc := "(III)V" } : Jvm.MethodName)) ∈ lw_all := lw_g (lw_at lw_m9 165 rfl) rfl
theorem q2157 : (Jvm.Cond.privateMethod ({ cls := "TemplateEngineModel", name := "path", desc := "(III)V" } : Jvm.MethodName)) ∈ lw_tbl := lw_at lw_m9 166 rfl
theorem q2158 : (Jvm.Cond.instanceMethod ({ cls := "TemplateEngineModel", name := "path", desc := "(III)V" } : Jvm.MethodName)) ∈ lw_all := lw_g (lw_at lw_m9 167 rfl) rfl
theorem q2159 : (Jvm.Cond.code ({ cls := "TemplateEngineModel", name := "path", desc := "(III)V" } : Jvm.MethodName) prog_24_method_49_code (7 : Nat) (Option.none : Option Jvm.ClassFile.FieldType)) ∈ lw_all := lw_g (lw_at lw_m9 168 rfl) rfl
theorem q2160 : (Jvm.Cond.methodLink "TemplateEngineModel" (317 : Nat) ({ cls := "TemplateEngineModel", name := "loop", desc := "()I" } : Jvm.MethodName)) ∈ lw_all := lw_g (lw_at lw_m9 169 rfl) rfl
theorem q2161 : (Jvm.Cond.privateMethod ({ cls := "TemplateEngineModel", name := "loop", desc := "()I" } : Jvm.MethodName)) ∈ lw_tbl := lw_at lw_m9 170 rfl
theorem q2162 : (Jvm.Cond.instanceMethod ({ cls := "TemplateEngineModel", name := "loop", desc := "()I" } : Jvm.MethodName)) ∈ lw_all := lw_g (lw_at lw_m9 171 rfl) rfl
theorem q2163 : (Jvm.Cond.code ({ cls := "TemplateEngineModel", name := "loop", desc := "()I" } : Jvm.MethodName) prog_24_method_48_code (2 : Nat) (Option.some Jvm.ClassFile.FieldType.int)) ∈ lw_all := lw_g (lw_at lw_m9 172 rfl) rfl
theorem q2164 : (Jvm.Cond.methodLink "TemplateEngineModel" (310 : Nat) ({ cls := "TemplateEngineModel", name := "nothing", desc := "(I)V" } : Jvm.MethodName)) ∈ lw_all := lw_g (lw_at lw_m9 173 rfl) rfl
theorem q2165 : (Jvm.Cond.privateMethod ({ cls := "TemplateEngineModel", name := "nothing", desc := "(I)V" } : Jvm.MethodName)) ∈ lw_tbl := lw_at lw_m9 174 rfl
theorem q2166 : (Jvm.Cond.instanceMethod ({ cls := "TemplateEngineModel", name := "nothing", desc := "(I)V" } : Jvm.MethodName)) ∈ lw_all := lw_g (lw_at lw_m9 175 rfl) rfl
theorem q2167 : (Jvm.Cond.code ({ cls := "TemplateEngineModel", name := "nothing", desc := "(I)V" } : Jvm.MethodName) prog_24_method_34_code (2 : Nat) (Option.none : Option Jvm.ClassFile.FieldType)) ∈ lw_all := lw_g (lw_at lw_m9 176 rfl) rfl
theorem q2168 : (Jvm.Cond.methodLink "TemplateEngineModel" (323 : Nat) ({ cls := "TemplateEngineModel", name := "copy", desc := "(II)V" } : Jvm.MethodName)) ∈ lw_all := lw_g (lw_at lw_m9 177 rfl) rfl
theorem q2169 : (Jvm.Cond.privateMethod ({ cls := "TemplateEngineModel", name := "copy", desc := "(II)V" } : Jvm.MethodName)) ∈ lw_tbl := lw_at lw_m9 178 rfl
theorem q2170 : (Jvm.Cond.instanceMethod ({ cls := "TemplateEngineModel", name := "copy", desc := "(II)V" } : Jvm.MethodName)) ∈ lw_all := lw_g (lw_at lw_m9 179 rfl) rfl
theorem q2171 : (Jvm.Cond.code ({ cls := "TemplateEngineModel", name := "copy", desc := "(II)V" } : Jvm.MethodName) prog_24_method_38_code (4 : Nat) (Option.none : Option Jvm.ClassFile.FieldType)) ∈ lw_all := lw_g (lw_at lw_m9 180 rfl) rfl
theorem q2172 : (Jvm.Cond.methodLink "TemplateEngineModel" (326 : Nat) ({ cls := "TemplateEngineModel", name := "member", desc := "(III)V" } : Jvm.MethodName)) ∈ lw_all := lw_g (lw_at lw_m9 181 rfl) rfl
theorem q2173 : (Jvm.Cond.privateMethod ({ cls := "TemplateEngineModel", name := "member", desc := "(III)V" } : Jvm.MethodName)) ∈ lw_tbl := lw_at lw_m9 182 rfl
theorem q2174 : (Jvm.Cond.instanceMethod ({ cls := "TemplateEngineModel", name := "member", desc := "(III)V" } : Jvm.MethodName)) ∈ lw_all := lw_g (lw_at lw_m9 183 rfl) rfl
theorem q2175 : (Jvm.Cond.code ({ cls := "TemplateEngineModel", name := "member", desc := "(III)V" } : Jvm.MethodName) prog_24_method_47_code (7 : Nat) (Option.none : Option Jvm.ClassFile.FieldType)) ∈ lw_all := lw_g (lw_at lw_m9 184 rfl) rfl
theorem q2176 : (Jvm.Cond.methodLink "TemplateEngineModel" (330 : Nat) ({ cls := "TemplateEngineModel", name := "element", desc := "(II)V" } : Jvm.MethodName)) ∈ lw_all := lw_g (lw_at lw_m9 185 rfl) rfl
theorem q2177 : (Jvm.Cond.privateMethod ({ cls := "TemplateEngineModel", name := "element", desc := "(II)V" } : Jvm.MethodName)) ∈ lw_tbl := lw_at lw_m9 186 rfl
theorem q2178 : (Jvm.Cond.instanceMethod ({ cls := "TemplateEngineModel", name := "element", desc := "(II)V" } : Jvm.MethodName)) ∈ lw_all := lw_g (lw_at lw_m9 187 rfl) rfl
theorem q2179 : (Jvm.Cond.code ({ cls := "TemplateEngineModel", name := "element", desc := "(II)V" } : Jvm.MethodName) prog_24_method_46_code (3 : Nat) (Option.none : Option Jvm.ClassFile.FieldType)) ∈ lw_all := lw_g (lw_at lw_m9 188 rfl) rfl
theorem q2180 : (Jvm.Cond.methodLink "TemplateEngineModel" (339 : Nat) ({ cls := "TemplateEngineModel", name := "upper", desc := "()V" } : Jvm.MethodName)) ∈ lw_all := lw_g (lw_at lw_m9 189 rfl) rfl
theorem q2181 : (Jvm.Cond.privateMethod ({ cls := "TemplateEngineModel", name := "upper", desc := "()V" } : Jvm.MethodName)) ∈ lw_tbl := lw_at lw_m9 190 rfl
theorem q2182 : (Jvm.Cond.instanceMethod ({ cls := "TemplateEngineModel", name := "upper", desc := "()V" } : Jvm.MethodName)) ∈ lw_all := lw_g (lw_at lw_m9 191 rfl) rfl
theorem q2183 : (Jvm.Cond.code ({ cls := "TemplateEngineModel", name := "upper", desc := "()V" } : Jvm.MethodName) prog_24_method_51_code (2 : Nat) (Option.none : Option Jvm.ClassFile.FieldType)) ∈ lw_all := lw_g (lw_at lw_m9 192 rfl) rfl
theorem q2184 : (Jvm.Cond.methodLink "TemplateEngineModel" (304 : Nat) ({ cls := "TemplateEngineModel", name := "showRaw", desc := "(I)V" } : Jvm.MethodName)) ∈ lw_all := lw_g (lw_at lw_m9 193 rfl) rfl
theorem q2185 : (Jvm.Cond.privateMethod ({ cls := "TemplateEngineModel", name := "showRaw", desc := "(I)V" } : Jvm.MethodName)) ∈ lw_tbl := lw_at lw_m9 194 rfl
theorem q2186 : (Jvm.Cond.instanceMethod ({ cls := "TemplateEngineModel", name := "showRaw", desc := "(I)V" } : Jvm.MethodName)) ∈ lw_all := lw_g (lw_at lw_m9 195 rfl) rfl
theorem q2187 : (Jvm.Cond.code ({ cls := "TemplateEngineModel", name := "showRaw", desc := "(I)V" } : Jvm.MethodName) prog_24_method_43_code (5 : Nat) (Option.none : Option Jvm.ClassFile.FieldType)) ∈ lw_all := lw_g (lw_at lw_m9 196 rfl) rfl
theorem q2188 : (Jvm.Cond.methodLink "TemplateEngineModel" (295 : Nat) ({ cls := "TemplateEngineModel", name := "rawNumber", desc := "(I)V" } : Jvm.MethodName)) ∈ lw_all := lw_g (lw_at lw_m9 197 rfl) rfl
theorem q2189 : (Jvm.Cond.privateMethod ({ cls := "TemplateEngineModel", name := "rawNumber", desc := "(I)V" } : Jvm.MethodName)) ∈ lw_tbl := lw_at lw_m9 198 rfl
theorem q2190 : (Jvm.Cond.instanceMethod ({ cls := "TemplateEngineModel", name := "rawNumber", desc := "(I)V" } : Jvm.MethodName)) ∈ lw_all := lw_g (lw_at lw_m9 199 rfl) rfl
theorem q2191 : (Jvm.Cond.code ({ cls := "TemplateEngineModel", name := "rawNumber", desc := "(I)V" } : Jvm.MethodName) prog_24_method_40_code (6 : Nat) (Option.none : Option Jvm.ClassFile.FieldType)) ∈ lw_all := lw_g (lw_at lw_m9 200 rfl) rfl
theorem q2192 : (Jvm.Cond.methodLink "TemplateEngineModel" (285 : Nat) ({ cls := "TemplateEngineModel", name := "rawPut", desc := "(I)V" } : Jvm.MethodName)) ∈ lw_all := lw_g (lw_at lw_m9 201 rfl) rfl
theorem q2193 : (Jvm.Cond.privateMethod ({ cls := "TemplateEngineModel", name := "rawPut", desc := "(I)V" } : Jvm.MethodName)) ∈ lw_tbl := lw_at lw_m9 202 rfl
theorem q2194 : (Jvm.Cond.instanceMethod ({ cls := "TemplateEngineModel", name := "rawPut", desc := "(I)V" } : Jvm.MethodName)) ∈ lw_all := lw_g (lw_at lw_m9 203 rfl) rfl
theorem q2195 : (Jvm.Cond.code ({ cls := "TemplateEngineModel", name := "rawPut", desc := "(I)V" } : Jvm.MethodName) prog_24_method_39_code (2 : Nat) (Option.none : Option Jvm.ClassFile.FieldType)) ∈ lw_all := lw_g (lw_at lw_m9 204 rfl) rfl
theorem q2196 : (Jvm.Cond.constantLong "TemplateEngineModel" (289 : Nat) (9 : Int64)) ∈ lw_all := lw_g (lw_at lw_m9 205 rfl) rfl
theorem q2197 : (Jvm.Cond.constantLong "TemplateEngineModel" (291 : Nat) (10 : Int64)) ∈ lw_all := lw_g (lw_at lw_m9 206 rfl) rfl
theorem q2198 : (Jvm.Cond.constantLong "TemplateEngineModel" (293 : Nat) (48 : Int64)) ∈ lw_all := lw_g (lw_at lw_m9 207 rfl) rfl
theorem q2199 : (Jvm.Cond.methodLink "TemplateEngineModel" (301 : Nat) ({ cls := "TemplateEngineModel", name := "rawData", desc := "(I)V" } : Jvm.MethodName)) ∈ lw_all := lw_g (lw_at lw_m9 208 rfl) rfl
theorem q2200 : (Jvm.Cond.privateMethod ({ cls := "TemplateEngineModel", name := "rawData", desc := "(I)V" } : Jvm.MethodName)) ∈ lw_tbl := lw_at lw_m9 209 rfl
theorem q2201 : (Jvm.Cond.instanceMethod ({ cls := "TemplateEngineModel", name := "rawData", desc := "(I)V" } : Jvm.MethodName)) ∈ lw_all := lw_g (lw_at lw_m9 210 rfl) rfl
theorem q2202 : (Jvm.Cond.code ({ cls := "TemplateEngineModel", name := "rawData", desc := "(I)V" } : Jvm.MethodName) prog_24_method_42_code (3 : Nat) (Option.none : Option Jvm.ClassFile.FieldType)) ∈ lw_all := lw_g (lw_at lw_m9 211 rfl) rfl
theorem q2203 : (Jvm.Cond.methodLink "TemplateEngineModel" (298 : Nat) ({ cls := "TemplateEngineModel", name := "rawMap", desc := "()V" } : Jvm.MethodName)) ∈ lw_all := lw_g (lw_at lw_m9 212 rfl) rfl
theorem q2204 : (Jvm.Cond.privateMethod ({ cls := "TemplateEngineModel", name := "rawMap", desc := "()V" } : Jvm.MethodName)) ∈ lw_tbl := lw_at lw_m9 213 rfl
theorem q2205 : (Jvm.Cond.instanceMethod ({ cls := "TemplateEngineModel", name := "rawMap", desc := "()V" } : Jvm.MethodName)) ∈ lw_all := lw_g (lw_at lw_m9 214 rfl) rfl
theorem q2206 : (Jvm.Cond.code ({ cls := "TemplateEngineModel", name := "rawMap", desc := "()V" } : Jvm.MethodName) prog_24_method_41_code (1 : Nat) (Option.none : Option Jvm.ClassFile.FieldType)) ∈ lw_all := lw_g (lw_at lw_m9 215 rfl) rfl
theorem q2207 : (Jvm.Cond.methodLink "TemplateEngineModel" (307 : Nat) ({ cls := "TemplateEngineModel", name := "lengthOf", desc := "(I)I" } : Jvm.MethodName)) ∈ lw_all := lw_g (lw_at lw_m9 216 rfl) rfl
theorem q2208 : (Jvm.Cond.privateMethod ({ cls := "TemplateEngineModel", name := "lengthOf", desc := "(I)I" } : Jvm.MethodName)) ∈ lw_tbl := lw_at lw_m9 217 rfl
theorem q2209 : (Jvm.Cond.instanceMethod ({ cls := "TemplateEngineModel", name := "lengthOf", desc := "(I)I" } : Jvm.MethodName)) ∈ lw_all := lw_g (lw_at lw_m9 218 rfl) rfl
theorem q2210 : (Jvm.Cond.code ({ cls := "TemplateEngineModel", name := "lengthOf", desc := "(I)I" } : Jvm.MethodName) prog_24_method_44_code (2 : Nat) (Option.some Jvm.ClassFile.FieldType.int)) ∈ lw_all := lw_g (lw_at lw_m9 219 rfl) rfl
theorem q2211 : (Jvm.Cond.methodLink "TemplateEngineModel" (342 : Nat) ({ cls := "TemplateEngineModel", name := "isFalse", desc := "(I)Z" } : Jvm.MethodName)) ∈ lw_all := lw_g (lw_at lw_m9 220 rfl) rfl
theorem q2212 : (Jvm.Cond.privateMethod ({ cls := "TemplateEngineModel", name := "isFalse", desc := "(I)Z" } : Jvm.MethodName)) ∈ lw_tbl := lw_at lw_m9 221 rfl
theorem q2213 : (Jvm.Cond.instanceMethod ({ cls := "TemplateEngineModel", name := "isFalse", desc := "(I)Z" } : Jvm.MethodName)) ∈ lw_all := lw_g (lw_at lw_m9 222 rfl) rfl
theorem q2214 : (Jvm.Cond.code ({ cls := "TemplateEngineModel", name := "isFalse", desc := "(I)Z" } : Jvm.MethodName) prog_24_method_45_code (2 : Nat) (Option.some Jvm.ClassFile.FieldType.boolean)) ∈ lw_all := lw_g (lw_at lw_m9 223 rfl) rfl
theorem q2215 : (Jvm.Cond.methodLink "TemplateEngineModel" (345 : Nat) ({ cls := "TemplateEngineModel", name := "alike", desc := "()Z" } : Jvm.MethodName)) ∈ lw_all := lw_g (lw_at lw_m9 224 rfl) rfl
theorem q2216 : (Jvm.Cond.privateMethod ({ cls := "TemplateEngineModel", name := "alike", desc := "()Z" } : Jvm.MethodName)) ∈ lw_tbl := lw_at lw_m9 225 rfl
theorem q2217 : (Jvm.Cond.instanceMethod ({ cls := "TemplateEngineModel", name := "alike", desc := "()Z" } : Jvm.MethodName)) ∈ lw_all := lw_g (lw_at lw_m9 226 rfl) rfl
theorem q2218 : (Jvm.Cond.code ({ cls := "TemplateEngineModel", name := "alike", desc := "()Z" } : Jvm.MethodName) prog_24_method_52_code (3 : Nat) (Option.some Jvm.ClassFile.FieldType.boolean)) ∈ lw_all := lw_g (lw_at lw_m9 227 rfl) rfl
theorem q2219 : (Jvm.Cond.methodLink "TemplateEngineModel" (367 : Nat) ({ cls := "TemplateEngineModel", name := "push", desc := "(IIZZ)V" } : Jvm.MethodName)) ∈ lw_all := lw_g (lw_at lw_m9 228 rfl) rfl
theorem q2220 : (Jvm.Cond.privateMethod ({ cls := "TemplateEngineModel", name := "push", desc := "(IIZZ)V" } : Jvm.MethodName)) ∈ lw_tbl := lw_at lw_m9 229 rfl
theorem q2221 : (Jvm.Cond.instanceMethod ({ cls := "TemplateEngineModel", name := "push", desc := "(IIZZ)V" } : Jvm.MethodName)) ∈ lw_all := lw_g (lw_at lw_m9 230 rfl) rfl
theorem q2222 : (Jvm.Cond.code ({ cls := "TemplateEngineModel", name := "push", desc := "(IIZZ)V" } : Jvm.MethodName) prog_24_method_57_code (5 : Nat) (Option.none : Option Jvm.ClassFile.FieldType)) ∈ lw_all := lw_g (lw_at lw_m9 231 rfl) rfl
theorem q2223 : (Jvm.Cond.methodLink "TemplateEngineModel" (380 : Nat) ({ cls := "TemplateEngineModel", name := "underTemplates", desc := "()I" } : Jvm.MethodName)) ∈ lw_all := lw_g (lw_at lw_m9 232 rfl) rfl
theorem q2224 : (Jvm.Cond.privateMethod ({ cls := "TemplateEngineModel", name := "underTemplates", desc := "()I" } : Jvm.MethodName)) ∈ lw_tbl := lw_at lw_m9 233 rfl
theorem q2225 : (Jvm.Cond.instanceMethod ({ cls := "TemplateEngineModel", name := "underTemplates", desc := "()I" } : Jvm.MethodName)) ∈ lw_all := lw_g (lw_at lw_m9 234 rfl) rfl
theorem q2226 : (Jvm.Cond.code ({ cls := "TemplateEngineModel", name := "underTemplates", desc := "()I" } : Jvm.MethodName) prog_24_method_62_code (3 : Nat) (Option.some Jvm.ClassFile.FieldType.int)) ∈ lw_all := lw_g (lw_at lw_m9 235 rfl) rfl
theorem q2227 : (Jvm.Cond.methodLink "TemplateEngineModel" (383 : Nat) ({ cls := "TemplateEngineModel", name := "partial", desc := "(II)I" } : Jvm.MethodName)) ∈ lw_all := lw_g (lw_at lw_m9 236 rfl) rfl
theorem q2228 : (Jvm.Cond.privateMethod ({ cls := "TemplateEngineModel", name := "partial", desc := "(II)I" } : Jvm.MethodName)) ∈ lw_tbl := lw_at lw_m9 237 rfl
theorem q2229 : (Jvm.Cond.instanceMethod ({ cls := "TemplateEngineModel", name := "partial", desc := "(II)I" } : Jvm.MethodName)) ∈ lw_all := lw_g (lw_at lw_m9 238 rfl) rfl
theorem q2230 : (Jvm.Cond.code ({ cls := "TemplateEngineModel", name := "partial", desc := "(II)I" } : Jvm.MethodName) prog_24_method_61_code (4 : Nat) (Option.some Jvm.ClassFile.FieldType.int)) ∈ lw_all := lw_g (lw_at lw_m9 239 rfl) rfl
theorem q2231 : (Jvm.Cond.methodLink "TemplateEngineModel" (386 : Nat) ({ cls := "TemplateEngineModel", name := "show", desc := "(Z)V" } : Jvm.MethodName)) ∈ lw_all := lw_g (lw_at lw_m10 0 rfl) rfl
theorem q2232 : (Jvm.Cond.privateMethod ({ cls := "TemplateEngineModel", name := "show", desc := "(Z)V" } : Jvm.MethodName)) ∈ lw_tbl := lw_at lw_m10 1 rfl
theorem q2233 : (Jvm.Cond.instanceMethod ({ cls := "TemplateEngineModel", name := "show", desc := "(Z)V" } : Jvm.MethodName)) ∈ lw_all := lw_g (lw_at lw_m10 2 rfl) rfl
theorem q2234 : (Jvm.Cond.code ({ cls := "TemplateEngineModel", name := "show", desc := "(Z)V" } : Jvm.MethodName) prog_24_method_56_code (4 : Nat) (Option.none : Option Jvm.ClassFile.FieldType)) ∈ lw_all := lw_g (lw_at lw_m10 3 rfl) rfl
theorem q2235 : (Jvm.Cond.constantLong "TemplateEngineModel" (352 : Nat) (164843319355 : Int64)) ∈ lw_all := lw_g (lw_at lw_m10 4 rfl) rfl
theorem q2236 : (Jvm.Cond.constantLong "TemplateEngineModel" (354 : Nat) (644641851 : Int64)) ∈ lw_all := lw_g (lw_at lw_m10 5 rfl) rfl
theorem q2237 : (Jvm.Cond.constantLong "TemplateEngineModel" (356 : Nat) (644314171 : Int64)) ∈ lw_all := lw_g (lw_at lw_m10 6 rfl) rfl
theorem q2238 : (Jvm.Cond.constantLong "TemplateEngineModel" (358 : Nat) (42268743398459 : Int64)) ∈ lw_all := lw_g (lw_at lw_m10 7 rfl) rfl
theorem q2239 : (Jvm.Cond.methodLink "TemplateEngineModel" (360 : Nat) ({ cls := "TemplateEngineModel", name := "emitWord", desc := "(J)V" } : Jvm.MethodName)) ∈ lw_all := lw_g (lw_at lw_m10 8 rfl) rfl
theorem q2240 : (Jvm.Cond.privateMethod ({ cls := "TemplateEngineModel", name := "emitWord", desc := "(J)V" } : Jvm.MethodName)) ∈ lw_tbl := lw_at lw_m10 9 rfl
theorem q2241 : (Jvm.Cond.instanceMethod ({ cls := "TemplateEngineModel", name := "emitWord", desc := "(J)V" } : Jvm.MethodName)) ∈ lw_all := lw_g (lw_at lw_m10 10 rfl) rfl
theorem q2242 : (Jvm.Cond.code ({ cls := "TemplateEngineModel", name := "emitWord", desc := "(J)V" } : Jvm.MethodName) prog_24_method_55_code (4 : Nat) (Option.none : Option Jvm.ClassFile.FieldType)) ∈ lw_all := lw_g (lw_at lw_m10 11 rfl) rfl
theorem q2244 : (Jvm.Cond.instanceMethod ({ cls := "TemplateEngineModel", name := "at", desc := "(I)I" } : Jvm.MethodName)) ∈ lw_all := lw_g (lw_at lw_m10 13 rfl) rfl
theorem q2245 : (Jvm.Cond.selects "TemplateEngineModel" ({ cls := "TemplateEngineModel", name := "at", desc := "(I)I" } : Jvm.MethodName) ({ cls := "TemplateEngineModel", name := "at", desc := "(I)I" } : Jvm.MethodName)) ∈ lw_all := lw_g (lw_at lw_m10 14 rfl) rfl
theorem q2246 : (Jvm.Cond.code ({ cls := "TemplateEngineModel", name := "at", desc := "(I)I" } : Jvm.MethodName) prog_24_method_68_code (2 : Nat) (Option.some Jvm.ClassFile.FieldType.int)) ∈ lw_all := lw_g (lw_at lw_m10 15 rfl) rfl
theorem q2248 : (Jvm.Cond.instanceMethod ({ cls := "TemplateEngineModel", name := "kind", desc := "(I)I" } : Jvm.MethodName)) ∈ lw_all := lw_g (lw_at lw_m10 17 rfl) rfl
theorem q2249 : (Jvm.Cond.selects "TemplateEngineModel" ({ cls := "TemplateEngineModel", name := "kind", desc := "(I)I" } : Jvm.MethodName) ({ cls := "TemplateEngineModel", name := "kind", desc := "(I)I" } : Jvm.MethodName)) ∈ lw_all := lw_g (lw_at lw_m10 18 rfl) rfl
theorem q2250 : (Jvm.Cond.code ({ cls := "TemplateEngineModel", name := "kind", desc := "(I)I" } : Jvm.MethodName) prog_24_method_69_code (2 : Nat) (Option.some Jvm.ClassFile.FieldType.int)) ∈ lw_all := lw_g (lw_at lw_m10 19 rfl) rfl
theorem q2252 : (Jvm.Cond.instanceMethod ({ cls := "TemplateEngineModel", name := "size", desc := "(I)I" } : Jvm.MethodName)) ∈ lw_all := lw_g (lw_at lw_m10 21 rfl) rfl
theorem q2253 : (Jvm.Cond.selects "TemplateEngineModel" ({ cls := "TemplateEngineModel", name := "size", desc := "(I)I" } : Jvm.MethodName) ({ cls := "TemplateEngineModel", name := "size", desc := "(I)I" } : Jvm.MethodName)) ∈ lw_all := lw_g (lw_at lw_m10 22 rfl) rfl
theorem q2254 : (Jvm.Cond.code ({ cls := "TemplateEngineModel", name := "size", desc := "(I)I" } : Jvm.MethodName) prog_24_method_70_code (2 : Nat) (Option.some Jvm.ClassFile.FieldType.int)) ∈ lw_all := lw_g (lw_at lw_m10 23 rfl) rfl
theorem q2256 : (Jvm.Cond.instanceMethod ({ cls := "TemplateEngineModel", name := "count", desc := "(I)I" } : Jvm.MethodName)) ∈ lw_all := lw_g (lw_at lw_m10 25 rfl) rfl
theorem q2257 : (Jvm.Cond.selects "TemplateEngineModel" ({ cls := "TemplateEngineModel", name := "count", desc := "(I)I" } : Jvm.MethodName) ({ cls := "TemplateEngineModel", name := "count", desc := "(I)I" } : Jvm.MethodName)) ∈ lw_all := lw_g (lw_at lw_m10 26 rfl) rfl
theorem q2258 : (Jvm.Cond.code ({ cls := "TemplateEngineModel", name := "count", desc := "(I)I" } : Jvm.MethodName) prog_24_method_71_code (4 : Nat) (Option.some Jvm.ClassFile.FieldType.int)) ∈ lw_all := lw_g (lw_at lw_m10 27 rfl) rfl
theorem q2293 : (Jvm.Cond.castable "TemplateEngineModel" "java/lang/Object") ∈ lw_tbl := lw_at lw_m10 62 rfl
theorem in_X3 : ∀ w ∈ wsX30, w ∈ lw_all := lw_in wsX30 [1847, 1849, 1851, 1853, 1855, 1857, 1859, 1861, 1863, 1865, 1867, 1869, 1871, 1873, 1875, 1877, 1879, 1881, 1883, 1885, 1887, 1889, 1891, 1893, 1895, 1897, 1899, 1901, 1903, 1905, 1907, 1909, 1911, 1913, 1915, 1917, 1919, 1921, 1923, 1925, 1927, 1929, 1931, 1933, 1935, 1937, 1939, 1941] (by decide +kernel) (by decide +kernel)
