/-! ReflectMirrorModel -/
set_option maxRecDepth 100000
def RX7 : String := "ReflectMirrorModel"
def TX7 : u_T := fun k => match k with
  | 0 => ("ReflectMirrorModel", "types", "I", false)
  | 1 => ("ReflectMirrorModel", "sort", "[I", true)
  | 2 => ("ReflectMirrorModel", "parent", "[I", true)
  | 3 => ("ReflectMirrorModel", "pack", "[I", true)
  | 4 => ("ReflectMirrorModel", "itemOf", "[I", true)
  | 5 => ("ReflectMirrorModel", "rowsOf", "[I", true)
  | 6 => ("ReflectMirrorModel", "faceMany", "[I", true)
  | 7 => ("ReflectMirrorModel", "faces", "[I", true)
  | 8 => ("ReflectMirrorModel", "isA", "[Z", true)
  | 9 => ("ReflectMirrorModel", "ancestors", "[I", true)
  | 10 => ("ReflectMirrorModel", "ancestorMany", "[I", true)
  | 11 => ("ReflectMirrorModel", "members", "I", false)
  | 12 => ("ReflectMirrorModel", "fields", "I", false)
  | 13 => ("ReflectMirrorModel", "owner", "[I", true)
  | 14 => ("ReflectMirrorModel", "name", "[I", true)
  | 15 => ("ReflectMirrorModel", "marks", "[I", true)
  | 16 => ("ReflectMirrorModel", "isField", "[Z", true)
  | 17 => ("ReflectMirrorModel", "of", "[I", true)
  | 18 => ("ReflectMirrorModel", "paramMany", "[I", true)
  | 19 => ("ReflectMirrorModel", "params", "[I", true)
  | 20 => ("ReflectMirrorModel", "isOpen", "[Z", true)
  | 21 => ("ReflectMirrorModel", "isTold", "[Z", true)
  | 22 => ("ReflectMirrorModel", "bodyKind", "[I", true)
  | 23 => ("ReflectMirrorModel", "bodyX", "[I", true)
  | 24 => ("ReflectMirrorModel", "bodyY", "[I", true)
  | 25 => ("ReflectMirrorModel", "above", "[I", true)
  | 26 => ("ReflectMirrorModel", "common", "[J", true)
  | 27 => ("ReflectMirrorModel", "things", "I", false)
  | 28 => ("ReflectMirrorModel", "typeOf", "[I", true)
  | 29 => ("ReflectMirrorModel", "itemMany", "[I", true)
  | 30 => ("ReflectMirrorModel", "values", "[J", true)
  | 31 => ("ReflectMirrorModel", "items", "[J", true)
  | 32 => ("ReflectMirrorModel", "slotKind", "[I", true)
  | 33 => ("ReflectMirrorModel", "slotBits", "[J", true)
  | 34 => ("ReflectMirrorModel", "caller", "I", false)
  | 35 => ("ReflectMirrorModel", "begunEver", "I", false)
  | 36 => ("ReflectMirrorModel", "causes", "I", false)
  | 37 => ("ReflectMirrorModel", "causeKind", "I", false)
  | 38 => ("ReflectMirrorModel", "causeMethod", "I", false)
  | 39 => ("ReflectMirrorModel", "causeDepth", "I", false)
  | 40 => ("ReflectMirrorModel", "ahead", "[I", true)
  | 41 => ("ReflectMirrorModel", "aheadMany", "I", false)
  | 42 => ("ReflectMirrorModel", "seen", "[Z", true)
  | 43 => ("ReflectMirrorModel", "middle", "[J", true)
  | 44 => ("ReflectMirrorModel", "comes", "I", false)
  | 45 => ("ReflectMirrorModel", "open", "I", false)
  | 46 => ("ReflectMirrorModel", "openMethod", "[I", true)
  | 47 => ("ReflectMirrorModel", "argument", "[J", true)
  | 48 => ("ReflectMirrorModel", "self", "I", false)
  | 49 => ("ReflectMirrorModel", "cameType", "I", false)
  | 50 => ("ReflectMirrorModel", "came", "J", false)
  | _ => ("ReflectMirrorModel", "failure", "I", false)
def tyX7 : Nat → FieldType := fun k => match k with
  | 0 => .int
  | 1 => .array .int
  | 2 => .array .int
  | 3 => .array .int
  | 4 => .array .int
  | 5 => .array .int
  | 6 => .array .int
  | 7 => .array .int
  | 8 => .array .boolean
  | 9 => .array .int
  | 10 => .array .int
  | 11 => .int
  | 12 => .int
  | 13 => .array .int
  | 14 => .array .int
  | 15 => .array .int
  | 16 => .array .boolean
  | 17 => .array .int
  | 18 => .array .int
  | 19 => .array .int
  | 20 => .array .boolean
  | 21 => .array .boolean
  | 22 => .array .int
  | 23 => .array .int
  | 24 => .array .int
  | 25 => .array .int
  | 26 => .array .long
  | 27 => .int
  | 28 => .array .int
  | 29 => .array .int
  | 30 => .array .long
  | 31 => .array .long
  | 32 => .array .int
  | 33 => .array .long
  | 34 => .int
  | 35 => .int
  | 36 => .int
  | 37 => .int
  | 38 => .int
  | 39 => .int
  | 40 => .array .int
  | 41 => .int
  | 42 => .array .boolean
  | 43 => .array .long
  | 44 => .int
  | 45 => .int
  | 46 => .array .int
  | 47 => .array .long
  | 48 => .int
  | 49 => .int
  | 50 => .long
  | _ => .int
abbrev wsX70 : List Cond := u_ws RX7 TX7 52
set_option maxRecDepth 100000 in
theorem nmX7 : ∀ a, a < 52 → ∀ b, b < 52 → a ≠ b → (TX7 a).2.1 ≠ (TX7 b).2.1 := by decide +kernel
set_option maxRecDepth 100000 in
theorem tyX7_ok : ∀ k, k < 52 → parseFieldDescriptor (TX7 k).2.2.1 = some (tyX7 k) := by decide +kernel
abbrev cX7_init : ByteArray := prog_30_method_1_code
def yX7_init : MethodName := ⟨RX7, "<init>", "()V"⟩
def dkwX7_init_15 : List UInt8 := [42, 180, 0, 100, 27, 7, 79, 132, 1, 1, 167, 255, 240, 42, 182, 0, 124, 177]
abbrev dktX7_init_15 : List UInt8 := dkwX7_init_15 ++ []
def dkwX7_init_14 : List UInt8 := [2, 79, 132, 1, 1, 167, 255, 226, 42, 180, 0, 13, 16, 8, 4, 79, 3, 60, 27, 16, 8, 162, 0, 16]
abbrev dktX7_init_14 : List UInt8 := dkwX7_init_14 ++ dktX7_init_15
def dkwX7_init_13 : List UInt8 := [16, 60, 162, 0, 30, 42, 180, 0, 17, 27, 2, 79, 42, 180, 0, 23, 27, 2, 79, 42, 180, 0, 26, 27]
abbrev dktX7_init_13 : List UInt8 := dkwX7_init_13 ++ dktX7_init_14
def dkwX7_init_12 : List UInt8 := [188, 11, 181, 0, 115, 42, 16, 14, 188, 10, 181, 0, 118, 42, 16, 42, 188, 11, 181, 0, 121, 3, 60, 27]
abbrev dktX7_init_12 : List UInt8 := dkwX7_init_12 ++ dktX7_init_13
def dkwX7_init_11 : List UInt8 := [181, 0, 106, 42, 17, 0, 248, 188, 10, 181, 0, 109, 42, 16, 60, 188, 4, 181, 0, 112, 42, 16, 20]
abbrev dktX7_init_11 : List UInt8 := dkwX7_init_11 ++ dktX7_init_12
def dkwX7_init_10 : List UInt8 := [181, 0, 97, 42, 16, 8, 188, 10, 181, 0, 100, 42, 16, 8, 188, 11, 181, 0, 103, 42, 16, 8]
abbrev dktX7_init_10 : List UInt8 := dkwX7_init_10 ++ dktX7_init_11
def dkwX7_init_9 : List UInt8 := [42, 16, 80, 188, 10, 181, 0, 91, 42, 17, 31, 64, 188, 11, 181, 0, 94, 42, 17, 6, 64, 188, 11]
abbrev dktX7_init_9 : List UInt8 := dkwX7_init_9 ++ dktX7_init_10
def dkwX7_init_8 : List UInt8 := [42, 16, 100, 188, 10, 181, 0, 81, 42, 16, 100, 188, 11, 181, 0, 84, 42, 16, 80, 188, 10, 181, 0, 88]
abbrev dktX7_init_8 : List UInt8 := dkwX7_init_8 ++ dktX7_init_9
def dkwX7_init_7 : List UInt8 := [42, 16, 100, 188, 10, 181, 0, 72, 42, 16, 100, 188, 10, 181, 0, 75, 42, 16, 100, 188, 10, 181, 0, 78]
abbrev dktX7_init_7 : List UInt8 := dkwX7_init_7 ++ dktX7_init_8
def dkwX7_init_6 : List UInt8 := [17, 1, 44, 188, 10, 181, 0, 63, 42, 16, 100, 188, 4, 181, 0, 66, 42, 16, 100, 188, 4, 181, 0, 69]
abbrev dktX7_init_6 : List UInt8 := dkwX7_init_6 ++ dktX7_init_7
def dkwX7_init_5 : List UInt8 := [16, 100, 188, 4, 181, 0, 54, 42, 16, 100, 188, 10, 181, 0, 57, 42, 16, 100, 188, 10, 181, 0, 60, 42]
abbrev dktX7_init_5 : List UInt8 := dkwX7_init_5 ++ dktX7_init_6
def dkwX7_init_4 : List UInt8 := [16, 100, 188, 10, 181, 0, 45, 42, 16, 100, 188, 10, 181, 0, 48, 42, 16, 100, 188, 10, 181, 0, 51, 42]
abbrev dktX7_init_4 : List UInt8 := dkwX7_init_4 ++ dktX7_init_5
def dkwX7_init_3 : List UInt8 := [188, 4, 181, 0, 35, 42, 17, 14, 16, 188, 10, 181, 0, 39, 42, 16, 60, 188, 10, 181, 0, 42, 42]
abbrev dktX7_init_3 : List UInt8 := dkwX7_init_3 ++ dktX7_init_4
def dkwX7_init_2 : List UInt8 := [181, 0, 26, 42, 16, 60, 188, 10, 181, 0, 29, 42, 17, 0, 180, 188, 10, 181, 0, 32, 42, 17, 14, 16]
abbrev dktX7_init_2 : List UInt8 := dkwX7_init_2 ++ dktX7_init_3
def dkwX7_init_1 : List UInt8 := [181, 0, 17, 42, 16, 60, 188, 10, 181, 0, 20, 42, 16, 60, 188, 10, 181, 0, 23, 42, 16, 60, 188, 10]
abbrev dktX7_init_1 : List UInt8 := dkwX7_init_1 ++ dktX7_init_2
def dkwX7_init_0 : List UInt8 := [42, 183, 0, 1, 42, 16, 9, 181, 0, 7, 42, 16, 60, 188, 10, 181, 0, 13, 42, 16, 60, 188, 10]
abbrev dktX7_init_0 : List UInt8 := dkwX7_init_0 ++ dktX7_init_1
theorem dksX7_init_0 : cX7_init.data.toList.drop 0 = dktX7_init_0 := by decide +kernel
theorem dksX7_init_1 : cX7_init.data.toList.drop 23 = dktX7_init_1 := dk_seg dksX7_init_0 23 rfl rfl
theorem dksX7_init_2 : cX7_init.data.toList.drop 47 = dktX7_init_2 := dk_seg dksX7_init_1 24 rfl rfl
theorem dksX7_init_3 : cX7_init.data.toList.drop 71 = dktX7_init_3 := dk_seg dksX7_init_2 24 rfl rfl
theorem dksX7_init_4 : cX7_init.data.toList.drop 94 = dktX7_init_4 := dk_seg dksX7_init_3 23 rfl rfl
theorem dksX7_init_5 : cX7_init.data.toList.drop 118 = dktX7_init_5 := dk_seg dksX7_init_4 24 rfl rfl
theorem dksX7_init_6 : cX7_init.data.toList.drop 142 = dktX7_init_6 := dk_seg dksX7_init_5 24 rfl rfl
theorem dksX7_init_7 : cX7_init.data.toList.drop 166 = dktX7_init_7 := dk_seg dksX7_init_6 24 rfl rfl
theorem dksX7_init_8 : cX7_init.data.toList.drop 190 = dktX7_init_8 := dk_seg dksX7_init_7 24 rfl rfl
theorem dksX7_init_9 : cX7_init.data.toList.drop 214 = dktX7_init_9 := dk_seg dksX7_init_8 24 rfl rfl
theorem dksX7_init_10 : cX7_init.data.toList.drop 237 = dktX7_init_10 := dk_seg dksX7_init_9 23 rfl rfl
theorem dksX7_init_11 : cX7_init.data.toList.drop 259 = dktX7_init_11 := dk_seg dksX7_init_10 22 rfl rfl
theorem dksX7_init_12 : cX7_init.data.toList.drop 282 = dktX7_init_12 := dk_seg dksX7_init_11 23 rfl rfl
theorem dksX7_init_13 : cX7_init.data.toList.drop 306 = dktX7_init_13 := dk_seg dksX7_init_12 24 rfl rfl
theorem dksX7_init_14 : cX7_init.data.toList.drop 330 = dktX7_init_14 := dk_seg dksX7_init_13 24 rfl rfl
theorem dksX7_init_15 : cX7_init.data.toList.drop 354 = dktX7_init_15 := dk_seg dksX7_init_14 24 rfl rfl
theorem dX7_init_0 : decode cX7_init 0 = .ok (.aload_n 0, 1) := dk_42 (dk_at dksX7_init_0 0 rfl rfl)
theorem dX7_init_1 : decode cX7_init 1 = .ok (.invokespecial 1, 3) := dk_183 0 1 (dk_at dksX7_init_0 1 rfl rfl)
theorem dX7_init_4 : decode cX7_init 4 = .ok (.aload_n 0, 1) := dk_42 (dk_at dksX7_init_0 4 rfl rfl)
theorem dX7_init_5 : decode cX7_init 5 = .ok (.bipush 9, 2) := dk_16 9 (dk_at dksX7_init_0 5 rfl rfl)
theorem dX7_init_7 : decode cX7_init 7 = .ok (.putfield 7, 3) := dk_181 0 7 (dk_at dksX7_init_0 7 rfl rfl)
theorem dX7_init_10 : decode cX7_init 10 = .ok (.aload_n 0, 1) := dk_42 (dk_at dksX7_init_0 10 rfl rfl)
theorem dX7_init_11 : decode cX7_init 11 = .ok (.bipush 60, 2) := dk_16 60 (dk_at dksX7_init_0 11 rfl rfl)
theorem dX7_init_13 : decode cX7_init 13 = .ok (.newarray .int, 2) := dk_188_10 (dk_at dksX7_init_0 13 rfl rfl)
theorem dX7_init_15 : decode cX7_init 15 = .ok (.putfield 13, 3) := dk_181 0 13 (dk_at dksX7_init_0 15 rfl rfl)
theorem dX7_init_18 : decode cX7_init 18 = .ok (.aload_n 0, 1) := dk_42 (dk_at dksX7_init_0 18 rfl rfl)
theorem dX7_init_19 : decode cX7_init 19 = .ok (.bipush 60, 2) := dk_16 60 (dk_at dksX7_init_0 19 rfl rfl)
theorem dX7_init_21 : decode cX7_init 21 = .ok (.newarray .int, 2) := dk_188_10 (dk_at dksX7_init_0 21 rfl rfl)
theorem dX7_init_23 : decode cX7_init 23 = .ok (.putfield 17, 3) := dk_181 0 17 (dk_at dksX7_init_1 0 rfl rfl)
theorem dX7_init_26 : decode cX7_init 26 = .ok (.aload_n 0, 1) := dk_42 (dk_at dksX7_init_1 3 rfl rfl)
theorem dX7_init_27 : decode cX7_init 27 = .ok (.bipush 60, 2) := dk_16 60 (dk_at dksX7_init_1 4 rfl rfl)
theorem dX7_init_29 : decode cX7_init 29 = .ok (.newarray .int, 2) := dk_188_10 (dk_at dksX7_init_1 6 rfl rfl)
theorem dX7_init_31 : decode cX7_init 31 = .ok (.putfield 20, 3) := dk_181 0 20 (dk_at dksX7_init_1 8 rfl rfl)
theorem dX7_init_34 : decode cX7_init 34 = .ok (.aload_n 0, 1) := dk_42 (dk_at dksX7_init_1 11 rfl rfl)
theorem dX7_init_35 : decode cX7_init 35 = .ok (.bipush 60, 2) := dk_16 60 (dk_at dksX7_init_1 12 rfl rfl)
theorem dX7_init_37 : decode cX7_init 37 = .ok (.newarray .int, 2) := dk_188_10 (dk_at dksX7_init_1 14 rfl rfl)
theorem dX7_init_39 : decode cX7_init 39 = .ok (.putfield 23, 3) := dk_181 0 23 (dk_at dksX7_init_1 16 rfl rfl)
theorem dX7_init_42 : decode cX7_init 42 = .ok (.aload_n 0, 1) := dk_42 (dk_at dksX7_init_1 19 rfl rfl)
theorem dX7_init_43 : decode cX7_init 43 = .ok (.bipush 60, 2) := dk_16 60 (dk_at dksX7_init_1 20 rfl rfl)
theorem dX7_init_45 : decode cX7_init 45 = .ok (.newarray .int, 2) := dk_188_10 (dk_at dksX7_init_1 22 rfl rfl)
theorem dX7_init_47 : decode cX7_init 47 = .ok (.putfield 26, 3) := dk_181 0 26 (dk_at dksX7_init_2 0 rfl rfl)
theorem dX7_init_50 : decode cX7_init 50 = .ok (.aload_n 0, 1) := dk_42 (dk_at dksX7_init_2 3 rfl rfl)
theorem dX7_init_51 : decode cX7_init 51 = .ok (.bipush 60, 2) := dk_16 60 (dk_at dksX7_init_2 4 rfl rfl)
theorem dX7_init_53 : decode cX7_init 53 = .ok (.newarray .int, 2) := dk_188_10 (dk_at dksX7_init_2 6 rfl rfl)
theorem dX7_init_55 : decode cX7_init 55 = .ok (.putfield 29, 3) := dk_181 0 29 (dk_at dksX7_init_2 8 rfl rfl)
theorem dX7_init_58 : decode cX7_init 58 = .ok (.aload_n 0, 1) := dk_42 (dk_at dksX7_init_2 11 rfl rfl)
theorem dX7_init_59 : decode cX7_init 59 = .ok (.sipush 180, 3) := dk_17 0 180 (dk_at dksX7_init_2 12 rfl rfl)
theorem dX7_init_62 : decode cX7_init 62 = .ok (.newarray .int, 2) := dk_188_10 (dk_at dksX7_init_2 15 rfl rfl)
theorem dX7_init_64 : decode cX7_init 64 = .ok (.putfield 32, 3) := dk_181 0 32 (dk_at dksX7_init_2 17 rfl rfl)
theorem dX7_init_67 : decode cX7_init 67 = .ok (.aload_n 0, 1) := dk_42 (dk_at dksX7_init_2 20 rfl rfl)
theorem dX7_init_68 : decode cX7_init 68 = .ok (.sipush 3600, 3) := dk_17 14 16 (dk_at dksX7_init_2 21 rfl rfl)
theorem dX7_init_71 : decode cX7_init 71 = .ok (.newarray .boolean, 2) := dk_188_4 (dk_at dksX7_init_3 0 rfl rfl)
theorem dX7_init_73 : decode cX7_init 73 = .ok (.putfield 35, 3) := dk_181 0 35 (dk_at dksX7_init_3 2 rfl rfl)
theorem dX7_init_76 : decode cX7_init 76 = .ok (.aload_n 0, 1) := dk_42 (dk_at dksX7_init_3 5 rfl rfl)
theorem dX7_init_77 : decode cX7_init 77 = .ok (.sipush 3600, 3) := dk_17 14 16 (dk_at dksX7_init_3 6 rfl rfl)
theorem dX7_init_80 : decode cX7_init 80 = .ok (.newarray .int, 2) := dk_188_10 (dk_at dksX7_init_3 9 rfl rfl)
theorem dX7_init_82 : decode cX7_init 82 = .ok (.putfield 39, 3) := dk_181 0 39 (dk_at dksX7_init_3 11 rfl rfl)
theorem dX7_init_85 : decode cX7_init 85 = .ok (.aload_n 0, 1) := dk_42 (dk_at dksX7_init_3 14 rfl rfl)
theorem dX7_init_86 : decode cX7_init 86 = .ok (.bipush 60, 2) := dk_16 60 (dk_at dksX7_init_3 15 rfl rfl)
theorem dX7_init_88 : decode cX7_init 88 = .ok (.newarray .int, 2) := dk_188_10 (dk_at dksX7_init_3 17 rfl rfl)
theorem dX7_init_90 : decode cX7_init 90 = .ok (.putfield 42, 3) := dk_181 0 42 (dk_at dksX7_init_3 19 rfl rfl)
theorem dX7_init_93 : decode cX7_init 93 = .ok (.aload_n 0, 1) := dk_42 (dk_at dksX7_init_3 22 rfl rfl)
theorem dX7_init_94 : decode cX7_init 94 = .ok (.bipush 100, 2) := dk_16 100 (dk_at dksX7_init_4 0 rfl rfl)
theorem dX7_init_96 : decode cX7_init 96 = .ok (.newarray .int, 2) := dk_188_10 (dk_at dksX7_init_4 2 rfl rfl)
theorem dX7_init_98 : decode cX7_init 98 = .ok (.putfield 45, 3) := dk_181 0 45 (dk_at dksX7_init_4 4 rfl rfl)
theorem dX7_init_101 : decode cX7_init 101 = .ok (.aload_n 0, 1) := dk_42 (dk_at dksX7_init_4 7 rfl rfl)
theorem dX7_init_102 : decode cX7_init 102 = .ok (.bipush 100, 2) := dk_16 100 (dk_at dksX7_init_4 8 rfl rfl)
theorem dX7_init_104 : decode cX7_init 104 = .ok (.newarray .int, 2) := dk_188_10 (dk_at dksX7_init_4 10 rfl rfl)
theorem dX7_init_106 : decode cX7_init 106 = .ok (.putfield 48, 3) := dk_181 0 48 (dk_at dksX7_init_4 12 rfl rfl)
theorem dX7_init_109 : decode cX7_init 109 = .ok (.aload_n 0, 1) := dk_42 (dk_at dksX7_init_4 15 rfl rfl)
theorem dX7_init_110 : decode cX7_init 110 = .ok (.bipush 100, 2) := dk_16 100 (dk_at dksX7_init_4 16 rfl rfl)
theorem dX7_init_112 : decode cX7_init 112 = .ok (.newarray .int, 2) := dk_188_10 (dk_at dksX7_init_4 18 rfl rfl)
theorem dX7_init_114 : decode cX7_init 114 = .ok (.putfield 51, 3) := dk_181 0 51 (dk_at dksX7_init_4 20 rfl rfl)
theorem dX7_init_117 : decode cX7_init 117 = .ok (.aload_n 0, 1) := dk_42 (dk_at dksX7_init_4 23 rfl rfl)
theorem dX7_init_118 : decode cX7_init 118 = .ok (.bipush 100, 2) := dk_16 100 (dk_at dksX7_init_5 0 rfl rfl)
theorem dX7_init_120 : decode cX7_init 120 = .ok (.newarray .boolean, 2) := dk_188_4 (dk_at dksX7_init_5 2 rfl rfl)
theorem dX7_init_122 : decode cX7_init 122 = .ok (.putfield 54, 3) := dk_181 0 54 (dk_at dksX7_init_5 4 rfl rfl)
theorem dX7_init_125 : decode cX7_init 125 = .ok (.aload_n 0, 1) := dk_42 (dk_at dksX7_init_5 7 rfl rfl)
theorem dX7_init_126 : decode cX7_init 126 = .ok (.bipush 100, 2) := dk_16 100 (dk_at dksX7_init_5 8 rfl rfl)
theorem dX7_init_128 : decode cX7_init 128 = .ok (.newarray .int, 2) := dk_188_10 (dk_at dksX7_init_5 10 rfl rfl)
theorem dX7_init_130 : decode cX7_init 130 = .ok (.putfield 57, 3) := dk_181 0 57 (dk_at dksX7_init_5 12 rfl rfl)
theorem dX7_init_133 : decode cX7_init 133 = .ok (.aload_n 0, 1) := dk_42 (dk_at dksX7_init_5 15 rfl rfl)
theorem dX7_init_134 : decode cX7_init 134 = .ok (.bipush 100, 2) := dk_16 100 (dk_at dksX7_init_5 16 rfl rfl)
theorem dX7_init_136 : decode cX7_init 136 = .ok (.newarray .int, 2) := dk_188_10 (dk_at dksX7_init_5 18 rfl rfl)
theorem dX7_init_138 : decode cX7_init 138 = .ok (.putfield 60, 3) := dk_181 0 60 (dk_at dksX7_init_5 20 rfl rfl)
theorem dX7_init_141 : decode cX7_init 141 = .ok (.aload_n 0, 1) := dk_42 (dk_at dksX7_init_5 23 rfl rfl)
theorem dX7_init_142 : decode cX7_init 142 = .ok (.sipush 300, 3) := dk_17 1 44 (dk_at dksX7_init_6 0 rfl rfl)
theorem dX7_init_145 : decode cX7_init 145 = .ok (.newarray .int, 2) := dk_188_10 (dk_at dksX7_init_6 3 rfl rfl)
theorem dX7_init_147 : decode cX7_init 147 = .ok (.putfield 63, 3) := dk_181 0 63 (dk_at dksX7_init_6 5 rfl rfl)
theorem dX7_init_150 : decode cX7_init 150 = .ok (.aload_n 0, 1) := dk_42 (dk_at dksX7_init_6 8 rfl rfl)
theorem dX7_init_151 : decode cX7_init 151 = .ok (.bipush 100, 2) := dk_16 100 (dk_at dksX7_init_6 9 rfl rfl)
theorem dX7_init_153 : decode cX7_init 153 = .ok (.newarray .boolean, 2) := dk_188_4 (dk_at dksX7_init_6 11 rfl rfl)
theorem dX7_init_155 : decode cX7_init 155 = .ok (.putfield 66, 3) := dk_181 0 66 (dk_at dksX7_init_6 13 rfl rfl)
theorem dX7_init_158 : decode cX7_init 158 = .ok (.aload_n 0, 1) := dk_42 (dk_at dksX7_init_6 16 rfl rfl)
theorem dX7_init_159 : decode cX7_init 159 = .ok (.bipush 100, 2) := dk_16 100 (dk_at dksX7_init_6 17 rfl rfl)
theorem dX7_init_161 : decode cX7_init 161 = .ok (.newarray .boolean, 2) := dk_188_4 (dk_at dksX7_init_6 19 rfl rfl)
theorem dX7_init_163 : decode cX7_init 163 = .ok (.putfield 69, 3) := dk_181 0 69 (dk_at dksX7_init_6 21 rfl rfl)
theorem dX7_init_166 : decode cX7_init 166 = .ok (.aload_n 0, 1) := dk_42 (dk_at dksX7_init_7 0 rfl rfl)
theorem dX7_init_167 : decode cX7_init 167 = .ok (.bipush 100, 2) := dk_16 100 (dk_at dksX7_init_7 1 rfl rfl)
theorem dX7_init_169 : decode cX7_init 169 = .ok (.newarray .int, 2) := dk_188_10 (dk_at dksX7_init_7 3 rfl rfl)
theorem dX7_init_171 : decode cX7_init 171 = .ok (.putfield 72, 3) := dk_181 0 72 (dk_at dksX7_init_7 5 rfl rfl)
theorem dX7_init_174 : decode cX7_init 174 = .ok (.aload_n 0, 1) := dk_42 (dk_at dksX7_init_7 8 rfl rfl)
theorem dX7_init_175 : decode cX7_init 175 = .ok (.bipush 100, 2) := dk_16 100 (dk_at dksX7_init_7 9 rfl rfl)
theorem dX7_init_177 : decode cX7_init 177 = .ok (.newarray .int, 2) := dk_188_10 (dk_at dksX7_init_7 11 rfl rfl)
theorem dX7_init_179 : decode cX7_init 179 = .ok (.putfield 75, 3) := dk_181 0 75 (dk_at dksX7_init_7 13 rfl rfl)
theorem dX7_init_182 : decode cX7_init 182 = .ok (.aload_n 0, 1) := dk_42 (dk_at dksX7_init_7 16 rfl rfl)
theorem dX7_init_183 : decode cX7_init 183 = .ok (.bipush 100, 2) := dk_16 100 (dk_at dksX7_init_7 17 rfl rfl)
theorem dX7_init_185 : decode cX7_init 185 = .ok (.newarray .int, 2) := dk_188_10 (dk_at dksX7_init_7 19 rfl rfl)
theorem dX7_init_187 : decode cX7_init 187 = .ok (.putfield 78, 3) := dk_181 0 78 (dk_at dksX7_init_7 21 rfl rfl)
theorem dX7_init_190 : decode cX7_init 190 = .ok (.aload_n 0, 1) := dk_42 (dk_at dksX7_init_8 0 rfl rfl)
theorem dX7_init_191 : decode cX7_init 191 = .ok (.bipush 100, 2) := dk_16 100 (dk_at dksX7_init_8 1 rfl rfl)
theorem dX7_init_193 : decode cX7_init 193 = .ok (.newarray .int, 2) := dk_188_10 (dk_at dksX7_init_8 3 rfl rfl)
theorem dX7_init_195 : decode cX7_init 195 = .ok (.putfield 81, 3) := dk_181 0 81 (dk_at dksX7_init_8 5 rfl rfl)
theorem dX7_init_198 : decode cX7_init 198 = .ok (.aload_n 0, 1) := dk_42 (dk_at dksX7_init_8 8 rfl rfl)
theorem dX7_init_199 : decode cX7_init 199 = .ok (.bipush 100, 2) := dk_16 100 (dk_at dksX7_init_8 9 rfl rfl)
theorem dX7_init_201 : decode cX7_init 201 = .ok (.newarray .long, 2) := dk_188_11 (dk_at dksX7_init_8 11 rfl rfl)
theorem dX7_init_203 : decode cX7_init 203 = .ok (.putfield 84, 3) := dk_181 0 84 (dk_at dksX7_init_8 13 rfl rfl)
theorem dX7_init_206 : decode cX7_init 206 = .ok (.aload_n 0, 1) := dk_42 (dk_at dksX7_init_8 16 rfl rfl)
theorem dX7_init_207 : decode cX7_init 207 = .ok (.bipush 80, 2) := dk_16 80 (dk_at dksX7_init_8 17 rfl rfl)
theorem dX7_init_209 : decode cX7_init 209 = .ok (.newarray .int, 2) := dk_188_10 (dk_at dksX7_init_8 19 rfl rfl)
theorem dX7_init_211 : decode cX7_init 211 = .ok (.putfield 88, 3) := dk_181 0 88 (dk_at dksX7_init_8 21 rfl rfl)
theorem dX7_init_214 : decode cX7_init 214 = .ok (.aload_n 0, 1) := dk_42 (dk_at dksX7_init_9 0 rfl rfl)
theorem dX7_init_215 : decode cX7_init 215 = .ok (.bipush 80, 2) := dk_16 80 (dk_at dksX7_init_9 1 rfl rfl)
theorem dX7_init_217 : decode cX7_init 217 = .ok (.newarray .int, 2) := dk_188_10 (dk_at dksX7_init_9 3 rfl rfl)
theorem dX7_init_219 : decode cX7_init 219 = .ok (.putfield 91, 3) := dk_181 0 91 (dk_at dksX7_init_9 5 rfl rfl)
theorem dX7_init_222 : decode cX7_init 222 = .ok (.aload_n 0, 1) := dk_42 (dk_at dksX7_init_9 8 rfl rfl)
theorem dX7_init_223 : decode cX7_init 223 = .ok (.sipush 8000, 3) := dk_17 31 64 (dk_at dksX7_init_9 9 rfl rfl)
theorem dX7_init_226 : decode cX7_init 226 = .ok (.newarray .long, 2) := dk_188_11 (dk_at dksX7_init_9 12 rfl rfl)
theorem dX7_init_228 : decode cX7_init 228 = .ok (.putfield 94, 3) := dk_181 0 94 (dk_at dksX7_init_9 14 rfl rfl)
theorem dX7_init_231 : decode cX7_init 231 = .ok (.aload_n 0, 1) := dk_42 (dk_at dksX7_init_9 17 rfl rfl)
theorem dX7_init_232 : decode cX7_init 232 = .ok (.sipush 1600, 3) := dk_17 6 64 (dk_at dksX7_init_9 18 rfl rfl)
theorem dX7_init_235 : decode cX7_init 235 = .ok (.newarray .long, 2) := dk_188_11 (dk_at dksX7_init_9 21 rfl rfl)
theorem dX7_init_237 : decode cX7_init 237 = .ok (.putfield 97, 3) := dk_181 0 97 (dk_at dksX7_init_10 0 rfl rfl)
theorem dX7_init_240 : decode cX7_init 240 = .ok (.aload_n 0, 1) := dk_42 (dk_at dksX7_init_10 3 rfl rfl)
theorem dX7_init_241 : decode cX7_init 241 = .ok (.bipush 8, 2) := dk_16 8 (dk_at dksX7_init_10 4 rfl rfl)
theorem dX7_init_243 : decode cX7_init 243 = .ok (.newarray .int, 2) := dk_188_10 (dk_at dksX7_init_10 6 rfl rfl)
theorem dX7_init_245 : decode cX7_init 245 = .ok (.putfield 100, 3) := dk_181 0 100 (dk_at dksX7_init_10 8 rfl rfl)
theorem dX7_init_248 : decode cX7_init 248 = .ok (.aload_n 0, 1) := dk_42 (dk_at dksX7_init_10 11 rfl rfl)
theorem dX7_init_249 : decode cX7_init 249 = .ok (.bipush 8, 2) := dk_16 8 (dk_at dksX7_init_10 12 rfl rfl)
theorem dX7_init_251 : decode cX7_init 251 = .ok (.newarray .long, 2) := dk_188_11 (dk_at dksX7_init_10 14 rfl rfl)
theorem dX7_init_253 : decode cX7_init 253 = .ok (.putfield 103, 3) := dk_181 0 103 (dk_at dksX7_init_10 16 rfl rfl)
theorem dX7_init_256 : decode cX7_init 256 = .ok (.aload_n 0, 1) := dk_42 (dk_at dksX7_init_10 19 rfl rfl)
theorem dX7_init_257 : decode cX7_init 257 = .ok (.bipush 8, 2) := dk_16 8 (dk_at dksX7_init_10 20 rfl rfl)
theorem dX7_init_259 : decode cX7_init 259 = .ok (.putfield 106, 3) := dk_181 0 106 (dk_at dksX7_init_11 0 rfl rfl)
theorem dX7_init_262 : decode cX7_init 262 = .ok (.aload_n 0, 1) := dk_42 (dk_at dksX7_init_11 3 rfl rfl)
theorem dX7_init_263 : decode cX7_init 263 = .ok (.sipush 248, 3) := dk_17 0 248 (dk_at dksX7_init_11 4 rfl rfl)
theorem dX7_init_266 : decode cX7_init 266 = .ok (.newarray .int, 2) := dk_188_10 (dk_at dksX7_init_11 7 rfl rfl)
theorem dX7_init_268 : decode cX7_init 268 = .ok (.putfield 109, 3) := dk_181 0 109 (dk_at dksX7_init_11 9 rfl rfl)
theorem dX7_init_271 : decode cX7_init 271 = .ok (.aload_n 0, 1) := dk_42 (dk_at dksX7_init_11 12 rfl rfl)
theorem dX7_init_272 : decode cX7_init 272 = .ok (.bipush 60, 2) := dk_16 60 (dk_at dksX7_init_11 13 rfl rfl)
theorem dX7_init_274 : decode cX7_init 274 = .ok (.newarray .boolean, 2) := dk_188_4 (dk_at dksX7_init_11 15 rfl rfl)
theorem dX7_init_276 : decode cX7_init 276 = .ok (.putfield 112, 3) := dk_181 0 112 (dk_at dksX7_init_11 17 rfl rfl)
theorem dX7_init_279 : decode cX7_init 279 = .ok (.aload_n 0, 1) := dk_42 (dk_at dksX7_init_11 20 rfl rfl)
theorem dX7_init_280 : decode cX7_init 280 = .ok (.bipush 20, 2) := dk_16 20 (dk_at dksX7_init_11 21 rfl rfl)
theorem dX7_init_282 : decode cX7_init 282 = .ok (.newarray .long, 2) := dk_188_11 (dk_at dksX7_init_12 0 rfl rfl)
theorem dX7_init_284 : decode cX7_init 284 = .ok (.putfield 115, 3) := dk_181 0 115 (dk_at dksX7_init_12 2 rfl rfl)
theorem dX7_init_287 : decode cX7_init 287 = .ok (.aload_n 0, 1) := dk_42 (dk_at dksX7_init_12 5 rfl rfl)
theorem dX7_init_288 : decode cX7_init 288 = .ok (.bipush 14, 2) := dk_16 14 (dk_at dksX7_init_12 6 rfl rfl)
theorem dX7_init_290 : decode cX7_init 290 = .ok (.newarray .int, 2) := dk_188_10 (dk_at dksX7_init_12 8 rfl rfl)
theorem dX7_init_292 : decode cX7_init 292 = .ok (.putfield 118, 3) := dk_181 0 118 (dk_at dksX7_init_12 10 rfl rfl)
theorem dX7_init_295 : decode cX7_init 295 = .ok (.aload_n 0, 1) := dk_42 (dk_at dksX7_init_12 13 rfl rfl)
theorem dX7_init_296 : decode cX7_init 296 = .ok (.bipush 42, 2) := dk_16 42 (dk_at dksX7_init_12 14 rfl rfl)
theorem dX7_init_298 : decode cX7_init 298 = .ok (.newarray .long, 2) := dk_188_11 (dk_at dksX7_init_12 16 rfl rfl)
theorem dX7_init_300 : decode cX7_init 300 = .ok (.putfield 121, 3) := dk_181 0 121 (dk_at dksX7_init_12 18 rfl rfl)
theorem dX7_init_303 : decode cX7_init 303 = .ok (.iconst 0, 1) := dk_3 (dk_at dksX7_init_12 21 rfl rfl)
theorem dX7_init_304 : decode cX7_init 304 = .ok (.istore_n 1, 1) := dk_60 (dk_at dksX7_init_12 22 rfl rfl)
theorem dX7_init_305 : decode cX7_init 305 = .ok (.iload_n 1, 1) := dk_27 (dk_at dksX7_init_12 23 rfl rfl)
theorem dX7_init_306 : decode cX7_init 306 = .ok (.bipush 60, 2) := dk_16 60 (dk_at dksX7_init_13 0 rfl rfl)
theorem dX7_init_308 : decode cX7_init 308 = .ok (.if_icmp .ge 30, 3) := dk_162 0 30 (dk_at dksX7_init_13 2 rfl rfl)
theorem dX7_init_311 : decode cX7_init 311 = .ok (.aload_n 0, 1) := dk_42 (dk_at dksX7_init_13 5 rfl rfl)
theorem dX7_init_312 : decode cX7_init 312 = .ok (.getfield 17, 3) := dk_180 0 17 (dk_at dksX7_init_13 6 rfl rfl)
theorem dX7_init_315 : decode cX7_init 315 = .ok (.iload_n 1, 1) := dk_27 (dk_at dksX7_init_13 9 rfl rfl)
theorem dX7_init_316 : decode cX7_init 316 = .ok (.iconst (-1), 1) := dk_2 (dk_at dksX7_init_13 10 rfl rfl)
theorem dX7_init_317 : decode cX7_init 317 = .ok (.iastore, 1) := dk_79 (dk_at dksX7_init_13 11 rfl rfl)
theorem dX7_init_318 : decode cX7_init 318 = .ok (.aload_n 0, 1) := dk_42 (dk_at dksX7_init_13 12 rfl rfl)
theorem dX7_init_319 : decode cX7_init 319 = .ok (.getfield 23, 3) := dk_180 0 23 (dk_at dksX7_init_13 13 rfl rfl)
theorem dX7_init_322 : decode cX7_init 322 = .ok (.iload_n 1, 1) := dk_27 (dk_at dksX7_init_13 16 rfl rfl)
theorem dX7_init_323 : decode cX7_init 323 = .ok (.iconst (-1), 1) := dk_2 (dk_at dksX7_init_13 17 rfl rfl)
theorem dX7_init_324 : decode cX7_init 324 = .ok (.iastore, 1) := dk_79 (dk_at dksX7_init_13 18 rfl rfl)
theorem dX7_init_325 : decode cX7_init 325 = .ok (.aload_n 0, 1) := dk_42 (dk_at dksX7_init_13 19 rfl rfl)
theorem dX7_init_326 : decode cX7_init 326 = .ok (.getfield 26, 3) := dk_180 0 26 (dk_at dksX7_init_13 20 rfl rfl)
theorem dX7_init_329 : decode cX7_init 329 = .ok (.iload_n 1, 1) := dk_27 (dk_at dksX7_init_13 23 rfl rfl)
theorem dX7_init_330 : decode cX7_init 330 = .ok (.iconst (-1), 1) := dk_2 (dk_at dksX7_init_14 0 rfl rfl)
theorem dX7_init_331 : decode cX7_init 331 = .ok (.iastore, 1) := dk_79 (dk_at dksX7_init_14 1 rfl rfl)
theorem dX7_init_332 : decode cX7_init 332 = .ok (.iinc 1 1, 3) := dk_132 1 1 (dk_at dksX7_init_14 2 rfl rfl)
theorem dX7_init_335 : decode cX7_init 335 = .ok (.goto (-30), 3) := dk_167 255 226 (dk_at dksX7_init_14 5 rfl rfl)
theorem dX7_init_338 : decode cX7_init 338 = .ok (.aload_n 0, 1) := dk_42 (dk_at dksX7_init_14 8 rfl rfl)
theorem dX7_init_339 : decode cX7_init 339 = .ok (.getfield 13, 3) := dk_180 0 13 (dk_at dksX7_init_14 9 rfl rfl)
theorem dX7_init_342 : decode cX7_init 342 = .ok (.bipush 8, 2) := dk_16 8 (dk_at dksX7_init_14 12 rfl rfl)
theorem dX7_init_344 : decode cX7_init 344 = .ok (.iconst 1, 1) := dk_4 (dk_at dksX7_init_14 14 rfl rfl)
theorem dX7_init_345 : decode cX7_init 345 = .ok (.iastore, 1) := dk_79 (dk_at dksX7_init_14 15 rfl rfl)
theorem dX7_init_346 : decode cX7_init 346 = .ok (.iconst 0, 1) := dk_3 (dk_at dksX7_init_14 16 rfl rfl)
theorem dX7_init_347 : decode cX7_init 347 = .ok (.istore_n 1, 1) := dk_60 (dk_at dksX7_init_14 17 rfl rfl)
theorem dX7_init_348 : decode cX7_init 348 = .ok (.iload_n 1, 1) := dk_27 (dk_at dksX7_init_14 18 rfl rfl)
theorem dX7_init_349 : decode cX7_init 349 = .ok (.bipush 8, 2) := dk_16 8 (dk_at dksX7_init_14 19 rfl rfl)
theorem dX7_init_351 : decode cX7_init 351 = .ok (.if_icmp .ge 16, 3) := dk_162 0 16 (dk_at dksX7_init_14 21 rfl rfl)
theorem dX7_init_354 : decode cX7_init 354 = .ok (.aload_n 0, 1) := dk_42 (dk_at dksX7_init_15 0 rfl rfl)
theorem dX7_init_355 : decode cX7_init 355 = .ok (.getfield 100, 3) := dk_180 0 100 (dk_at dksX7_init_15 1 rfl rfl)
theorem dX7_init_358 : decode cX7_init 358 = .ok (.iload_n 1, 1) := dk_27 (dk_at dksX7_init_15 4 rfl rfl)
theorem dX7_init_359 : decode cX7_init 359 = .ok (.iconst 4, 1) := dk_7 (dk_at dksX7_init_15 5 rfl rfl)
theorem dX7_init_360 : decode cX7_init 360 = .ok (.iastore, 1) := dk_79 (dk_at dksX7_init_15 6 rfl rfl)
theorem dX7_init_361 : decode cX7_init 361 = .ok (.iinc 1 1, 3) := dk_132 1 1 (dk_at dksX7_init_15 7 rfl rfl)
theorem dX7_init_364 : decode cX7_init 364 = .ok (.goto (-16), 3) := dk_167 255 240 (dk_at dksX7_init_15 10 rfl rfl)
theorem dX7_init_367 : decode cX7_init 367 = .ok (.aload_n 0, 1) := dk_42 (dk_at dksX7_init_15 13 rfl rfl)
theorem dX7_init_368 : decode cX7_init 368 = .ok (.invokevirtual 124, 3) := dk_182 0 124 (dk_at dksX7_init_15 14 rfl rfl)
theorem dX7_init_371 : decode cX7_init 371 = .ok (.return_, 1) := dk_177 (dk_at dksX7_init_15 17 rfl rfl)
abbrev cX7_layOut : ByteArray := prog_30_method_13_code
def yX7_layOut : MethodName := ⟨RX7, "layOut", "()V"⟩
def dkwX7_layOut_12 : List UInt8 := [16, 8, 182, 0, 142, 132, 1, 1, 167, 254, 221, 177]
abbrev dktX7_layOut_12 : List UInt8 := dkwX7_layOut_12 ++ []
def dkwX7_layOut_11 : List UInt8 := [153, 0, 15, 42, 180, 0, 35, 16, 60, 27, 104, 29, 96, 4, 84, 132, 3, 1, 167, 255, 188, 42, 27]
abbrev dktX7_layOut_11 : List UInt8 := dkwX7_layOut_11 ++ dktX7_layOut_12
def dkwX7_layOut_10 : List UInt8 := [161, 0, 39, 42, 180, 0, 35, 16, 60, 42, 180, 0, 23, 27, 46, 104, 42, 180, 0, 23, 29, 46, 96, 51]
abbrev dktX7_layOut_10 : List UInt8 := dkwX7_layOut_10 ++ dktX7_layOut_11
def dkwX7_layOut_9 : List UInt8 := [180, 0, 7, 162, 0, 66, 42, 180, 0, 13, 29, 46, 7, 160, 0, 50, 42, 180, 0, 23, 29, 46, 16, 8]
abbrev dktX7_layOut_9 : List UInt8 := dkwX7_layOut_9 ++ dktX7_layOut_10
def dkwX7_layOut_8 : List UInt8 := [180, 0, 13, 27, 46, 7, 160, 0, 87, 42, 180, 0, 23, 27, 46, 16, 8, 161, 0, 76, 3, 62, 29, 42]
abbrev dktX7_layOut_8 : List UInt8 := dkwX7_layOut_8 ++ dktX7_layOut_9
def dkwX7_layOut_7 : List UInt8 := [27, 42, 180, 0, 32, 6, 27, 104, 29, 96, 46, 28, 182, 0, 149, 132, 3, 1, 167, 255, 212, 42]
abbrev dktX7_layOut_7 : List UInt8 := dkwX7_layOut_7 ++ dktX7_layOut_8
def dkwX7_layOut_6 : List UInt8 := [180, 0, 29, 27, 46, 162, 0, 40, 42, 27, 42, 180, 0, 32, 6, 27, 104, 29, 96, 46, 182, 0, 146, 42]
abbrev dktX7_layOut_6 : List UInt8 := dkwX7_layOut_6 ++ dktX7_layOut_7
def dkwX7_layOut_5 : List UInt8 := [180, 0, 17, 27, 46, 182, 0, 146, 42, 27, 42, 180, 0, 17, 27, 46, 4, 182, 0, 149, 3, 62, 29, 42]
abbrev dktX7_layOut_5 : List UInt8 := dkwX7_layOut_5 ++ dktX7_layOut_6
def dkwX7_layOut_4 : List UInt8 := [46, 5, 160, 0, 7, 4, 167, 0, 4, 3, 61, 28, 153, 0, 32, 27, 16, 8, 159, 0, 26, 42, 27, 42]
abbrev dktX7_layOut_4 : List UInt8 := dkwX7_layOut_4 ++ dktX7_layOut_5
def dkwX7_layOut_3 : List UInt8 := [167, 0, 218, 42, 27, 27, 182, 0, 142, 42, 180, 0, 13, 27, 46, 4, 159, 0, 13, 42, 180, 0, 13, 27]
abbrev dktX7_layOut_3 : List UInt8 := dkwX7_layOut_3 ++ dktX7_layOut_4
def dkwX7_layOut_2 : List UInt8 := [167, 0, 4, 3, 84, 132, 2, 1, 167, 255, 212, 42, 180, 0, 42, 27, 3, 79, 27, 16, 8, 162, 0, 6]
abbrev dktX7_layOut_2 : List UInt8 := dkwX7_layOut_2 ++ dktX7_layOut_3
def dkwX7_layOut_1 : List UInt8 := [16, 60, 27, 104, 28, 96, 27, 28, 159, 0, 15, 27, 16, 8, 161, 0, 13, 28, 16, 8, 160, 0, 7, 4]
abbrev dktX7_layOut_1 : List UInt8 := dkwX7_layOut_1 ++ dktX7_layOut_2
def dkwX7_layOut_0 : List UInt8 := [3, 60, 27, 42, 180, 0, 7, 162, 1, 33, 3, 61, 28, 42, 180, 0, 7, 162, 0, 42, 42, 180, 0, 35]
abbrev dktX7_layOut_0 : List UInt8 := dkwX7_layOut_0 ++ dktX7_layOut_1
theorem dksX7_layOut_0 : cX7_layOut.data.toList.drop 0 = dktX7_layOut_0 := by decide +kernel
theorem dksX7_layOut_1 : cX7_layOut.data.toList.drop 24 = dktX7_layOut_1 := dk_seg dksX7_layOut_0 24 rfl rfl
theorem dksX7_layOut_2 : cX7_layOut.data.toList.drop 48 = dktX7_layOut_2 := dk_seg dksX7_layOut_1 24 rfl rfl
theorem dksX7_layOut_3 : cX7_layOut.data.toList.drop 72 = dktX7_layOut_3 := dk_seg dksX7_layOut_2 24 rfl rfl
theorem dksX7_layOut_4 : cX7_layOut.data.toList.drop 96 = dktX7_layOut_4 := dk_seg dksX7_layOut_3 24 rfl rfl
theorem dksX7_layOut_5 : cX7_layOut.data.toList.drop 120 = dktX7_layOut_5 := dk_seg dksX7_layOut_4 24 rfl rfl
theorem dksX7_layOut_6 : cX7_layOut.data.toList.drop 144 = dktX7_layOut_6 := dk_seg dksX7_layOut_5 24 rfl rfl
theorem dksX7_layOut_7 : cX7_layOut.data.toList.drop 168 = dktX7_layOut_7 := dk_seg dksX7_layOut_6 24 rfl rfl
theorem dksX7_layOut_8 : cX7_layOut.data.toList.drop 190 = dktX7_layOut_8 := dk_seg dksX7_layOut_7 22 rfl rfl
theorem dksX7_layOut_9 : cX7_layOut.data.toList.drop 214 = dktX7_layOut_9 := dk_seg dksX7_layOut_8 24 rfl rfl
theorem dksX7_layOut_10 : cX7_layOut.data.toList.drop 238 = dktX7_layOut_10 := dk_seg dksX7_layOut_9 24 rfl rfl
theorem dksX7_layOut_11 : cX7_layOut.data.toList.drop 262 = dktX7_layOut_11 := dk_seg dksX7_layOut_10 24 rfl rfl
theorem dksX7_layOut_12 : cX7_layOut.data.toList.drop 285 = dktX7_layOut_12 := dk_seg dksX7_layOut_11 23 rfl rfl
theorem dX7_layOut_0 : decode cX7_layOut 0 = .ok (.iconst 0, 1) := dk_3 (dk_at dksX7_layOut_0 0 rfl rfl)
theorem dX7_layOut_1 : decode cX7_layOut 1 = .ok (.istore_n 1, 1) := dk_60 (dk_at dksX7_layOut_0 1 rfl rfl)
theorem dX7_layOut_2 : decode cX7_layOut 2 = .ok (.iload_n 1, 1) := dk_27 (dk_at dksX7_layOut_0 2 rfl rfl)
theorem dX7_layOut_3 : decode cX7_layOut 3 = .ok (.aload_n 0, 1) := dk_42 (dk_at dksX7_layOut_0 3 rfl rfl)
theorem dX7_layOut_4 : decode cX7_layOut 4 = .ok (.getfield 7, 3) := dk_180 0 7 (dk_at dksX7_layOut_0 4 rfl rfl)
theorem dX7_layOut_7 : decode cX7_layOut 7 = .ok (.if_icmp .ge 289, 3) := dk_162 1 33 (dk_at dksX7_layOut_0 7 rfl rfl)
theorem dX7_layOut_10 : decode cX7_layOut 10 = .ok (.iconst 0, 1) := dk_3 (dk_at dksX7_layOut_0 10 rfl rfl)
theorem dX7_layOut_11 : decode cX7_layOut 11 = .ok (.istore_n 2, 1) := dk_61 (dk_at dksX7_layOut_0 11 rfl rfl)
theorem dX7_layOut_12 : decode cX7_layOut 12 = .ok (.iload_n 2, 1) := dk_28 (dk_at dksX7_layOut_0 12 rfl rfl)
theorem dX7_layOut_13 : decode cX7_layOut 13 = .ok (.aload_n 0, 1) := dk_42 (dk_at dksX7_layOut_0 13 rfl rfl)
theorem dX7_layOut_14 : decode cX7_layOut 14 = .ok (.getfield 7, 3) := dk_180 0 7 (dk_at dksX7_layOut_0 14 rfl rfl)
theorem dX7_layOut_17 : decode cX7_layOut 17 = .ok (.if_icmp .ge 42, 3) := dk_162 0 42 (dk_at dksX7_layOut_0 17 rfl rfl)
theorem dX7_layOut_20 : decode cX7_layOut 20 = .ok (.aload_n 0, 1) := dk_42 (dk_at dksX7_layOut_0 20 rfl rfl)
theorem dX7_layOut_21 : decode cX7_layOut 21 = .ok (.getfield 35, 3) := dk_180 0 35 (dk_at dksX7_layOut_0 21 rfl rfl)
theorem dX7_layOut_24 : decode cX7_layOut 24 = .ok (.bipush 60, 2) := dk_16 60 (dk_at dksX7_layOut_1 0 rfl rfl)
theorem dX7_layOut_26 : decode cX7_layOut 26 = .ok (.iload_n 1, 1) := dk_27 (dk_at dksX7_layOut_1 2 rfl rfl)
theorem dX7_layOut_27 : decode cX7_layOut 27 = .ok (.imul, 1) := dk_104 (dk_at dksX7_layOut_1 3 rfl rfl)
theorem dX7_layOut_28 : decode cX7_layOut 28 = .ok (.iload_n 2, 1) := dk_28 (dk_at dksX7_layOut_1 4 rfl rfl)
theorem dX7_layOut_29 : decode cX7_layOut 29 = .ok (.iadd, 1) := dk_96 (dk_at dksX7_layOut_1 5 rfl rfl)
theorem dX7_layOut_30 : decode cX7_layOut 30 = .ok (.iload_n 1, 1) := dk_27 (dk_at dksX7_layOut_1 6 rfl rfl)
theorem dX7_layOut_31 : decode cX7_layOut 31 = .ok (.iload_n 2, 1) := dk_28 (dk_at dksX7_layOut_1 7 rfl rfl)
theorem dX7_layOut_32 : decode cX7_layOut 32 = .ok (.if_icmp .eq 15, 3) := dk_159 0 15 (dk_at dksX7_layOut_1 8 rfl rfl)
theorem dX7_layOut_35 : decode cX7_layOut 35 = .ok (.iload_n 1, 1) := dk_27 (dk_at dksX7_layOut_1 11 rfl rfl)
theorem dX7_layOut_36 : decode cX7_layOut 36 = .ok (.bipush 8, 2) := dk_16 8 (dk_at dksX7_layOut_1 12 rfl rfl)
theorem dX7_layOut_38 : decode cX7_layOut 38 = .ok (.if_icmp .lt 13, 3) := dk_161 0 13 (dk_at dksX7_layOut_1 14 rfl rfl)
theorem dX7_layOut_41 : decode cX7_layOut 41 = .ok (.iload_n 2, 1) := dk_28 (dk_at dksX7_layOut_1 17 rfl rfl)
theorem dX7_layOut_42 : decode cX7_layOut 42 = .ok (.bipush 8, 2) := dk_16 8 (dk_at dksX7_layOut_1 18 rfl rfl)
theorem dX7_layOut_44 : decode cX7_layOut 44 = .ok (.if_icmp .ne 7, 3) := dk_160 0 7 (dk_at dksX7_layOut_1 20 rfl rfl)
theorem dX7_layOut_47 : decode cX7_layOut 47 = .ok (.iconst 1, 1) := dk_4 (dk_at dksX7_layOut_1 23 rfl rfl)
theorem dX7_layOut_48 : decode cX7_layOut 48 = .ok (.goto 4, 3) := dk_167 0 4 (dk_at dksX7_layOut_2 0 rfl rfl)
theorem dX7_layOut_51 : decode cX7_layOut 51 = .ok (.iconst 0, 1) := dk_3 (dk_at dksX7_layOut_2 3 rfl rfl)
theorem dX7_layOut_52 : decode cX7_layOut 52 = .ok (.bastore, 1) := dk_84 (dk_at dksX7_layOut_2 4 rfl rfl)
theorem dX7_layOut_53 : decode cX7_layOut 53 = .ok (.iinc 2 1, 3) := dk_132 2 1 (dk_at dksX7_layOut_2 5 rfl rfl)
theorem dX7_layOut_56 : decode cX7_layOut 56 = .ok (.goto (-44), 3) := dk_167 255 212 (dk_at dksX7_layOut_2 8 rfl rfl)
theorem dX7_layOut_59 : decode cX7_layOut 59 = .ok (.aload_n 0, 1) := dk_42 (dk_at dksX7_layOut_2 11 rfl rfl)
theorem dX7_layOut_60 : decode cX7_layOut 60 = .ok (.getfield 42, 3) := dk_180 0 42 (dk_at dksX7_layOut_2 12 rfl rfl)
theorem dX7_layOut_63 : decode cX7_layOut 63 = .ok (.iload_n 1, 1) := dk_27 (dk_at dksX7_layOut_2 15 rfl rfl)
theorem dX7_layOut_64 : decode cX7_layOut 64 = .ok (.iconst 0, 1) := dk_3 (dk_at dksX7_layOut_2 16 rfl rfl)
theorem dX7_layOut_65 : decode cX7_layOut 65 = .ok (.iastore, 1) := dk_79 (dk_at dksX7_layOut_2 17 rfl rfl)
theorem dX7_layOut_66 : decode cX7_layOut 66 = .ok (.iload_n 1, 1) := dk_27 (dk_at dksX7_layOut_2 18 rfl rfl)
theorem dX7_layOut_67 : decode cX7_layOut 67 = .ok (.bipush 8, 2) := dk_16 8 (dk_at dksX7_layOut_2 19 rfl rfl)
theorem dX7_layOut_69 : decode cX7_layOut 69 = .ok (.if_icmp .ge 6, 3) := dk_162 0 6 (dk_at dksX7_layOut_2 21 rfl rfl)
theorem dX7_layOut_72 : decode cX7_layOut 72 = .ok (.goto 218, 3) := dk_167 0 218 (dk_at dksX7_layOut_3 0 rfl rfl)
theorem dX7_layOut_75 : decode cX7_layOut 75 = .ok (.aload_n 0, 1) := dk_42 (dk_at dksX7_layOut_3 3 rfl rfl)
theorem dX7_layOut_76 : decode cX7_layOut 76 = .ok (.iload_n 1, 1) := dk_27 (dk_at dksX7_layOut_3 4 rfl rfl)
theorem dX7_layOut_77 : decode cX7_layOut 77 = .ok (.iload_n 1, 1) := dk_27 (dk_at dksX7_layOut_3 5 rfl rfl)
theorem dX7_layOut_78 : decode cX7_layOut 78 = .ok (.invokevirtual 142, 3) := dk_182 0 142 (dk_at dksX7_layOut_3 6 rfl rfl)
theorem dX7_layOut_81 : decode cX7_layOut 81 = .ok (.aload_n 0, 1) := dk_42 (dk_at dksX7_layOut_3 9 rfl rfl)
theorem dX7_layOut_82 : decode cX7_layOut 82 = .ok (.getfield 13, 3) := dk_180 0 13 (dk_at dksX7_layOut_3 10 rfl rfl)
theorem dX7_layOut_85 : decode cX7_layOut 85 = .ok (.iload_n 1, 1) := dk_27 (dk_at dksX7_layOut_3 13 rfl rfl)
theorem dX7_layOut_86 : decode cX7_layOut 86 = .ok (.iaload, 1) := dk_46 (dk_at dksX7_layOut_3 14 rfl rfl)
theorem dX7_layOut_87 : decode cX7_layOut 87 = .ok (.iconst 1, 1) := dk_4 (dk_at dksX7_layOut_3 15 rfl rfl)
theorem dX7_layOut_88 : decode cX7_layOut 88 = .ok (.if_icmp .eq 13, 3) := dk_159 0 13 (dk_at dksX7_layOut_3 16 rfl rfl)
theorem dX7_layOut_91 : decode cX7_layOut 91 = .ok (.aload_n 0, 1) := dk_42 (dk_at dksX7_layOut_3 19 rfl rfl)
theorem dX7_layOut_92 : decode cX7_layOut 92 = .ok (.getfield 13, 3) := dk_180 0 13 (dk_at dksX7_layOut_3 20 rfl rfl)
theorem dX7_layOut_95 : decode cX7_layOut 95 = .ok (.iload_n 1, 1) := dk_27 (dk_at dksX7_layOut_3 23 rfl rfl)
theorem dX7_layOut_96 : decode cX7_layOut 96 = .ok (.iaload, 1) := dk_46 (dk_at dksX7_layOut_4 0 rfl rfl)
theorem dX7_layOut_97 : decode cX7_layOut 97 = .ok (.iconst 2, 1) := dk_5 (dk_at dksX7_layOut_4 1 rfl rfl)
theorem dX7_layOut_98 : decode cX7_layOut 98 = .ok (.if_icmp .ne 7, 3) := dk_160 0 7 (dk_at dksX7_layOut_4 2 rfl rfl)
theorem dX7_layOut_101 : decode cX7_layOut 101 = .ok (.iconst 1, 1) := dk_4 (dk_at dksX7_layOut_4 5 rfl rfl)
theorem dX7_layOut_102 : decode cX7_layOut 102 = .ok (.goto 4, 3) := dk_167 0 4 (dk_at dksX7_layOut_4 6 rfl rfl)
theorem dX7_layOut_105 : decode cX7_layOut 105 = .ok (.iconst 0, 1) := dk_3 (dk_at dksX7_layOut_4 9 rfl rfl)
theorem dX7_layOut_106 : decode cX7_layOut 106 = .ok (.istore_n 2, 1) := dk_61 (dk_at dksX7_layOut_4 10 rfl rfl)
theorem dX7_layOut_107 : decode cX7_layOut 107 = .ok (.iload_n 2, 1) := dk_28 (dk_at dksX7_layOut_4 11 rfl rfl)
theorem dX7_layOut_108 : decode cX7_layOut 108 = .ok (.ifCond .eq 32, 3) := dk_153 0 32 (dk_at dksX7_layOut_4 12 rfl rfl)
theorem dX7_layOut_111 : decode cX7_layOut 111 = .ok (.iload_n 1, 1) := dk_27 (dk_at dksX7_layOut_4 15 rfl rfl)
theorem dX7_layOut_112 : decode cX7_layOut 112 = .ok (.bipush 8, 2) := dk_16 8 (dk_at dksX7_layOut_4 16 rfl rfl)
theorem dX7_layOut_114 : decode cX7_layOut 114 = .ok (.if_icmp .eq 26, 3) := dk_159 0 26 (dk_at dksX7_layOut_4 18 rfl rfl)
theorem dX7_layOut_117 : decode cX7_layOut 117 = .ok (.aload_n 0, 1) := dk_42 (dk_at dksX7_layOut_4 21 rfl rfl)
theorem dX7_layOut_118 : decode cX7_layOut 118 = .ok (.iload_n 1, 1) := dk_27 (dk_at dksX7_layOut_4 22 rfl rfl)
theorem dX7_layOut_119 : decode cX7_layOut 119 = .ok (.aload_n 0, 1) := dk_42 (dk_at dksX7_layOut_4 23 rfl rfl)
theorem dX7_layOut_120 : decode cX7_layOut 120 = .ok (.getfield 17, 3) := dk_180 0 17 (dk_at dksX7_layOut_5 0 rfl rfl)
theorem dX7_layOut_123 : decode cX7_layOut 123 = .ok (.iload_n 1, 1) := dk_27 (dk_at dksX7_layOut_5 3 rfl rfl)
theorem dX7_layOut_124 : decode cX7_layOut 124 = .ok (.iaload, 1) := dk_46 (dk_at dksX7_layOut_5 4 rfl rfl)
theorem dX7_layOut_125 : decode cX7_layOut 125 = .ok (.invokevirtual 146, 3) := dk_182 0 146 (dk_at dksX7_layOut_5 5 rfl rfl)
theorem dX7_layOut_128 : decode cX7_layOut 128 = .ok (.aload_n 0, 1) := dk_42 (dk_at dksX7_layOut_5 8 rfl rfl)
theorem dX7_layOut_129 : decode cX7_layOut 129 = .ok (.iload_n 1, 1) := dk_27 (dk_at dksX7_layOut_5 9 rfl rfl)
theorem dX7_layOut_130 : decode cX7_layOut 130 = .ok (.aload_n 0, 1) := dk_42 (dk_at dksX7_layOut_5 10 rfl rfl)
theorem dX7_layOut_131 : decode cX7_layOut 131 = .ok (.getfield 17, 3) := dk_180 0 17 (dk_at dksX7_layOut_5 11 rfl rfl)
theorem dX7_layOut_134 : decode cX7_layOut 134 = .ok (.iload_n 1, 1) := dk_27 (dk_at dksX7_layOut_5 14 rfl rfl)
theorem dX7_layOut_135 : decode cX7_layOut 135 = .ok (.iaload, 1) := dk_46 (dk_at dksX7_layOut_5 15 rfl rfl)
theorem dX7_layOut_136 : decode cX7_layOut 136 = .ok (.iconst 1, 1) := dk_4 (dk_at dksX7_layOut_5 16 rfl rfl)
theorem dX7_layOut_137 : decode cX7_layOut 137 = .ok (.invokevirtual 149, 3) := dk_182 0 149 (dk_at dksX7_layOut_5 17 rfl rfl)
theorem dX7_layOut_140 : decode cX7_layOut 140 = .ok (.iconst 0, 1) := dk_3 (dk_at dksX7_layOut_5 20 rfl rfl)
theorem dX7_layOut_141 : decode cX7_layOut 141 = .ok (.istore_n 3, 1) := dk_62 (dk_at dksX7_layOut_5 21 rfl rfl)
theorem dX7_layOut_142 : decode cX7_layOut 142 = .ok (.iload_n 3, 1) := dk_29 (dk_at dksX7_layOut_5 22 rfl rfl)
theorem dX7_layOut_143 : decode cX7_layOut 143 = .ok (.aload_n 0, 1) := dk_42 (dk_at dksX7_layOut_5 23 rfl rfl)
theorem dX7_layOut_144 : decode cX7_layOut 144 = .ok (.getfield 29, 3) := dk_180 0 29 (dk_at dksX7_layOut_6 0 rfl rfl)
theorem dX7_layOut_147 : decode cX7_layOut 147 = .ok (.iload_n 1, 1) := dk_27 (dk_at dksX7_layOut_6 3 rfl rfl)
theorem dX7_layOut_148 : decode cX7_layOut 148 = .ok (.iaload, 1) := dk_46 (dk_at dksX7_layOut_6 4 rfl rfl)
theorem dX7_layOut_149 : decode cX7_layOut 149 = .ok (.if_icmp .ge 40, 3) := dk_162 0 40 (dk_at dksX7_layOut_6 5 rfl rfl)
theorem dX7_layOut_152 : decode cX7_layOut 152 = .ok (.aload_n 0, 1) := dk_42 (dk_at dksX7_layOut_6 8 rfl rfl)
theorem dX7_layOut_153 : decode cX7_layOut 153 = .ok (.iload_n 1, 1) := dk_27 (dk_at dksX7_layOut_6 9 rfl rfl)
theorem dX7_layOut_154 : decode cX7_layOut 154 = .ok (.aload_n 0, 1) := dk_42 (dk_at dksX7_layOut_6 10 rfl rfl)
theorem dX7_layOut_155 : decode cX7_layOut 155 = .ok (.getfield 32, 3) := dk_180 0 32 (dk_at dksX7_layOut_6 11 rfl rfl)
theorem dX7_layOut_158 : decode cX7_layOut 158 = .ok (.iconst 3, 1) := dk_6 (dk_at dksX7_layOut_6 14 rfl rfl)
theorem dX7_layOut_159 : decode cX7_layOut 159 = .ok (.iload_n 1, 1) := dk_27 (dk_at dksX7_layOut_6 15 rfl rfl)
theorem dX7_layOut_160 : decode cX7_layOut 160 = .ok (.imul, 1) := dk_104 (dk_at dksX7_layOut_6 16 rfl rfl)
theorem dX7_layOut_161 : decode cX7_layOut 161 = .ok (.iload_n 3, 1) := dk_29 (dk_at dksX7_layOut_6 17 rfl rfl)
theorem dX7_layOut_162 : decode cX7_layOut 162 = .ok (.iadd, 1) := dk_96 (dk_at dksX7_layOut_6 18 rfl rfl)
theorem dX7_layOut_163 : decode cX7_layOut 163 = .ok (.iaload, 1) := dk_46 (dk_at dksX7_layOut_6 19 rfl rfl)
theorem dX7_layOut_164 : decode cX7_layOut 164 = .ok (.invokevirtual 146, 3) := dk_182 0 146 (dk_at dksX7_layOut_6 20 rfl rfl)
theorem dX7_layOut_167 : decode cX7_layOut 167 = .ok (.aload_n 0, 1) := dk_42 (dk_at dksX7_layOut_6 23 rfl rfl)
theorem dX7_layOut_168 : decode cX7_layOut 168 = .ok (.iload_n 1, 1) := dk_27 (dk_at dksX7_layOut_7 0 rfl rfl)
theorem dX7_layOut_169 : decode cX7_layOut 169 = .ok (.aload_n 0, 1) := dk_42 (dk_at dksX7_layOut_7 1 rfl rfl)
theorem dX7_layOut_170 : decode cX7_layOut 170 = .ok (.getfield 32, 3) := dk_180 0 32 (dk_at dksX7_layOut_7 2 rfl rfl)
theorem dX7_layOut_173 : decode cX7_layOut 173 = .ok (.iconst 3, 1) := dk_6 (dk_at dksX7_layOut_7 5 rfl rfl)
theorem dX7_layOut_174 : decode cX7_layOut 174 = .ok (.iload_n 1, 1) := dk_27 (dk_at dksX7_layOut_7 6 rfl rfl)
theorem dX7_layOut_175 : decode cX7_layOut 175 = .ok (.imul, 1) := dk_104 (dk_at dksX7_layOut_7 7 rfl rfl)
theorem dX7_layOut_176 : decode cX7_layOut 176 = .ok (.iload_n 3, 1) := dk_29 (dk_at dksX7_layOut_7 8 rfl rfl)
theorem dX7_layOut_177 : decode cX7_layOut 177 = .ok (.iadd, 1) := dk_96 (dk_at dksX7_layOut_7 9 rfl rfl)
theorem dX7_layOut_178 : decode cX7_layOut 178 = .ok (.iaload, 1) := dk_46 (dk_at dksX7_layOut_7 10 rfl rfl)
theorem dX7_layOut_179 : decode cX7_layOut 179 = .ok (.iload_n 2, 1) := dk_28 (dk_at dksX7_layOut_7 11 rfl rfl)
theorem dX7_layOut_180 : decode cX7_layOut 180 = .ok (.invokevirtual 149, 3) := dk_182 0 149 (dk_at dksX7_layOut_7 12 rfl rfl)
theorem dX7_layOut_183 : decode cX7_layOut 183 = .ok (.iinc 3 1, 3) := dk_132 3 1 (dk_at dksX7_layOut_7 15 rfl rfl)
theorem dX7_layOut_186 : decode cX7_layOut 186 = .ok (.goto (-44), 3) := dk_167 255 212 (dk_at dksX7_layOut_7 18 rfl rfl)
theorem dX7_layOut_189 : decode cX7_layOut 189 = .ok (.aload_n 0, 1) := dk_42 (dk_at dksX7_layOut_7 21 rfl rfl)
theorem dX7_layOut_190 : decode cX7_layOut 190 = .ok (.getfield 13, 3) := dk_180 0 13 (dk_at dksX7_layOut_8 0 rfl rfl)
theorem dX7_layOut_193 : decode cX7_layOut 193 = .ok (.iload_n 1, 1) := dk_27 (dk_at dksX7_layOut_8 3 rfl rfl)
theorem dX7_layOut_194 : decode cX7_layOut 194 = .ok (.iaload, 1) := dk_46 (dk_at dksX7_layOut_8 4 rfl rfl)
theorem dX7_layOut_195 : decode cX7_layOut 195 = .ok (.iconst 4, 1) := dk_7 (dk_at dksX7_layOut_8 5 rfl rfl)
theorem dX7_layOut_196 : decode cX7_layOut 196 = .ok (.if_icmp .ne 87, 3) := dk_160 0 87 (dk_at dksX7_layOut_8 6 rfl rfl)
theorem dX7_layOut_199 : decode cX7_layOut 199 = .ok (.aload_n 0, 1) := dk_42 (dk_at dksX7_layOut_8 9 rfl rfl)
theorem dX7_layOut_200 : decode cX7_layOut 200 = .ok (.getfield 23, 3) := dk_180 0 23 (dk_at dksX7_layOut_8 10 rfl rfl)
theorem dX7_layOut_203 : decode cX7_layOut 203 = .ok (.iload_n 1, 1) := dk_27 (dk_at dksX7_layOut_8 13 rfl rfl)
theorem dX7_layOut_204 : decode cX7_layOut 204 = .ok (.iaload, 1) := dk_46 (dk_at dksX7_layOut_8 14 rfl rfl)
theorem dX7_layOut_205 : decode cX7_layOut 205 = .ok (.bipush 8, 2) := dk_16 8 (dk_at dksX7_layOut_8 15 rfl rfl)
theorem dX7_layOut_207 : decode cX7_layOut 207 = .ok (.if_icmp .lt 76, 3) := dk_161 0 76 (dk_at dksX7_layOut_8 17 rfl rfl)
theorem dX7_layOut_210 : decode cX7_layOut 210 = .ok (.iconst 0, 1) := dk_3 (dk_at dksX7_layOut_8 20 rfl rfl)
theorem dX7_layOut_211 : decode cX7_layOut 211 = .ok (.istore_n 3, 1) := dk_62 (dk_at dksX7_layOut_8 21 rfl rfl)
theorem dX7_layOut_212 : decode cX7_layOut 212 = .ok (.iload_n 3, 1) := dk_29 (dk_at dksX7_layOut_8 22 rfl rfl)
theorem dX7_layOut_213 : decode cX7_layOut 213 = .ok (.aload_n 0, 1) := dk_42 (dk_at dksX7_layOut_8 23 rfl rfl)
theorem dX7_layOut_214 : decode cX7_layOut 214 = .ok (.getfield 7, 3) := dk_180 0 7 (dk_at dksX7_layOut_9 0 rfl rfl)
theorem dX7_layOut_217 : decode cX7_layOut 217 = .ok (.if_icmp .ge 66, 3) := dk_162 0 66 (dk_at dksX7_layOut_9 3 rfl rfl)
theorem dX7_layOut_220 : decode cX7_layOut 220 = .ok (.aload_n 0, 1) := dk_42 (dk_at dksX7_layOut_9 6 rfl rfl)
theorem dX7_layOut_221 : decode cX7_layOut 221 = .ok (.getfield 13, 3) := dk_180 0 13 (dk_at dksX7_layOut_9 7 rfl rfl)
theorem dX7_layOut_224 : decode cX7_layOut 224 = .ok (.iload_n 3, 1) := dk_29 (dk_at dksX7_layOut_9 10 rfl rfl)
theorem dX7_layOut_225 : decode cX7_layOut 225 = .ok (.iaload, 1) := dk_46 (dk_at dksX7_layOut_9 11 rfl rfl)
theorem dX7_layOut_226 : decode cX7_layOut 226 = .ok (.iconst 4, 1) := dk_7 (dk_at dksX7_layOut_9 12 rfl rfl)
theorem dX7_layOut_227 : decode cX7_layOut 227 = .ok (.if_icmp .ne 50, 3) := dk_160 0 50 (dk_at dksX7_layOut_9 13 rfl rfl)
theorem dX7_layOut_230 : decode cX7_layOut 230 = .ok (.aload_n 0, 1) := dk_42 (dk_at dksX7_layOut_9 16 rfl rfl)
theorem dX7_layOut_231 : decode cX7_layOut 231 = .ok (.getfield 23, 3) := dk_180 0 23 (dk_at dksX7_layOut_9 17 rfl rfl)
theorem dX7_layOut_234 : decode cX7_layOut 234 = .ok (.iload_n 3, 1) := dk_29 (dk_at dksX7_layOut_9 20 rfl rfl)
theorem dX7_layOut_235 : decode cX7_layOut 235 = .ok (.iaload, 1) := dk_46 (dk_at dksX7_layOut_9 21 rfl rfl)
theorem dX7_layOut_236 : decode cX7_layOut 236 = .ok (.bipush 8, 2) := dk_16 8 (dk_at dksX7_layOut_9 22 rfl rfl)
theorem dX7_layOut_238 : decode cX7_layOut 238 = .ok (.if_icmp .lt 39, 3) := dk_161 0 39 (dk_at dksX7_layOut_10 0 rfl rfl)
theorem dX7_layOut_241 : decode cX7_layOut 241 = .ok (.aload_n 0, 1) := dk_42 (dk_at dksX7_layOut_10 3 rfl rfl)
theorem dX7_layOut_242 : decode cX7_layOut 242 = .ok (.getfield 35, 3) := dk_180 0 35 (dk_at dksX7_layOut_10 4 rfl rfl)
theorem dX7_layOut_245 : decode cX7_layOut 245 = .ok (.bipush 60, 2) := dk_16 60 (dk_at dksX7_layOut_10 7 rfl rfl)
theorem dX7_layOut_247 : decode cX7_layOut 247 = .ok (.aload_n 0, 1) := dk_42 (dk_at dksX7_layOut_10 9 rfl rfl)
theorem dX7_layOut_248 : decode cX7_layOut 248 = .ok (.getfield 23, 3) := dk_180 0 23 (dk_at dksX7_layOut_10 10 rfl rfl)
theorem dX7_layOut_251 : decode cX7_layOut 251 = .ok (.iload_n 1, 1) := dk_27 (dk_at dksX7_layOut_10 13 rfl rfl)
theorem dX7_layOut_252 : decode cX7_layOut 252 = .ok (.iaload, 1) := dk_46 (dk_at dksX7_layOut_10 14 rfl rfl)
theorem dX7_layOut_253 : decode cX7_layOut 253 = .ok (.imul, 1) := dk_104 (dk_at dksX7_layOut_10 15 rfl rfl)
theorem dX7_layOut_254 : decode cX7_layOut 254 = .ok (.aload_n 0, 1) := dk_42 (dk_at dksX7_layOut_10 16 rfl rfl)
theorem dX7_layOut_255 : decode cX7_layOut 255 = .ok (.getfield 23, 3) := dk_180 0 23 (dk_at dksX7_layOut_10 17 rfl rfl)
theorem dX7_layOut_258 : decode cX7_layOut 258 = .ok (.iload_n 3, 1) := dk_29 (dk_at dksX7_layOut_10 20 rfl rfl)
theorem dX7_layOut_259 : decode cX7_layOut 259 = .ok (.iaload, 1) := dk_46 (dk_at dksX7_layOut_10 21 rfl rfl)
theorem dX7_layOut_260 : decode cX7_layOut 260 = .ok (.iadd, 1) := dk_96 (dk_at dksX7_layOut_10 22 rfl rfl)
theorem dX7_layOut_261 : decode cX7_layOut 261 = .ok (.baload, 1) := dk_51 (dk_at dksX7_layOut_10 23 rfl rfl)
theorem dX7_layOut_262 : decode cX7_layOut 262 = .ok (.ifCond .eq 15, 3) := dk_153 0 15 (dk_at dksX7_layOut_11 0 rfl rfl)
theorem dX7_layOut_265 : decode cX7_layOut 265 = .ok (.aload_n 0, 1) := dk_42 (dk_at dksX7_layOut_11 3 rfl rfl)
theorem dX7_layOut_266 : decode cX7_layOut 266 = .ok (.getfield 35, 3) := dk_180 0 35 (dk_at dksX7_layOut_11 4 rfl rfl)
theorem dX7_layOut_269 : decode cX7_layOut 269 = .ok (.bipush 60, 2) := dk_16 60 (dk_at dksX7_layOut_11 7 rfl rfl)
theorem dX7_layOut_271 : decode cX7_layOut 271 = .ok (.iload_n 1, 1) := dk_27 (dk_at dksX7_layOut_11 9 rfl rfl)
theorem dX7_layOut_272 : decode cX7_layOut 272 = .ok (.imul, 1) := dk_104 (dk_at dksX7_layOut_11 10 rfl rfl)
theorem dX7_layOut_273 : decode cX7_layOut 273 = .ok (.iload_n 3, 1) := dk_29 (dk_at dksX7_layOut_11 11 rfl rfl)
theorem dX7_layOut_274 : decode cX7_layOut 274 = .ok (.iadd, 1) := dk_96 (dk_at dksX7_layOut_11 12 rfl rfl)
theorem dX7_layOut_275 : decode cX7_layOut 275 = .ok (.iconst 1, 1) := dk_4 (dk_at dksX7_layOut_11 13 rfl rfl)
theorem dX7_layOut_276 : decode cX7_layOut 276 = .ok (.bastore, 1) := dk_84 (dk_at dksX7_layOut_11 14 rfl rfl)
theorem dX7_layOut_277 : decode cX7_layOut 277 = .ok (.iinc 3 1, 3) := dk_132 3 1 (dk_at dksX7_layOut_11 15 rfl rfl)
theorem dX7_layOut_280 : decode cX7_layOut 280 = .ok (.goto (-68), 3) := dk_167 255 188 (dk_at dksX7_layOut_11 18 rfl rfl)
theorem dX7_layOut_283 : decode cX7_layOut 283 = .ok (.aload_n 0, 1) := dk_42 (dk_at dksX7_layOut_11 21 rfl rfl)
theorem dX7_layOut_284 : decode cX7_layOut 284 = .ok (.iload_n 1, 1) := dk_27 (dk_at dksX7_layOut_11 22 rfl rfl)
theorem dX7_layOut_285 : decode cX7_layOut 285 = .ok (.bipush 8, 2) := dk_16 8 (dk_at dksX7_layOut_12 0 rfl rfl)
theorem dX7_layOut_287 : decode cX7_layOut 287 = .ok (.invokevirtual 142, 3) := dk_182 0 142 (dk_at dksX7_layOut_12 2 rfl rfl)
theorem dX7_layOut_290 : decode cX7_layOut 290 = .ok (.iinc 1 1, 3) := dk_132 1 1 (dk_at dksX7_layOut_12 5 rfl rfl)
theorem dX7_layOut_293 : decode cX7_layOut 293 = .ok (.goto (-291), 3) := dk_167 254 221 (dk_at dksX7_layOut_12 8 rfl rfl)
theorem dX7_layOut_296 : decode cX7_layOut 296 = .ok (.return_, 1) := dk_177 (dk_at dksX7_layOut_12 11 rfl rfl)
abbrev cX7_list : ByteArray := prog_30_method_11_code
def yX7_list : MethodName := ⟨RX7, "list", "(II)V"⟩
def dkwX7_list_1 : List UInt8 := [28, 79, 42, 180, 0, 42, 27, 92, 46, 4, 96, 79, 177]
abbrev dktX7_list_1 : List UInt8 := dkwX7_list_1 ++ []
def dkwX7_list_0 : List UInt8 := [42, 27, 28, 182, 0, 138, 154, 0, 30, 42, 180, 0, 39, 16, 60, 27, 104, 42, 180, 0, 42, 27, 46, 96]
abbrev dktX7_list_0 : List UInt8 := dkwX7_list_0 ++ dktX7_list_1
theorem dksX7_list_0 : cX7_list.data.toList.drop 0 = dktX7_list_0 := by decide +kernel
theorem dksX7_list_1 : cX7_list.data.toList.drop 24 = dktX7_list_1 := dk_seg dksX7_list_0 24 rfl rfl
theorem dX7_list_0 : decode cX7_list 0 = .ok (.aload_n 0, 1) := dk_42 (dk_at dksX7_list_0 0 rfl rfl)
theorem dX7_list_1 : decode cX7_list 1 = .ok (.iload_n 1, 1) := dk_27 (dk_at dksX7_list_0 1 rfl rfl)
theorem dX7_list_2 : decode cX7_list 2 = .ok (.iload_n 2, 1) := dk_28 (dk_at dksX7_list_0 2 rfl rfl)
theorem dX7_list_3 : decode cX7_list 3 = .ok (.invokevirtual 138, 3) := dk_182 0 138 (dk_at dksX7_list_0 3 rfl rfl)
theorem dX7_list_6 : decode cX7_list 6 = .ok (.ifCond .ne 30, 3) := dk_154 0 30 (dk_at dksX7_list_0 6 rfl rfl)
theorem dX7_list_9 : decode cX7_list 9 = .ok (.aload_n 0, 1) := dk_42 (dk_at dksX7_list_0 9 rfl rfl)
theorem dX7_list_10 : decode cX7_list 10 = .ok (.getfield 39, 3) := dk_180 0 39 (dk_at dksX7_list_0 10 rfl rfl)
theorem dX7_list_13 : decode cX7_list 13 = .ok (.bipush 60, 2) := dk_16 60 (dk_at dksX7_list_0 13 rfl rfl)
theorem dX7_list_15 : decode cX7_list 15 = .ok (.iload_n 1, 1) := dk_27 (dk_at dksX7_list_0 15 rfl rfl)
theorem dX7_list_16 : decode cX7_list 16 = .ok (.imul, 1) := dk_104 (dk_at dksX7_list_0 16 rfl rfl)
theorem dX7_list_17 : decode cX7_list 17 = .ok (.aload_n 0, 1) := dk_42 (dk_at dksX7_list_0 17 rfl rfl)
theorem dX7_list_18 : decode cX7_list 18 = .ok (.getfield 42, 3) := dk_180 0 42 (dk_at dksX7_list_0 18 rfl rfl)
theorem dX7_list_21 : decode cX7_list 21 = .ok (.iload_n 1, 1) := dk_27 (dk_at dksX7_list_0 21 rfl rfl)
theorem dX7_list_22 : decode cX7_list 22 = .ok (.iaload, 1) := dk_46 (dk_at dksX7_list_0 22 rfl rfl)
theorem dX7_list_23 : decode cX7_list 23 = .ok (.iadd, 1) := dk_96 (dk_at dksX7_list_0 23 rfl rfl)
theorem dX7_list_24 : decode cX7_list 24 = .ok (.iload_n 2, 1) := dk_28 (dk_at dksX7_list_1 0 rfl rfl)
theorem dX7_list_25 : decode cX7_list 25 = .ok (.iastore, 1) := dk_79 (dk_at dksX7_list_1 1 rfl rfl)
theorem dX7_list_26 : decode cX7_list 26 = .ok (.aload_n 0, 1) := dk_42 (dk_at dksX7_list_1 2 rfl rfl)
theorem dX7_list_27 : decode cX7_list 27 = .ok (.getfield 42, 3) := dk_180 0 42 (dk_at dksX7_list_1 3 rfl rfl)
theorem dX7_list_30 : decode cX7_list 30 = .ok (.iload_n 1, 1) := dk_27 (dk_at dksX7_list_1 6 rfl rfl)
theorem dX7_list_31 : decode cX7_list 31 = .ok (.dup2, 1) := dk_92 (dk_at dksX7_list_1 7 rfl rfl)
theorem dX7_list_32 : decode cX7_list 32 = .ok (.iaload, 1) := dk_46 (dk_at dksX7_list_1 8 rfl rfl)
theorem dX7_list_33 : decode cX7_list 33 = .ok (.iconst 1, 1) := dk_4 (dk_at dksX7_list_1 9 rfl rfl)
theorem dX7_list_34 : decode cX7_list 34 = .ok (.iadd, 1) := dk_96 (dk_at dksX7_list_1 10 rfl rfl)
theorem dX7_list_35 : decode cX7_list 35 = .ok (.iastore, 1) := dk_79 (dk_at dksX7_list_1 11 rfl rfl)
theorem dX7_list_36 : decode cX7_list 36 = .ok (.return_, 1) := dk_177 (dk_at dksX7_list_1 12 rfl rfl)
abbrev cX7_isListed : ByteArray := prog_30_method_10_code
def yX7_isListed : MethodName := ⟨RX7, "isListed", "(II)Z"⟩
def dkwX7_isListed_2 : List UInt8 := [29, 172]
abbrev dktX7_isListed_2 : List UInt8 := dkwX7_isListed_2 ++ []
def dkwX7_isListed_1 : List UInt8 := [16, 60, 27, 104, 21, 4, 96, 46, 28, 160, 0, 7, 4, 167, 0, 4, 3, 62, 132, 4, 1, 167, 255, 216]
abbrev dktX7_isListed_1 : List UInt8 := dkwX7_isListed_1 ++ dktX7_isListed_2
def dkwX7_isListed_0 : List UInt8 := [3, 62, 3, 54, 4, 21, 4, 42, 180, 0, 42, 27, 46, 162, 0, 35, 29, 154, 0, 19, 42, 180, 0, 39]
abbrev dktX7_isListed_0 : List UInt8 := dkwX7_isListed_0 ++ dktX7_isListed_1
theorem dksX7_isListed_0 : cX7_isListed.data.toList.drop 0 = dktX7_isListed_0 := by decide +kernel
theorem dksX7_isListed_1 : cX7_isListed.data.toList.drop 24 = dktX7_isListed_1 := dk_seg dksX7_isListed_0 24 rfl rfl
theorem dksX7_isListed_2 : cX7_isListed.data.toList.drop 48 = dktX7_isListed_2 := dk_seg dksX7_isListed_1 24 rfl rfl
theorem dX7_isListed_0 : decode cX7_isListed 0 = .ok (.iconst 0, 1) := dk_3 (dk_at dksX7_isListed_0 0 rfl rfl)
theorem dX7_isListed_1 : decode cX7_isListed 1 = .ok (.istore_n 3, 1) := dk_62 (dk_at dksX7_isListed_0 1 rfl rfl)
theorem dX7_isListed_2 : decode cX7_isListed 2 = .ok (.iconst 0, 1) := dk_3 (dk_at dksX7_isListed_0 2 rfl rfl)
theorem dX7_isListed_3 : decode cX7_isListed 3 = .ok (.istore 4, 2) := dk_54 4 (dk_at dksX7_isListed_0 3 rfl rfl)
theorem dX7_isListed_5 : decode cX7_isListed 5 = .ok (.iload 4, 2) := dk_21 4 (dk_at dksX7_isListed_0 5 rfl rfl)
theorem dX7_isListed_7 : decode cX7_isListed 7 = .ok (.aload_n 0, 1) := dk_42 (dk_at dksX7_isListed_0 7 rfl rfl)
theorem dX7_isListed_8 : decode cX7_isListed 8 = .ok (.getfield 42, 3) := dk_180 0 42 (dk_at dksX7_isListed_0 8 rfl rfl)
theorem dX7_isListed_11 : decode cX7_isListed 11 = .ok (.iload_n 1, 1) := dk_27 (dk_at dksX7_isListed_0 11 rfl rfl)
theorem dX7_isListed_12 : decode cX7_isListed 12 = .ok (.iaload, 1) := dk_46 (dk_at dksX7_isListed_0 12 rfl rfl)
theorem dX7_isListed_13 : decode cX7_isListed 13 = .ok (.if_icmp .ge 35, 3) := dk_162 0 35 (dk_at dksX7_isListed_0 13 rfl rfl)
theorem dX7_isListed_16 : decode cX7_isListed 16 = .ok (.iload_n 3, 1) := dk_29 (dk_at dksX7_isListed_0 16 rfl rfl)
theorem dX7_isListed_17 : decode cX7_isListed 17 = .ok (.ifCond .ne 19, 3) := dk_154 0 19 (dk_at dksX7_isListed_0 17 rfl rfl)
theorem dX7_isListed_20 : decode cX7_isListed 20 = .ok (.aload_n 0, 1) := dk_42 (dk_at dksX7_isListed_0 20 rfl rfl)
theorem dX7_isListed_21 : decode cX7_isListed 21 = .ok (.getfield 39, 3) := dk_180 0 39 (dk_at dksX7_isListed_0 21 rfl rfl)
theorem dX7_isListed_24 : decode cX7_isListed 24 = .ok (.bipush 60, 2) := dk_16 60 (dk_at dksX7_isListed_1 0 rfl rfl)
theorem dX7_isListed_26 : decode cX7_isListed 26 = .ok (.iload_n 1, 1) := dk_27 (dk_at dksX7_isListed_1 2 rfl rfl)
theorem dX7_isListed_27 : decode cX7_isListed 27 = .ok (.imul, 1) := dk_104 (dk_at dksX7_isListed_1 3 rfl rfl)
theorem dX7_isListed_28 : decode cX7_isListed 28 = .ok (.iload 4, 2) := dk_21 4 (dk_at dksX7_isListed_1 4 rfl rfl)
theorem dX7_isListed_30 : decode cX7_isListed 30 = .ok (.iadd, 1) := dk_96 (dk_at dksX7_isListed_1 6 rfl rfl)
theorem dX7_isListed_31 : decode cX7_isListed 31 = .ok (.iaload, 1) := dk_46 (dk_at dksX7_isListed_1 7 rfl rfl)
theorem dX7_isListed_32 : decode cX7_isListed 32 = .ok (.iload_n 2, 1) := dk_28 (dk_at dksX7_isListed_1 8 rfl rfl)
theorem dX7_isListed_33 : decode cX7_isListed 33 = .ok (.if_icmp .ne 7, 3) := dk_160 0 7 (dk_at dksX7_isListed_1 9 rfl rfl)
theorem dX7_isListed_36 : decode cX7_isListed 36 = .ok (.iconst 1, 1) := dk_4 (dk_at dksX7_isListed_1 12 rfl rfl)
theorem dX7_isListed_37 : decode cX7_isListed 37 = .ok (.goto 4, 3) := dk_167 0 4 (dk_at dksX7_isListed_1 13 rfl rfl)
theorem dX7_isListed_40 : decode cX7_isListed 40 = .ok (.iconst 0, 1) := dk_3 (dk_at dksX7_isListed_1 16 rfl rfl)
theorem dX7_isListed_41 : decode cX7_isListed 41 = .ok (.istore_n 3, 1) := dk_62 (dk_at dksX7_isListed_1 17 rfl rfl)
theorem dX7_isListed_42 : decode cX7_isListed 42 = .ok (.iinc 4 1, 3) := dk_132 4 1 (dk_at dksX7_isListed_1 18 rfl rfl)
theorem dX7_isListed_45 : decode cX7_isListed 45 = .ok (.goto (-40), 3) := dk_167 255 216 (dk_at dksX7_isListed_1 21 rfl rfl)
theorem dX7_isListed_48 : decode cX7_isListed 48 = .ok (.iload_n 3, 1) := dk_29 (dk_at dksX7_isListed_2 0 rfl rfl)
theorem dX7_isListed_49 : decode cX7_isListed 49 = .ok (.ireturn, 1) := dk_172 (dk_at dksX7_isListed_2 1 rfl rfl)
abbrev cX7_takeOver : ByteArray := prog_30_method_9_code
def yX7_takeOver : MethodName := ⟨RX7, "takeOver", "(II)V"⟩
def dkwX7_takeOver_2 : List UInt8 := [4, 167, 0, 4, 3, 84, 132, 3, 1, 167, 255, 201, 177]
abbrev dktX7_takeOver_2 : List UInt8 := dkwX7_takeOver_2 ++ []
def dkwX7_takeOver_1 : List UInt8 := [16, 60, 27, 104, 29, 96, 51, 154, 0, 17, 42, 180, 0, 35, 16, 60, 28, 104, 29, 96, 51, 153, 0, 7]
abbrev dktX7_takeOver_1 : List UInt8 := dkwX7_takeOver_1 ++ dktX7_takeOver_2
def dkwX7_takeOver_0 : List UInt8 := [3, 62, 29, 42, 180, 0, 7, 162, 0, 53, 42, 180, 0, 35, 16, 60, 27, 104, 29, 96, 42, 180, 0, 35]
abbrev dktX7_takeOver_0 : List UInt8 := dkwX7_takeOver_0 ++ dktX7_takeOver_1
theorem dksX7_takeOver_0 : cX7_takeOver.data.toList.drop 0 = dktX7_takeOver_0 := by decide +kernel
theorem dksX7_takeOver_1 : cX7_takeOver.data.toList.drop 24 = dktX7_takeOver_1 := dk_seg dksX7_takeOver_0 24 rfl rfl
theorem dksX7_takeOver_2 : cX7_takeOver.data.toList.drop 48 = dktX7_takeOver_2 := dk_seg dksX7_takeOver_1 24 rfl rfl
theorem dX7_takeOver_0 : decode cX7_takeOver 0 = .ok (.iconst 0, 1) := dk_3 (dk_at dksX7_takeOver_0 0 rfl rfl)
theorem dX7_takeOver_1 : decode cX7_takeOver 1 = .ok (.istore_n 3, 1) := dk_62 (dk_at dksX7_takeOver_0 1 rfl rfl)
theorem dX7_takeOver_2 : decode cX7_takeOver 2 = .ok (.iload_n 3, 1) := dk_29 (dk_at dksX7_takeOver_0 2 rfl rfl)
theorem dX7_takeOver_3 : decode cX7_takeOver 3 = .ok (.aload_n 0, 1) := dk_42 (dk_at dksX7_takeOver_0 3 rfl rfl)
theorem dX7_takeOver_4 : decode cX7_takeOver 4 = .ok (.getfield 7, 3) := dk_180 0 7 (dk_at dksX7_takeOver_0 4 rfl rfl)
theorem dX7_takeOver_7 : decode cX7_takeOver 7 = .ok (.if_icmp .ge 53, 3) := dk_162 0 53 (dk_at dksX7_takeOver_0 7 rfl rfl)
theorem dX7_takeOver_10 : decode cX7_takeOver 10 = .ok (.aload_n 0, 1) := dk_42 (dk_at dksX7_takeOver_0 10 rfl rfl)
theorem dX7_takeOver_11 : decode cX7_takeOver 11 = .ok (.getfield 35, 3) := dk_180 0 35 (dk_at dksX7_takeOver_0 11 rfl rfl)
theorem dX7_takeOver_14 : decode cX7_takeOver 14 = .ok (.bipush 60, 2) := dk_16 60 (dk_at dksX7_takeOver_0 14 rfl rfl)
theorem dX7_takeOver_16 : decode cX7_takeOver 16 = .ok (.iload_n 1, 1) := dk_27 (dk_at dksX7_takeOver_0 16 rfl rfl)
theorem dX7_takeOver_17 : decode cX7_takeOver 17 = .ok (.imul, 1) := dk_104 (dk_at dksX7_takeOver_0 17 rfl rfl)
theorem dX7_takeOver_18 : decode cX7_takeOver 18 = .ok (.iload_n 3, 1) := dk_29 (dk_at dksX7_takeOver_0 18 rfl rfl)
theorem dX7_takeOver_19 : decode cX7_takeOver 19 = .ok (.iadd, 1) := dk_96 (dk_at dksX7_takeOver_0 19 rfl rfl)
theorem dX7_takeOver_20 : decode cX7_takeOver 20 = .ok (.aload_n 0, 1) := dk_42 (dk_at dksX7_takeOver_0 20 rfl rfl)
theorem dX7_takeOver_21 : decode cX7_takeOver 21 = .ok (.getfield 35, 3) := dk_180 0 35 (dk_at dksX7_takeOver_0 21 rfl rfl)
theorem dX7_takeOver_24 : decode cX7_takeOver 24 = .ok (.bipush 60, 2) := dk_16 60 (dk_at dksX7_takeOver_1 0 rfl rfl)
theorem dX7_takeOver_26 : decode cX7_takeOver 26 = .ok (.iload_n 1, 1) := dk_27 (dk_at dksX7_takeOver_1 2 rfl rfl)
theorem dX7_takeOver_27 : decode cX7_takeOver 27 = .ok (.imul, 1) := dk_104 (dk_at dksX7_takeOver_1 3 rfl rfl)
theorem dX7_takeOver_28 : decode cX7_takeOver 28 = .ok (.iload_n 3, 1) := dk_29 (dk_at dksX7_takeOver_1 4 rfl rfl)
theorem dX7_takeOver_29 : decode cX7_takeOver 29 = .ok (.iadd, 1) := dk_96 (dk_at dksX7_takeOver_1 5 rfl rfl)
theorem dX7_takeOver_30 : decode cX7_takeOver 30 = .ok (.baload, 1) := dk_51 (dk_at dksX7_takeOver_1 6 rfl rfl)
theorem dX7_takeOver_31 : decode cX7_takeOver 31 = .ok (.ifCond .ne 17, 3) := dk_154 0 17 (dk_at dksX7_takeOver_1 7 rfl rfl)
theorem dX7_takeOver_34 : decode cX7_takeOver 34 = .ok (.aload_n 0, 1) := dk_42 (dk_at dksX7_takeOver_1 10 rfl rfl)
theorem dX7_takeOver_35 : decode cX7_takeOver 35 = .ok (.getfield 35, 3) := dk_180 0 35 (dk_at dksX7_takeOver_1 11 rfl rfl)
theorem dX7_takeOver_38 : decode cX7_takeOver 38 = .ok (.bipush 60, 2) := dk_16 60 (dk_at dksX7_takeOver_1 14 rfl rfl)
theorem dX7_takeOver_40 : decode cX7_takeOver 40 = .ok (.iload_n 2, 1) := dk_28 (dk_at dksX7_takeOver_1 16 rfl rfl)
theorem dX7_takeOver_41 : decode cX7_takeOver 41 = .ok (.imul, 1) := dk_104 (dk_at dksX7_takeOver_1 17 rfl rfl)
theorem dX7_takeOver_42 : decode cX7_takeOver 42 = .ok (.iload_n 3, 1) := dk_29 (dk_at dksX7_takeOver_1 18 rfl rfl)
theorem dX7_takeOver_43 : decode cX7_takeOver 43 = .ok (.iadd, 1) := dk_96 (dk_at dksX7_takeOver_1 19 rfl rfl)
theorem dX7_takeOver_44 : decode cX7_takeOver 44 = .ok (.baload, 1) := dk_51 (dk_at dksX7_takeOver_1 20 rfl rfl)
theorem dX7_takeOver_45 : decode cX7_takeOver 45 = .ok (.ifCond .eq 7, 3) := dk_153 0 7 (dk_at dksX7_takeOver_1 21 rfl rfl)
theorem dX7_takeOver_48 : decode cX7_takeOver 48 = .ok (.iconst 1, 1) := dk_4 (dk_at dksX7_takeOver_2 0 rfl rfl)
theorem dX7_takeOver_49 : decode cX7_takeOver 49 = .ok (.goto 4, 3) := dk_167 0 4 (dk_at dksX7_takeOver_2 1 rfl rfl)
theorem dX7_takeOver_52 : decode cX7_takeOver 52 = .ok (.iconst 0, 1) := dk_3 (dk_at dksX7_takeOver_2 4 rfl rfl)
theorem dX7_takeOver_53 : decode cX7_takeOver 53 = .ok (.bastore, 1) := dk_84 (dk_at dksX7_takeOver_2 5 rfl rfl)
theorem dX7_takeOver_54 : decode cX7_takeOver 54 = .ok (.iinc 3 1, 3) := dk_132 3 1 (dk_at dksX7_takeOver_2 6 rfl rfl)
theorem dX7_takeOver_57 : decode cX7_takeOver 57 = .ok (.goto (-55), 3) := dk_167 255 201 (dk_at dksX7_takeOver_2 9 rfl rfl)
theorem dX7_takeOver_60 : decode cX7_takeOver 60 = .ok (.return_, 1) := dk_177 (dk_at dksX7_takeOver_2 12 rfl rfl)
abbrev cX7_listAll : ByteArray := prog_30_method_12_code
def yX7_listAll : MethodName := ⟨RX7, "listAll", "(IIZ)V"⟩
def dkwX7_listAll_2 : List UInt8 := [132, 4, 1, 167, 255, 210, 177]
abbrev dktX7_listAll_2 : List UInt8 := dkwX7_listAll_2 ++ []
def dkwX7_listAll_1 : List UInt8 := [96, 46, 54, 5, 29, 154, 0, 10, 21, 5, 16, 8, 159, 0, 10, 42, 27, 21, 5, 182, 0, 142]
abbrev dktX7_listAll_1 : List UInt8 := dkwX7_listAll_1 ++ dktX7_listAll_2
def dkwX7_listAll_0 : List UInt8 := [3, 54, 4, 21, 4, 42, 180, 0, 42, 28, 46, 162, 0, 41, 42, 180, 0, 39, 16, 60, 28, 104, 21, 4]
abbrev dktX7_listAll_0 : List UInt8 := dkwX7_listAll_0 ++ dktX7_listAll_1
theorem dksX7_listAll_0 : cX7_listAll.data.toList.drop 0 = dktX7_listAll_0 := by decide +kernel
theorem dksX7_listAll_1 : cX7_listAll.data.toList.drop 24 = dktX7_listAll_1 := dk_seg dksX7_listAll_0 24 rfl rfl
theorem dksX7_listAll_2 : cX7_listAll.data.toList.drop 46 = dktX7_listAll_2 := dk_seg dksX7_listAll_1 22 rfl rfl
theorem dX7_listAll_0 : decode cX7_listAll 0 = .ok (.iconst 0, 1) := dk_3 (dk_at dksX7_listAll_0 0 rfl rfl)
theorem dX7_listAll_1 : decode cX7_listAll 1 = .ok (.istore 4, 2) := dk_54 4 (dk_at dksX7_listAll_0 1 rfl rfl)
theorem dX7_listAll_3 : decode cX7_listAll 3 = .ok (.iload 4, 2) := dk_21 4 (dk_at dksX7_listAll_0 3 rfl rfl)
theorem dX7_listAll_5 : decode cX7_listAll 5 = .ok (.aload_n 0, 1) := dk_42 (dk_at dksX7_listAll_0 5 rfl rfl)
theorem dX7_listAll_6 : decode cX7_listAll 6 = .ok (.getfield 42, 3) := dk_180 0 42 (dk_at dksX7_listAll_0 6 rfl rfl)
theorem dX7_listAll_9 : decode cX7_listAll 9 = .ok (.iload_n 2, 1) := dk_28 (dk_at dksX7_listAll_0 9 rfl rfl)
theorem dX7_listAll_10 : decode cX7_listAll 10 = .ok (.iaload, 1) := dk_46 (dk_at dksX7_listAll_0 10 rfl rfl)
theorem dX7_listAll_11 : decode cX7_listAll 11 = .ok (.if_icmp .ge 41, 3) := dk_162 0 41 (dk_at dksX7_listAll_0 11 rfl rfl)
theorem dX7_listAll_14 : decode cX7_listAll 14 = .ok (.aload_n 0, 1) := dk_42 (dk_at dksX7_listAll_0 14 rfl rfl)
theorem dX7_listAll_15 : decode cX7_listAll 15 = .ok (.getfield 39, 3) := dk_180 0 39 (dk_at dksX7_listAll_0 15 rfl rfl)
theorem dX7_listAll_18 : decode cX7_listAll 18 = .ok (.bipush 60, 2) := dk_16 60 (dk_at dksX7_listAll_0 18 rfl rfl)
theorem dX7_listAll_20 : decode cX7_listAll 20 = .ok (.iload_n 2, 1) := dk_28 (dk_at dksX7_listAll_0 20 rfl rfl)
theorem dX7_listAll_21 : decode cX7_listAll 21 = .ok (.imul, 1) := dk_104 (dk_at dksX7_listAll_0 21 rfl rfl)
theorem dX7_listAll_22 : decode cX7_listAll 22 = .ok (.iload 4, 2) := dk_21 4 (dk_at dksX7_listAll_0 22 rfl rfl)
theorem dX7_listAll_24 : decode cX7_listAll 24 = .ok (.iadd, 1) := dk_96 (dk_at dksX7_listAll_1 0 rfl rfl)
theorem dX7_listAll_25 : decode cX7_listAll 25 = .ok (.iaload, 1) := dk_46 (dk_at dksX7_listAll_1 1 rfl rfl)
theorem dX7_listAll_26 : decode cX7_listAll 26 = .ok (.istore 5, 2) := dk_54 5 (dk_at dksX7_listAll_1 2 rfl rfl)
theorem dX7_listAll_28 : decode cX7_listAll 28 = .ok (.iload_n 3, 1) := dk_29 (dk_at dksX7_listAll_1 4 rfl rfl)
theorem dX7_listAll_29 : decode cX7_listAll 29 = .ok (.ifCond .ne 10, 3) := dk_154 0 10 (dk_at dksX7_listAll_1 5 rfl rfl)
theorem dX7_listAll_32 : decode cX7_listAll 32 = .ok (.iload 5, 2) := dk_21 5 (dk_at dksX7_listAll_1 8 rfl rfl)
theorem dX7_listAll_34 : decode cX7_listAll 34 = .ok (.bipush 8, 2) := dk_16 8 (dk_at dksX7_listAll_1 10 rfl rfl)
theorem dX7_listAll_36 : decode cX7_listAll 36 = .ok (.if_icmp .eq 10, 3) := dk_159 0 10 (dk_at dksX7_listAll_1 12 rfl rfl)
theorem dX7_listAll_39 : decode cX7_listAll 39 = .ok (.aload_n 0, 1) := dk_42 (dk_at dksX7_listAll_1 15 rfl rfl)
theorem dX7_listAll_40 : decode cX7_listAll 40 = .ok (.iload_n 1, 1) := dk_27 (dk_at dksX7_listAll_1 16 rfl rfl)
theorem dX7_listAll_41 : decode cX7_listAll 41 = .ok (.iload 5, 2) := dk_21 5 (dk_at dksX7_listAll_1 17 rfl rfl)
theorem dX7_listAll_43 : decode cX7_listAll 43 = .ok (.invokevirtual 142, 3) := dk_182 0 142 (dk_at dksX7_listAll_1 19 rfl rfl)
theorem dX7_listAll_46 : decode cX7_listAll 46 = .ok (.iinc 4 1, 3) := dk_132 4 1 (dk_at dksX7_listAll_2 0 rfl rfl)
theorem dX7_listAll_49 : decode cX7_listAll 49 = .ok (.goto (-46), 3) := dk_167 255 210 (dk_at dksX7_listAll_2 3 rfl rfl)
theorem dX7_listAll_52 : decode cX7_listAll 52 = .ok (.return_, 1) := dk_177 (dk_at dksX7_listAll_2 6 rfl rfl)
abbrev cX7_type : ByteArray := prog_30_method_17_code
def yX7_type : MethodName := ⟨RX7, "type", "(IIZ)I"⟩
def dkwX7_type_2 : List UInt8 := [28, 182, 0, 161, 172]
abbrev dktX7_type_2 : List UInt8 := dkwX7_type_2 ++ []
def dkwX7_type_1 : List UInt8 := [180, 0, 7, 16, 60, 160, 0, 8, 16, 253, 167, 0, 18, 42, 29, 153, 0, 7, 5, 167, 0, 4, 4, 27]
abbrev dktX7_type_1 : List UInt8 := dkwX7_type_1 ++ dktX7_type_2
def dkwX7_type_0 : List UInt8 := [42, 27, 182, 0, 135, 153, 0, 15, 28, 133, 9, 20, 0, 159, 184, 0, 127, 154, 0, 5, 2, 172, 42]
abbrev dktX7_type_0 : List UInt8 := dkwX7_type_0 ++ dktX7_type_1
theorem dksX7_type_0 : cX7_type.data.toList.drop 0 = dktX7_type_0 := by decide +kernel
theorem dksX7_type_1 : cX7_type.data.toList.drop 23 = dktX7_type_1 := dk_seg dksX7_type_0 23 rfl rfl
theorem dksX7_type_2 : cX7_type.data.toList.drop 47 = dktX7_type_2 := dk_seg dksX7_type_1 24 rfl rfl
theorem dX7_type_0 : decode cX7_type 0 = .ok (.aload_n 0, 1) := dk_42 (dk_at dksX7_type_0 0 rfl rfl)
theorem dX7_type_1 : decode cX7_type 1 = .ok (.iload_n 1, 1) := dk_27 (dk_at dksX7_type_0 1 rfl rfl)
theorem dX7_type_2 : decode cX7_type 2 = .ok (.invokevirtual 135, 3) := dk_182 0 135 (dk_at dksX7_type_0 2 rfl rfl)
theorem dX7_type_5 : decode cX7_type 5 = .ok (.ifCond .eq 15, 3) := dk_153 0 15 (dk_at dksX7_type_0 5 rfl rfl)
theorem dX7_type_8 : decode cX7_type 8 = .ok (.iload_n 2, 1) := dk_28 (dk_at dksX7_type_0 8 rfl rfl)
theorem dX7_type_9 : decode cX7_type 9 = .ok (.i2l, 1) := dk_133 (dk_at dksX7_type_0 9 rfl rfl)
theorem dX7_type_10 : decode cX7_type 10 = .ok (.lconst 0, 1) := dk_9 (dk_at dksX7_type_0 10 rfl rfl)
theorem dX7_type_11 : decode cX7_type 11 = .ok (.ldc2_w 159, 3) := dk_20 0 159 (dk_at dksX7_type_0 11 rfl rfl)
theorem dX7_type_14 : decode cX7_type 14 = .ok (.invokestatic 127, 3) := dk_184 0 127 (dk_at dksX7_type_0 14 rfl rfl)
theorem dX7_type_17 : decode cX7_type 17 = .ok (.ifCond .ne 5, 3) := dk_154 0 5 (dk_at dksX7_type_0 17 rfl rfl)
theorem dX7_type_20 : decode cX7_type 20 = .ok (.iconst (-1), 1) := dk_2 (dk_at dksX7_type_0 20 rfl rfl)
theorem dX7_type_21 : decode cX7_type 21 = .ok (.ireturn, 1) := dk_172 (dk_at dksX7_type_0 21 rfl rfl)
theorem dX7_type_22 : decode cX7_type 22 = .ok (.aload_n 0, 1) := dk_42 (dk_at dksX7_type_0 22 rfl rfl)
theorem dX7_type_23 : decode cX7_type 23 = .ok (.getfield 7, 3) := dk_180 0 7 (dk_at dksX7_type_1 0 rfl rfl)
theorem dX7_type_26 : decode cX7_type 26 = .ok (.bipush 60, 2) := dk_16 60 (dk_at dksX7_type_1 3 rfl rfl)
theorem dX7_type_28 : decode cX7_type 28 = .ok (.if_icmp .ne 8, 3) := dk_160 0 8 (dk_at dksX7_type_1 5 rfl rfl)
theorem dX7_type_31 : decode cX7_type 31 = .ok (.bipush (-3), 2) := dk_16 253 (dk_at dksX7_type_1 8 rfl rfl)
theorem dX7_type_33 : decode cX7_type 33 = .ok (.goto 18, 3) := dk_167 0 18 (dk_at dksX7_type_1 10 rfl rfl)
theorem dX7_type_36 : decode cX7_type 36 = .ok (.aload_n 0, 1) := dk_42 (dk_at dksX7_type_1 13 rfl rfl)
theorem dX7_type_37 : decode cX7_type 37 = .ok (.iload_n 3, 1) := dk_29 (dk_at dksX7_type_1 14 rfl rfl)
theorem dX7_type_38 : decode cX7_type 38 = .ok (.ifCond .eq 7, 3) := dk_153 0 7 (dk_at dksX7_type_1 15 rfl rfl)
theorem dX7_type_41 : decode cX7_type 41 = .ok (.iconst 2, 1) := dk_5 (dk_at dksX7_type_1 18 rfl rfl)
theorem dX7_type_42 : decode cX7_type 42 = .ok (.goto 4, 3) := dk_167 0 4 (dk_at dksX7_type_1 19 rfl rfl)
theorem dX7_type_45 : decode cX7_type 45 = .ok (.iconst 1, 1) := dk_4 (dk_at dksX7_type_1 22 rfl rfl)
theorem dX7_type_46 : decode cX7_type 46 = .ok (.iload_n 1, 1) := dk_27 (dk_at dksX7_type_1 23 rfl rfl)
theorem dX7_type_47 : decode cX7_type 47 = .ok (.iload_n 2, 1) := dk_28 (dk_at dksX7_type_2 0 rfl rfl)
theorem dX7_type_48 : decode cX7_type 48 = .ok (.invokevirtual 161, 3) := dk_182 0 161 (dk_at dksX7_type_2 1 rfl rfl)
theorem dX7_type_51 : decode cX7_type 51 = .ok (.ireturn, 1) := dk_172 (dk_at dksX7_type_2 4 rfl rfl)
abbrev cX7_isClass : ByteArray := prog_30_method_6_code
def yX7_isClass : MethodName := ⟨RX7, "isClass", "(I)Z"⟩
def dkwX7_isClass_1 : List UInt8 := [5, 160, 0, 7, 4, 167, 0, 4, 3, 172]
abbrev dktX7_isClass_1 : List UInt8 := dkwX7_isClass_1 ++ []
def dkwX7_isClass_0 : List UInt8 := [42, 27, 182, 0, 131, 153, 0, 27, 42, 180, 0, 13, 27, 46, 4, 159, 0, 13, 42, 180, 0, 13, 27, 46]
abbrev dktX7_isClass_0 : List UInt8 := dkwX7_isClass_0 ++ dktX7_isClass_1
theorem dksX7_isClass_0 : cX7_isClass.data.toList.drop 0 = dktX7_isClass_0 := by decide +kernel
theorem dksX7_isClass_1 : cX7_isClass.data.toList.drop 24 = dktX7_isClass_1 := dk_seg dksX7_isClass_0 24 rfl rfl
theorem dX7_isClass_0 : decode cX7_isClass 0 = .ok (.aload_n 0, 1) := dk_42 (dk_at dksX7_isClass_0 0 rfl rfl)
theorem dX7_isClass_1 : decode cX7_isClass 1 = .ok (.iload_n 1, 1) := dk_27 (dk_at dksX7_isClass_0 1 rfl rfl)
theorem dX7_isClass_2 : decode cX7_isClass 2 = .ok (.invokevirtual 131, 3) := dk_182 0 131 (dk_at dksX7_isClass_0 2 rfl rfl)
theorem dX7_isClass_5 : decode cX7_isClass 5 = .ok (.ifCond .eq 27, 3) := dk_153 0 27 (dk_at dksX7_isClass_0 5 rfl rfl)
theorem dX7_isClass_8 : decode cX7_isClass 8 = .ok (.aload_n 0, 1) := dk_42 (dk_at dksX7_isClass_0 8 rfl rfl)
theorem dX7_isClass_9 : decode cX7_isClass 9 = .ok (.getfield 13, 3) := dk_180 0 13 (dk_at dksX7_isClass_0 9 rfl rfl)
theorem dX7_isClass_12 : decode cX7_isClass 12 = .ok (.iload_n 1, 1) := dk_27 (dk_at dksX7_isClass_0 12 rfl rfl)
theorem dX7_isClass_13 : decode cX7_isClass 13 = .ok (.iaload, 1) := dk_46 (dk_at dksX7_isClass_0 13 rfl rfl)
theorem dX7_isClass_14 : decode cX7_isClass 14 = .ok (.iconst 1, 1) := dk_4 (dk_at dksX7_isClass_0 14 rfl rfl)
theorem dX7_isClass_15 : decode cX7_isClass 15 = .ok (.if_icmp .eq 13, 3) := dk_159 0 13 (dk_at dksX7_isClass_0 15 rfl rfl)
theorem dX7_isClass_18 : decode cX7_isClass 18 = .ok (.aload_n 0, 1) := dk_42 (dk_at dksX7_isClass_0 18 rfl rfl)
theorem dX7_isClass_19 : decode cX7_isClass 19 = .ok (.getfield 13, 3) := dk_180 0 13 (dk_at dksX7_isClass_0 19 rfl rfl)
theorem dX7_isClass_22 : decode cX7_isClass 22 = .ok (.iload_n 1, 1) := dk_27 (dk_at dksX7_isClass_0 22 rfl rfl)
theorem dX7_isClass_23 : decode cX7_isClass 23 = .ok (.iaload, 1) := dk_46 (dk_at dksX7_isClass_0 23 rfl rfl)
theorem dX7_isClass_24 : decode cX7_isClass 24 = .ok (.iconst 2, 1) := dk_5 (dk_at dksX7_isClass_1 0 rfl rfl)
theorem dX7_isClass_25 : decode cX7_isClass 25 = .ok (.if_icmp .ne 7, 3) := dk_160 0 7 (dk_at dksX7_isClass_1 1 rfl rfl)
theorem dX7_isClass_28 : decode cX7_isClass 28 = .ok (.iconst 1, 1) := dk_4 (dk_at dksX7_isClass_1 4 rfl rfl)
theorem dX7_isClass_29 : decode cX7_isClass 29 = .ok (.goto 4, 3) := dk_167 0 4 (dk_at dksX7_isClass_1 5 rfl rfl)
theorem dX7_isClass_32 : decode cX7_isClass 32 = .ok (.iconst 0, 1) := dk_3 (dk_at dksX7_isClass_1 8 rfl rfl)
theorem dX7_isClass_33 : decode cX7_isClass 33 = .ok (.ireturn, 1) := dk_172 (dk_at dksX7_isClass_1 9 rfl rfl)
abbrev cX7_isType : ByteArray := prog_30_method_4_code
def yX7_isType : MethodName := ⟨RX7, "isType", "(I)Z"⟩
def dkwX7_isType_0 : List UInt8 := [27, 133, 9, 42, 180, 0, 7, 4, 100, 133, 184, 0, 127, 172]
abbrev dktX7_isType_0 : List UInt8 := dkwX7_isType_0 ++ []
theorem dksX7_isType_0 : cX7_isType.data.toList.drop 0 = dktX7_isType_0 := by decide +kernel
theorem dX7_isType_0 : decode cX7_isType 0 = .ok (.iload_n 1, 1) := dk_27 (dk_at dksX7_isType_0 0 rfl rfl)
theorem dX7_isType_1 : decode cX7_isType 1 = .ok (.i2l, 1) := dk_133 (dk_at dksX7_isType_0 1 rfl rfl)
theorem dX7_isType_2 : decode cX7_isType 2 = .ok (.lconst 0, 1) := dk_9 (dk_at dksX7_isType_0 2 rfl rfl)
theorem dX7_isType_3 : decode cX7_isType 3 = .ok (.aload_n 0, 1) := dk_42 (dk_at dksX7_isType_0 3 rfl rfl)
theorem dX7_isType_4 : decode cX7_isType 4 = .ok (.getfield 7, 3) := dk_180 0 7 (dk_at dksX7_isType_0 4 rfl rfl)
theorem dX7_isType_7 : decode cX7_isType 7 = .ok (.iconst 1, 1) := dk_4 (dk_at dksX7_isType_0 7 rfl rfl)
theorem dX7_isType_8 : decode cX7_isType 8 = .ok (.isub, 1) := dk_100 (dk_at dksX7_isType_0 8 rfl rfl)
theorem dX7_isType_9 : decode cX7_isType 9 = .ok (.i2l, 1) := dk_133 (dk_at dksX7_isType_0 9 rfl rfl)
theorem dX7_isType_10 : decode cX7_isType 10 = .ok (.invokestatic 127, 3) := dk_184 0 127 (dk_at dksX7_isType_0 10 rfl rfl)
theorem dX7_isType_13 : decode cX7_isType 13 = .ok (.ireturn, 1) := dk_172 (dk_at dksX7_isType_0 13 rfl rfl)
abbrev cX7_in : ByteArray := prog_30_method_3_code
def yX7_in : MethodName := ⟨RX7, "in", "(JJJ)Z"⟩
def dkwX7_in_0 : List UInt8 := [30, 32, 148, 155, 0, 14, 30, 22, 4, 148, 157, 0, 7, 4, 167, 0, 4, 3, 172]
abbrev dktX7_in_0 : List UInt8 := dkwX7_in_0 ++ []
theorem dksX7_in_0 : cX7_in.data.toList.drop 0 = dktX7_in_0 := by decide +kernel
theorem dX7_in_0 : decode cX7_in 0 = .ok (.lload_n 0, 1) := dk_30 (dk_at dksX7_in_0 0 rfl rfl)
theorem dX7_in_1 : decode cX7_in 1 = .ok (.lload_n 2, 1) := dk_32 (dk_at dksX7_in_0 1 rfl rfl)
theorem dX7_in_2 : decode cX7_in 2 = .ok (.lcmp, 1) := dk_148 (dk_at dksX7_in_0 2 rfl rfl)
theorem dX7_in_3 : decode cX7_in 3 = .ok (.ifCond .lt 14, 3) := dk_155 0 14 (dk_at dksX7_in_0 3 rfl rfl)
theorem dX7_in_6 : decode cX7_in 6 = .ok (.lload_n 0, 1) := dk_30 (dk_at dksX7_in_0 6 rfl rfl)
theorem dX7_in_7 : decode cX7_in 7 = .ok (.lload 4, 2) := dk_22 4 (dk_at dksX7_in_0 7 rfl rfl)
theorem dX7_in_9 : decode cX7_in 9 = .ok (.lcmp, 1) := dk_148 (dk_at dksX7_in_0 9 rfl rfl)
theorem dX7_in_10 : decode cX7_in 10 = .ok (.ifCond .gt 7, 3) := dk_157 0 7 (dk_at dksX7_in_0 10 rfl rfl)
theorem dX7_in_13 : decode cX7_in 13 = .ok (.iconst 1, 1) := dk_4 (dk_at dksX7_in_0 13 rfl rfl)
theorem dX7_in_14 : decode cX7_in 14 = .ok (.goto 4, 3) := dk_167 0 4 (dk_at dksX7_in_0 14 rfl rfl)
theorem dX7_in_17 : decode cX7_in 17 = .ok (.iconst 0, 1) := dk_3 (dk_at dksX7_in_0 17 rfl rfl)
theorem dX7_in_18 : decode cX7_in 18 = .ok (.ireturn, 1) := dk_172 (dk_at dksX7_in_0 18 rfl rfl)
abbrev cX7_newType : ByteArray := prog_30_method_16_code
def yX7_newType : MethodName := ⟨RX7, "newType", "(III)I"⟩
def dkwX7_newType_1 : List UInt8 := [42, 180, 0, 17, 21, 4, 28, 79, 42, 180, 0, 20, 21, 4, 29, 79, 42, 182, 0, 124, 21, 4, 172]
abbrev dktX7_newType_1 : List UInt8 := dkwX7_newType_1 ++ []
def dkwX7_newType_0 : List UInt8 := [42, 180, 0, 7, 54, 4, 42, 89, 180, 0, 7, 4, 96, 181, 0, 7, 42, 180, 0, 13, 21, 4, 27, 79]
abbrev dktX7_newType_0 : List UInt8 := dkwX7_newType_0 ++ dktX7_newType_1
theorem dksX7_newType_0 : cX7_newType.data.toList.drop 0 = dktX7_newType_0 := by decide +kernel
theorem dksX7_newType_1 : cX7_newType.data.toList.drop 24 = dktX7_newType_1 := dk_seg dksX7_newType_0 24 rfl rfl
theorem dX7_newType_0 : decode cX7_newType 0 = .ok (.aload_n 0, 1) := dk_42 (dk_at dksX7_newType_0 0 rfl rfl)
theorem dX7_newType_1 : decode cX7_newType 1 = .ok (.getfield 7, 3) := dk_180 0 7 (dk_at dksX7_newType_0 1 rfl rfl)
theorem dX7_newType_4 : decode cX7_newType 4 = .ok (.istore 4, 2) := dk_54 4 (dk_at dksX7_newType_0 4 rfl rfl)
theorem dX7_newType_6 : decode cX7_newType 6 = .ok (.aload_n 0, 1) := dk_42 (dk_at dksX7_newType_0 6 rfl rfl)
theorem dX7_newType_7 : decode cX7_newType 7 = .ok (.dup, 1) := dk_89 (dk_at dksX7_newType_0 7 rfl rfl)
theorem dX7_newType_8 : decode cX7_newType 8 = .ok (.getfield 7, 3) := dk_180 0 7 (dk_at dksX7_newType_0 8 rfl rfl)
theorem dX7_newType_11 : decode cX7_newType 11 = .ok (.iconst 1, 1) := dk_4 (dk_at dksX7_newType_0 11 rfl rfl)
theorem dX7_newType_12 : decode cX7_newType 12 = .ok (.iadd, 1) := dk_96 (dk_at dksX7_newType_0 12 rfl rfl)
theorem dX7_newType_13 : decode cX7_newType 13 = .ok (.putfield 7, 3) := dk_181 0 7 (dk_at dksX7_newType_0 13 rfl rfl)
theorem dX7_newType_16 : decode cX7_newType 16 = .ok (.aload_n 0, 1) := dk_42 (dk_at dksX7_newType_0 16 rfl rfl)
theorem dX7_newType_17 : decode cX7_newType 17 = .ok (.getfield 13, 3) := dk_180 0 13 (dk_at dksX7_newType_0 17 rfl rfl)
theorem dX7_newType_20 : decode cX7_newType 20 = .ok (.iload 4, 2) := dk_21 4 (dk_at dksX7_newType_0 20 rfl rfl)
theorem dX7_newType_22 : decode cX7_newType 22 = .ok (.iload_n 1, 1) := dk_27 (dk_at dksX7_newType_0 22 rfl rfl)
theorem dX7_newType_23 : decode cX7_newType 23 = .ok (.iastore, 1) := dk_79 (dk_at dksX7_newType_0 23 rfl rfl)
theorem dX7_newType_24 : decode cX7_newType 24 = .ok (.aload_n 0, 1) := dk_42 (dk_at dksX7_newType_1 0 rfl rfl)
theorem dX7_newType_25 : decode cX7_newType 25 = .ok (.getfield 17, 3) := dk_180 0 17 (dk_at dksX7_newType_1 1 rfl rfl)
theorem dX7_newType_28 : decode cX7_newType 28 = .ok (.iload 4, 2) := dk_21 4 (dk_at dksX7_newType_1 4 rfl rfl)
theorem dX7_newType_30 : decode cX7_newType 30 = .ok (.iload_n 2, 1) := dk_28 (dk_at dksX7_newType_1 6 rfl rfl)
theorem dX7_newType_31 : decode cX7_newType 31 = .ok (.iastore, 1) := dk_79 (dk_at dksX7_newType_1 7 rfl rfl)
theorem dX7_newType_32 : decode cX7_newType 32 = .ok (.aload_n 0, 1) := dk_42 (dk_at dksX7_newType_1 8 rfl rfl)
theorem dX7_newType_33 : decode cX7_newType 33 = .ok (.getfield 20, 3) := dk_180 0 20 (dk_at dksX7_newType_1 9 rfl rfl)
theorem dX7_newType_36 : decode cX7_newType 36 = .ok (.iload 4, 2) := dk_21 4 (dk_at dksX7_newType_1 12 rfl rfl)
theorem dX7_newType_38 : decode cX7_newType 38 = .ok (.iload_n 3, 1) := dk_29 (dk_at dksX7_newType_1 14 rfl rfl)
theorem dX7_newType_39 : decode cX7_newType 39 = .ok (.iastore, 1) := dk_79 (dk_at dksX7_newType_1 15 rfl rfl)
theorem dX7_newType_40 : decode cX7_newType 40 = .ok (.aload_n 0, 1) := dk_42 (dk_at dksX7_newType_1 16 rfl rfl)
theorem dX7_newType_41 : decode cX7_newType 41 = .ok (.invokevirtual 124, 3) := dk_182 0 124 (dk_at dksX7_newType_1 17 rfl rfl)
theorem dX7_newType_44 : decode cX7_newType 44 = .ok (.iload 4, 2) := dk_21 4 (dk_at dksX7_newType_1 20 rfl rfl)
theorem dX7_newType_46 : decode cX7_newType 46 = .ok (.ireturn, 1) := dk_172 (dk_at dksX7_newType_1 22 rfl rfl)
abbrev cX7_face : ByteArray := prog_30_method_18_code
def yX7_face : MethodName := ⟨RX7, "face", "(I)I"⟩
def dkwX7_face_1 : List UInt8 := [16, 253, 167, 0, 10, 42, 6, 2, 27, 182, 0, 161, 172]
abbrev dktX7_face_1 : List UInt8 := dkwX7_face_1 ++ []
def dkwX7_face_0 : List UInt8 := [27, 133, 9, 20, 0, 159, 184, 0, 127, 154, 0, 5, 2, 172, 42, 180, 0, 7, 16, 60, 160, 0, 8]
abbrev dktX7_face_0 : List UInt8 := dkwX7_face_0 ++ dktX7_face_1
theorem dksX7_face_0 : cX7_face.data.toList.drop 0 = dktX7_face_0 := by decide +kernel
theorem dksX7_face_1 : cX7_face.data.toList.drop 23 = dktX7_face_1 := dk_seg dksX7_face_0 23 rfl rfl
theorem dX7_face_0 : decode cX7_face 0 = .ok (.iload_n 1, 1) := dk_27 (dk_at dksX7_face_0 0 rfl rfl)
theorem dX7_face_1 : decode cX7_face 1 = .ok (.i2l, 1) := dk_133 (dk_at dksX7_face_0 1 rfl rfl)
theorem dX7_face_2 : decode cX7_face 2 = .ok (.lconst 0, 1) := dk_9 (dk_at dksX7_face_0 2 rfl rfl)
theorem dX7_face_3 : decode cX7_face 3 = .ok (.ldc2_w 159, 3) := dk_20 0 159 (dk_at dksX7_face_0 3 rfl rfl)
theorem dX7_face_6 : decode cX7_face 6 = .ok (.invokestatic 127, 3) := dk_184 0 127 (dk_at dksX7_face_0 6 rfl rfl)
theorem dX7_face_9 : decode cX7_face 9 = .ok (.ifCond .ne 5, 3) := dk_154 0 5 (dk_at dksX7_face_0 9 rfl rfl)
theorem dX7_face_12 : decode cX7_face 12 = .ok (.iconst (-1), 1) := dk_2 (dk_at dksX7_face_0 12 rfl rfl)
theorem dX7_face_13 : decode cX7_face 13 = .ok (.ireturn, 1) := dk_172 (dk_at dksX7_face_0 13 rfl rfl)
theorem dX7_face_14 : decode cX7_face 14 = .ok (.aload_n 0, 1) := dk_42 (dk_at dksX7_face_0 14 rfl rfl)
theorem dX7_face_15 : decode cX7_face 15 = .ok (.getfield 7, 3) := dk_180 0 7 (dk_at dksX7_face_0 15 rfl rfl)
theorem dX7_face_18 : decode cX7_face 18 = .ok (.bipush 60, 2) := dk_16 60 (dk_at dksX7_face_0 18 rfl rfl)
theorem dX7_face_20 : decode cX7_face 20 = .ok (.if_icmp .ne 8, 3) := dk_160 0 8 (dk_at dksX7_face_0 20 rfl rfl)
theorem dX7_face_23 : decode cX7_face 23 = .ok (.bipush (-3), 2) := dk_16 253 (dk_at dksX7_face_1 0 rfl rfl)
theorem dX7_face_25 : decode cX7_face 25 = .ok (.goto 10, 3) := dk_167 0 10 (dk_at dksX7_face_1 2 rfl rfl)
theorem dX7_face_28 : decode cX7_face 28 = .ok (.aload_n 0, 1) := dk_42 (dk_at dksX7_face_1 5 rfl rfl)
theorem dX7_face_29 : decode cX7_face 29 = .ok (.iconst 3, 1) := dk_6 (dk_at dksX7_face_1 6 rfl rfl)
theorem dX7_face_30 : decode cX7_face 30 = .ok (.iconst (-1), 1) := dk_2 (dk_at dksX7_face_1 7 rfl rfl)
theorem dX7_face_31 : decode cX7_face 31 = .ok (.iload_n 1, 1) := dk_27 (dk_at dksX7_face_1 8 rfl rfl)
theorem dX7_face_32 : decode cX7_face 32 = .ok (.invokevirtual 161, 3) := dk_182 0 161 (dk_at dksX7_face_1 9 rfl rfl)
theorem dX7_face_35 : decode cX7_face 35 = .ok (.ireturn, 1) := dk_172 (dk_at dksX7_face_1 12 rfl rfl)
abbrev cX7_rows : ByteArray := prog_30_method_19_code
def yX7_rows : MethodName := ⟨RX7, "rows", "(I)I"⟩
def dkwX7_rows_3 : List UInt8 := [167, 0, 9, 42, 180, 0, 20, 27, 46, 182, 0, 161, 172]
abbrev dktX7_rows_3 : List UInt8 := dkwX7_rows_3 ++ []
def dkwX7_rows_2 : List UInt8 := [79, 42, 180, 0, 26, 27, 42, 180, 0, 7, 79, 42, 7, 16, 8, 27, 16, 8, 162, 0, 7, 3]
abbrev dktX7_rows_2 : List UInt8 := dkwX7_rows_2 ++ dktX7_rows_3
def dkwX7_rows_1 : List UInt8 := [27, 46, 172, 42, 180, 0, 7, 16, 60, 160, 0, 6, 16, 253, 172, 42, 180, 0, 23, 42, 180, 0, 7, 27]
abbrev dktX7_rows_1 : List UInt8 := dkwX7_rows_1 ++ dktX7_rows_2
def dkwX7_rows_0 : List UInt8 := [42, 27, 182, 0, 131, 154, 0, 5, 2, 172, 42, 180, 0, 26, 27, 46, 2, 159, 0, 10, 42, 180, 0, 26]
abbrev dktX7_rows_0 : List UInt8 := dkwX7_rows_0 ++ dktX7_rows_1
theorem dksX7_rows_0 : cX7_rows.data.toList.drop 0 = dktX7_rows_0 := by decide +kernel
theorem dksX7_rows_1 : cX7_rows.data.toList.drop 24 = dktX7_rows_1 := dk_seg dksX7_rows_0 24 rfl rfl
theorem dksX7_rows_2 : cX7_rows.data.toList.drop 48 = dktX7_rows_2 := dk_seg dksX7_rows_1 24 rfl rfl
theorem dksX7_rows_3 : cX7_rows.data.toList.drop 70 = dktX7_rows_3 := dk_seg dksX7_rows_2 22 rfl rfl
theorem dX7_rows_0 : decode cX7_rows 0 = .ok (.aload_n 0, 1) := dk_42 (dk_at dksX7_rows_0 0 rfl rfl)
theorem dX7_rows_1 : decode cX7_rows 1 = .ok (.iload_n 1, 1) := dk_27 (dk_at dksX7_rows_0 1 rfl rfl)
theorem dX7_rows_2 : decode cX7_rows 2 = .ok (.invokevirtual 131, 3) := dk_182 0 131 (dk_at dksX7_rows_0 2 rfl rfl)
theorem dX7_rows_5 : decode cX7_rows 5 = .ok (.ifCond .ne 5, 3) := dk_154 0 5 (dk_at dksX7_rows_0 5 rfl rfl)
theorem dX7_rows_8 : decode cX7_rows 8 = .ok (.iconst (-1), 1) := dk_2 (dk_at dksX7_rows_0 8 rfl rfl)
theorem dX7_rows_9 : decode cX7_rows 9 = .ok (.ireturn, 1) := dk_172 (dk_at dksX7_rows_0 9 rfl rfl)
theorem dX7_rows_10 : decode cX7_rows 10 = .ok (.aload_n 0, 1) := dk_42 (dk_at dksX7_rows_0 10 rfl rfl)
theorem dX7_rows_11 : decode cX7_rows 11 = .ok (.getfield 26, 3) := dk_180 0 26 (dk_at dksX7_rows_0 11 rfl rfl)
theorem dX7_rows_14 : decode cX7_rows 14 = .ok (.iload_n 1, 1) := dk_27 (dk_at dksX7_rows_0 14 rfl rfl)
theorem dX7_rows_15 : decode cX7_rows 15 = .ok (.iaload, 1) := dk_46 (dk_at dksX7_rows_0 15 rfl rfl)
theorem dX7_rows_16 : decode cX7_rows 16 = .ok (.iconst (-1), 1) := dk_2 (dk_at dksX7_rows_0 16 rfl rfl)
theorem dX7_rows_17 : decode cX7_rows 17 = .ok (.if_icmp .eq 10, 3) := dk_159 0 10 (dk_at dksX7_rows_0 17 rfl rfl)
theorem dX7_rows_20 : decode cX7_rows 20 = .ok (.aload_n 0, 1) := dk_42 (dk_at dksX7_rows_0 20 rfl rfl)
theorem dX7_rows_21 : decode cX7_rows 21 = .ok (.getfield 26, 3) := dk_180 0 26 (dk_at dksX7_rows_0 21 rfl rfl)
theorem dX7_rows_24 : decode cX7_rows 24 = .ok (.iload_n 1, 1) := dk_27 (dk_at dksX7_rows_1 0 rfl rfl)
theorem dX7_rows_25 : decode cX7_rows 25 = .ok (.iaload, 1) := dk_46 (dk_at dksX7_rows_1 1 rfl rfl)
theorem dX7_rows_26 : decode cX7_rows 26 = .ok (.ireturn, 1) := dk_172 (dk_at dksX7_rows_1 2 rfl rfl)
theorem dX7_rows_27 : decode cX7_rows 27 = .ok (.aload_n 0, 1) := dk_42 (dk_at dksX7_rows_1 3 rfl rfl)
theorem dX7_rows_28 : decode cX7_rows 28 = .ok (.getfield 7, 3) := dk_180 0 7 (dk_at dksX7_rows_1 4 rfl rfl)
theorem dX7_rows_31 : decode cX7_rows 31 = .ok (.bipush 60, 2) := dk_16 60 (dk_at dksX7_rows_1 7 rfl rfl)
theorem dX7_rows_33 : decode cX7_rows 33 = .ok (.if_icmp .ne 6, 3) := dk_160 0 6 (dk_at dksX7_rows_1 9 rfl rfl)
theorem dX7_rows_36 : decode cX7_rows 36 = .ok (.bipush (-3), 2) := dk_16 253 (dk_at dksX7_rows_1 12 rfl rfl)
theorem dX7_rows_38 : decode cX7_rows 38 = .ok (.ireturn, 1) := dk_172 (dk_at dksX7_rows_1 14 rfl rfl)
theorem dX7_rows_39 : decode cX7_rows 39 = .ok (.aload_n 0, 1) := dk_42 (dk_at dksX7_rows_1 15 rfl rfl)
theorem dX7_rows_40 : decode cX7_rows 40 = .ok (.getfield 23, 3) := dk_180 0 23 (dk_at dksX7_rows_1 16 rfl rfl)
theorem dX7_rows_43 : decode cX7_rows 43 = .ok (.aload_n 0, 1) := dk_42 (dk_at dksX7_rows_1 19 rfl rfl)
theorem dX7_rows_44 : decode cX7_rows 44 = .ok (.getfield 7, 3) := dk_180 0 7 (dk_at dksX7_rows_1 20 rfl rfl)
theorem dX7_rows_47 : decode cX7_rows 47 = .ok (.iload_n 1, 1) := dk_27 (dk_at dksX7_rows_1 23 rfl rfl)
theorem dX7_rows_48 : decode cX7_rows 48 = .ok (.iastore, 1) := dk_79 (dk_at dksX7_rows_2 0 rfl rfl)
theorem dX7_rows_49 : decode cX7_rows 49 = .ok (.aload_n 0, 1) := dk_42 (dk_at dksX7_rows_2 1 rfl rfl)
theorem dX7_rows_50 : decode cX7_rows 50 = .ok (.getfield 26, 3) := dk_180 0 26 (dk_at dksX7_rows_2 2 rfl rfl)
theorem dX7_rows_53 : decode cX7_rows 53 = .ok (.iload_n 1, 1) := dk_27 (dk_at dksX7_rows_2 5 rfl rfl)
theorem dX7_rows_54 : decode cX7_rows 54 = .ok (.aload_n 0, 1) := dk_42 (dk_at dksX7_rows_2 6 rfl rfl)
theorem dX7_rows_55 : decode cX7_rows 55 = .ok (.getfield 7, 3) := dk_180 0 7 (dk_at dksX7_rows_2 7 rfl rfl)
theorem dX7_rows_58 : decode cX7_rows 58 = .ok (.iastore, 1) := dk_79 (dk_at dksX7_rows_2 10 rfl rfl)
theorem dX7_rows_59 : decode cX7_rows 59 = .ok (.aload_n 0, 1) := dk_42 (dk_at dksX7_rows_2 11 rfl rfl)
theorem dX7_rows_60 : decode cX7_rows 60 = .ok (.iconst 4, 1) := dk_7 (dk_at dksX7_rows_2 12 rfl rfl)
theorem dX7_rows_61 : decode cX7_rows 61 = .ok (.bipush 8, 2) := dk_16 8 (dk_at dksX7_rows_2 13 rfl rfl)
theorem dX7_rows_63 : decode cX7_rows 63 = .ok (.iload_n 1, 1) := dk_27 (dk_at dksX7_rows_2 15 rfl rfl)
theorem dX7_rows_64 : decode cX7_rows 64 = .ok (.bipush 8, 2) := dk_16 8 (dk_at dksX7_rows_2 16 rfl rfl)
theorem dX7_rows_66 : decode cX7_rows 66 = .ok (.if_icmp .ge 7, 3) := dk_162 0 7 (dk_at dksX7_rows_2 18 rfl rfl)
theorem dX7_rows_69 : decode cX7_rows 69 = .ok (.iconst 0, 1) := dk_3 (dk_at dksX7_rows_2 21 rfl rfl)
theorem dX7_rows_70 : decode cX7_rows 70 = .ok (.goto 9, 3) := dk_167 0 9 (dk_at dksX7_rows_3 0 rfl rfl)
theorem dX7_rows_73 : decode cX7_rows 73 = .ok (.aload_n 0, 1) := dk_42 (dk_at dksX7_rows_3 3 rfl rfl)
theorem dX7_rows_74 : decode cX7_rows 74 = .ok (.getfield 20, 3) := dk_180 0 20 (dk_at dksX7_rows_3 4 rfl rfl)
theorem dX7_rows_77 : decode cX7_rows 77 = .ok (.iload_n 1, 1) := dk_27 (dk_at dksX7_rows_3 7 rfl rfl)
theorem dX7_rows_78 : decode cX7_rows 78 = .ok (.iaload, 1) := dk_46 (dk_at dksX7_rows_3 8 rfl rfl)
theorem dX7_rows_79 : decode cX7_rows 79 = .ok (.invokevirtual 161, 3) := dk_182 0 161 (dk_at dksX7_rows_3 9 rfl rfl)
theorem dX7_rows_82 : decode cX7_rows 82 = .ok (.ireturn, 1) := dk_172 (dk_at dksX7_rows_3 12 rfl rfl)
abbrev cX7_implement : ByteArray := prog_30_method_20_code
def yX7_implement : MethodName := ⟨RX7, "implement", "(II)I"⟩
def dkwX7_implement_6 : List UInt8 := [180, 0, 29, 27, 46, 172]
abbrev dktX7_implement_6 : List UInt8 := dkwX7_implement_6 ++ []
def dkwX7_implement_5 : List UInt8 := [180, 0, 29, 27, 46, 96, 28, 79, 42, 180, 0, 29, 27, 92, 46, 4, 96, 79, 42, 182, 0, 124, 42]
abbrev dktX7_implement_5 : List UInt8 := dkwX7_implement_5 ++ dktX7_implement_6
def dkwX7_implement_4 : List UInt8 := [16, 254, 172, 42, 180, 0, 29, 27, 46, 6, 160, 0, 6, 16, 253, 172, 42, 180, 0, 32, 6, 27, 104, 42]
abbrev dktX7_implement_4 : List UInt8 := dkwX7_implement_4 ++ dktX7_implement_5
def dkwX7_implement_3 : List UInt8 := [21, 4, 96, 46, 28, 160, 0, 7, 4, 167, 0, 4, 3, 62, 132, 4, 1, 167, 255, 217, 29, 153, 0, 6]
abbrev dktX7_implement_3 : List UInt8 := dkwX7_implement_3 ++ dktX7_implement_4
def dkwX7_implement_2 : List UInt8 := [54, 4, 21, 4, 42, 180, 0, 29, 27, 46, 162, 0, 34, 29, 154, 0, 18, 42, 180, 0, 32, 6, 27, 104]
abbrev dktX7_implement_2 : List UInt8 := dkwX7_implement_2 ++ dktX7_implement_3
def dkwX7_implement_1 : List UInt8 := [160, 0, 8, 28, 27, 161, 0, 5, 2, 172, 42, 180, 0, 168, 158, 0, 7, 4, 167, 0, 4, 3, 62, 3]
abbrev dktX7_implement_1 : List UInt8 := dkwX7_implement_1 ++ dktX7_implement_2
def dkwX7_implement_0 : List UInt8 := [42, 27, 182, 0, 165, 153, 0, 26, 42, 28, 182, 0, 131, 153, 0, 18, 42, 180, 0, 13, 28, 46, 6]
abbrev dktX7_implement_0 : List UInt8 := dkwX7_implement_0 ++ dktX7_implement_1
theorem dksX7_implement_0 : cX7_implement.data.toList.drop 0 = dktX7_implement_0 := by decide +kernel
theorem dksX7_implement_1 : cX7_implement.data.toList.drop 23 = dktX7_implement_1 := dk_seg dksX7_implement_0 23 rfl rfl
theorem dksX7_implement_2 : cX7_implement.data.toList.drop 47 = dktX7_implement_2 := dk_seg dksX7_implement_1 24 rfl rfl
theorem dksX7_implement_3 : cX7_implement.data.toList.drop 71 = dktX7_implement_3 := dk_seg dksX7_implement_2 24 rfl rfl
theorem dksX7_implement_4 : cX7_implement.data.toList.drop 95 = dktX7_implement_4 := dk_seg dksX7_implement_3 24 rfl rfl
theorem dksX7_implement_5 : cX7_implement.data.toList.drop 119 = dktX7_implement_5 := dk_seg dksX7_implement_4 24 rfl rfl
theorem dksX7_implement_6 : cX7_implement.data.toList.drop 142 = dktX7_implement_6 := dk_seg dksX7_implement_5 23 rfl rfl
theorem dX7_implement_0 : decode cX7_implement 0 = .ok (.aload_n 0, 1) := dk_42 (dk_at dksX7_implement_0 0 rfl rfl)
theorem dX7_implement_1 : decode cX7_implement 1 = .ok (.iload_n 1, 1) := dk_27 (dk_at dksX7_implement_0 1 rfl rfl)
theorem dX7_implement_2 : decode cX7_implement 2 = .ok (.invokevirtual 165, 3) := dk_182 0 165 (dk_at dksX7_implement_0 2 rfl rfl)
theorem dX7_implement_5 : decode cX7_implement 5 = .ok (.ifCond .eq 26, 3) := dk_153 0 26 (dk_at dksX7_implement_0 5 rfl rfl)
theorem dX7_implement_8 : decode cX7_implement 8 = .ok (.aload_n 0, 1) := dk_42 (dk_at dksX7_implement_0 8 rfl rfl)
theorem dX7_implement_9 : decode cX7_implement 9 = .ok (.iload_n 2, 1) := dk_28 (dk_at dksX7_implement_0 9 rfl rfl)
theorem dX7_implement_10 : decode cX7_implement 10 = .ok (.invokevirtual 131, 3) := dk_182 0 131 (dk_at dksX7_implement_0 10 rfl rfl)
theorem dX7_implement_13 : decode cX7_implement 13 = .ok (.ifCond .eq 18, 3) := dk_153 0 18 (dk_at dksX7_implement_0 13 rfl rfl)
theorem dX7_implement_16 : decode cX7_implement 16 = .ok (.aload_n 0, 1) := dk_42 (dk_at dksX7_implement_0 16 rfl rfl)
theorem dX7_implement_17 : decode cX7_implement 17 = .ok (.getfield 13, 3) := dk_180 0 13 (dk_at dksX7_implement_0 17 rfl rfl)
theorem dX7_implement_20 : decode cX7_implement 20 = .ok (.iload_n 2, 1) := dk_28 (dk_at dksX7_implement_0 20 rfl rfl)
theorem dX7_implement_21 : decode cX7_implement 21 = .ok (.iaload, 1) := dk_46 (dk_at dksX7_implement_0 21 rfl rfl)
theorem dX7_implement_22 : decode cX7_implement 22 = .ok (.iconst 3, 1) := dk_6 (dk_at dksX7_implement_0 22 rfl rfl)
theorem dX7_implement_23 : decode cX7_implement 23 = .ok (.if_icmp .ne 8, 3) := dk_160 0 8 (dk_at dksX7_implement_1 0 rfl rfl)
theorem dX7_implement_26 : decode cX7_implement 26 = .ok (.iload_n 2, 1) := dk_28 (dk_at dksX7_implement_1 3 rfl rfl)
theorem dX7_implement_27 : decode cX7_implement 27 = .ok (.iload_n 1, 1) := dk_27 (dk_at dksX7_implement_1 4 rfl rfl)
theorem dX7_implement_28 : decode cX7_implement 28 = .ok (.if_icmp .lt 5, 3) := dk_161 0 5 (dk_at dksX7_implement_1 5 rfl rfl)
theorem dX7_implement_31 : decode cX7_implement 31 = .ok (.iconst (-1), 1) := dk_2 (dk_at dksX7_implement_1 8 rfl rfl)
theorem dX7_implement_32 : decode cX7_implement 32 = .ok (.ireturn, 1) := dk_172 (dk_at dksX7_implement_1 9 rfl rfl)
theorem dX7_implement_33 : decode cX7_implement 33 = .ok (.aload_n 0, 1) := dk_42 (dk_at dksX7_implement_1 10 rfl rfl)
theorem dX7_implement_34 : decode cX7_implement 34 = .ok (.getfield 168, 3) := dk_180 0 168 (dk_at dksX7_implement_1 11 rfl rfl)
theorem dX7_implement_37 : decode cX7_implement 37 = .ok (.ifCond .le 7, 3) := dk_158 0 7 (dk_at dksX7_implement_1 14 rfl rfl)
theorem dX7_implement_40 : decode cX7_implement 40 = .ok (.iconst 1, 1) := dk_4 (dk_at dksX7_implement_1 17 rfl rfl)
theorem dX7_implement_41 : decode cX7_implement 41 = .ok (.goto 4, 3) := dk_167 0 4 (dk_at dksX7_implement_1 18 rfl rfl)
theorem dX7_implement_44 : decode cX7_implement 44 = .ok (.iconst 0, 1) := dk_3 (dk_at dksX7_implement_1 21 rfl rfl)
theorem dX7_implement_45 : decode cX7_implement 45 = .ok (.istore_n 3, 1) := dk_62 (dk_at dksX7_implement_1 22 rfl rfl)
theorem dX7_implement_46 : decode cX7_implement 46 = .ok (.iconst 0, 1) := dk_3 (dk_at dksX7_implement_1 23 rfl rfl)
theorem dX7_implement_47 : decode cX7_implement 47 = .ok (.istore 4, 2) := dk_54 4 (dk_at dksX7_implement_2 0 rfl rfl)
theorem dX7_implement_49 : decode cX7_implement 49 = .ok (.iload 4, 2) := dk_21 4 (dk_at dksX7_implement_2 2 rfl rfl)
theorem dX7_implement_51 : decode cX7_implement 51 = .ok (.aload_n 0, 1) := dk_42 (dk_at dksX7_implement_2 4 rfl rfl)
theorem dX7_implement_52 : decode cX7_implement 52 = .ok (.getfield 29, 3) := dk_180 0 29 (dk_at dksX7_implement_2 5 rfl rfl)
theorem dX7_implement_55 : decode cX7_implement 55 = .ok (.iload_n 1, 1) := dk_27 (dk_at dksX7_implement_2 8 rfl rfl)
theorem dX7_implement_56 : decode cX7_implement 56 = .ok (.iaload, 1) := dk_46 (dk_at dksX7_implement_2 9 rfl rfl)
theorem dX7_implement_57 : decode cX7_implement 57 = .ok (.if_icmp .ge 34, 3) := dk_162 0 34 (dk_at dksX7_implement_2 10 rfl rfl)
theorem dX7_implement_60 : decode cX7_implement 60 = .ok (.iload_n 3, 1) := dk_29 (dk_at dksX7_implement_2 13 rfl rfl)
theorem dX7_implement_61 : decode cX7_implement 61 = .ok (.ifCond .ne 18, 3) := dk_154 0 18 (dk_at dksX7_implement_2 14 rfl rfl)
theorem dX7_implement_64 : decode cX7_implement 64 = .ok (.aload_n 0, 1) := dk_42 (dk_at dksX7_implement_2 17 rfl rfl)
theorem dX7_implement_65 : decode cX7_implement 65 = .ok (.getfield 32, 3) := dk_180 0 32 (dk_at dksX7_implement_2 18 rfl rfl)
theorem dX7_implement_68 : decode cX7_implement 68 = .ok (.iconst 3, 1) := dk_6 (dk_at dksX7_implement_2 21 rfl rfl)
theorem dX7_implement_69 : decode cX7_implement 69 = .ok (.iload_n 1, 1) := dk_27 (dk_at dksX7_implement_2 22 rfl rfl)
theorem dX7_implement_70 : decode cX7_implement 70 = .ok (.imul, 1) := dk_104 (dk_at dksX7_implement_2 23 rfl rfl)
theorem dX7_implement_71 : decode cX7_implement 71 = .ok (.iload 4, 2) := dk_21 4 (dk_at dksX7_implement_3 0 rfl rfl)
theorem dX7_implement_73 : decode cX7_implement 73 = .ok (.iadd, 1) := dk_96 (dk_at dksX7_implement_3 2 rfl rfl)
theorem dX7_implement_74 : decode cX7_implement 74 = .ok (.iaload, 1) := dk_46 (dk_at dksX7_implement_3 3 rfl rfl)
theorem dX7_implement_75 : decode cX7_implement 75 = .ok (.iload_n 2, 1) := dk_28 (dk_at dksX7_implement_3 4 rfl rfl)
theorem dX7_implement_76 : decode cX7_implement 76 = .ok (.if_icmp .ne 7, 3) := dk_160 0 7 (dk_at dksX7_implement_3 5 rfl rfl)
theorem dX7_implement_79 : decode cX7_implement 79 = .ok (.iconst 1, 1) := dk_4 (dk_at dksX7_implement_3 8 rfl rfl)
theorem dX7_implement_80 : decode cX7_implement 80 = .ok (.goto 4, 3) := dk_167 0 4 (dk_at dksX7_implement_3 9 rfl rfl)
theorem dX7_implement_83 : decode cX7_implement 83 = .ok (.iconst 0, 1) := dk_3 (dk_at dksX7_implement_3 12 rfl rfl)
theorem dX7_implement_84 : decode cX7_implement 84 = .ok (.istore_n 3, 1) := dk_62 (dk_at dksX7_implement_3 13 rfl rfl)
theorem dX7_implement_85 : decode cX7_implement 85 = .ok (.iinc 4 1, 3) := dk_132 4 1 (dk_at dksX7_implement_3 14 rfl rfl)
theorem dX7_implement_88 : decode cX7_implement 88 = .ok (.goto (-39), 3) := dk_167 255 217 (dk_at dksX7_implement_3 17 rfl rfl)
theorem dX7_implement_91 : decode cX7_implement 91 = .ok (.iload_n 3, 1) := dk_29 (dk_at dksX7_implement_3 20 rfl rfl)
theorem dX7_implement_92 : decode cX7_implement 92 = .ok (.ifCond .eq 6, 3) := dk_153 0 6 (dk_at dksX7_implement_3 21 rfl rfl)
theorem dX7_implement_95 : decode cX7_implement 95 = .ok (.bipush (-2), 2) := dk_16 254 (dk_at dksX7_implement_4 0 rfl rfl)
theorem dX7_implement_97 : decode cX7_implement 97 = .ok (.ireturn, 1) := dk_172 (dk_at dksX7_implement_4 2 rfl rfl)
theorem dX7_implement_98 : decode cX7_implement 98 = .ok (.aload_n 0, 1) := dk_42 (dk_at dksX7_implement_4 3 rfl rfl)
theorem dX7_implement_99 : decode cX7_implement 99 = .ok (.getfield 29, 3) := dk_180 0 29 (dk_at dksX7_implement_4 4 rfl rfl)
theorem dX7_implement_102 : decode cX7_implement 102 = .ok (.iload_n 1, 1) := dk_27 (dk_at dksX7_implement_4 7 rfl rfl)
theorem dX7_implement_103 : decode cX7_implement 103 = .ok (.iaload, 1) := dk_46 (dk_at dksX7_implement_4 8 rfl rfl)
theorem dX7_implement_104 : decode cX7_implement 104 = .ok (.iconst 3, 1) := dk_6 (dk_at dksX7_implement_4 9 rfl rfl)
theorem dX7_implement_105 : decode cX7_implement 105 = .ok (.if_icmp .ne 6, 3) := dk_160 0 6 (dk_at dksX7_implement_4 10 rfl rfl)
theorem dX7_implement_108 : decode cX7_implement 108 = .ok (.bipush (-3), 2) := dk_16 253 (dk_at dksX7_implement_4 13 rfl rfl)
theorem dX7_implement_110 : decode cX7_implement 110 = .ok (.ireturn, 1) := dk_172 (dk_at dksX7_implement_4 15 rfl rfl)
theorem dX7_implement_111 : decode cX7_implement 111 = .ok (.aload_n 0, 1) := dk_42 (dk_at dksX7_implement_4 16 rfl rfl)
theorem dX7_implement_112 : decode cX7_implement 112 = .ok (.getfield 32, 3) := dk_180 0 32 (dk_at dksX7_implement_4 17 rfl rfl)
theorem dX7_implement_115 : decode cX7_implement 115 = .ok (.iconst 3, 1) := dk_6 (dk_at dksX7_implement_4 20 rfl rfl)
theorem dX7_implement_116 : decode cX7_implement 116 = .ok (.iload_n 1, 1) := dk_27 (dk_at dksX7_implement_4 21 rfl rfl)
theorem dX7_implement_117 : decode cX7_implement 117 = .ok (.imul, 1) := dk_104 (dk_at dksX7_implement_4 22 rfl rfl)
theorem dX7_implement_118 : decode cX7_implement 118 = .ok (.aload_n 0, 1) := dk_42 (dk_at dksX7_implement_4 23 rfl rfl)
theorem dX7_implement_119 : decode cX7_implement 119 = .ok (.getfield 29, 3) := dk_180 0 29 (dk_at dksX7_implement_5 0 rfl rfl)
theorem dX7_implement_122 : decode cX7_implement 122 = .ok (.iload_n 1, 1) := dk_27 (dk_at dksX7_implement_5 3 rfl rfl)
theorem dX7_implement_123 : decode cX7_implement 123 = .ok (.iaload, 1) := dk_46 (dk_at dksX7_implement_5 4 rfl rfl)
theorem dX7_implement_124 : decode cX7_implement 124 = .ok (.iadd, 1) := dk_96 (dk_at dksX7_implement_5 5 rfl rfl)
theorem dX7_implement_125 : decode cX7_implement 125 = .ok (.iload_n 2, 1) := dk_28 (dk_at dksX7_implement_5 6 rfl rfl)
theorem dX7_implement_126 : decode cX7_implement 126 = .ok (.iastore, 1) := dk_79 (dk_at dksX7_implement_5 7 rfl rfl)
theorem dX7_implement_127 : decode cX7_implement 127 = .ok (.aload_n 0, 1) := dk_42 (dk_at dksX7_implement_5 8 rfl rfl)
theorem dX7_implement_128 : decode cX7_implement 128 = .ok (.getfield 29, 3) := dk_180 0 29 (dk_at dksX7_implement_5 9 rfl rfl)
theorem dX7_implement_131 : decode cX7_implement 131 = .ok (.iload_n 1, 1) := dk_27 (dk_at dksX7_implement_5 12 rfl rfl)
theorem dX7_implement_132 : decode cX7_implement 132 = .ok (.dup2, 1) := dk_92 (dk_at dksX7_implement_5 13 rfl rfl)
theorem dX7_implement_133 : decode cX7_implement 133 = .ok (.iaload, 1) := dk_46 (dk_at dksX7_implement_5 14 rfl rfl)
theorem dX7_implement_134 : decode cX7_implement 134 = .ok (.iconst 1, 1) := dk_4 (dk_at dksX7_implement_5 15 rfl rfl)
theorem dX7_implement_135 : decode cX7_implement 135 = .ok (.iadd, 1) := dk_96 (dk_at dksX7_implement_5 16 rfl rfl)
theorem dX7_implement_136 : decode cX7_implement 136 = .ok (.iastore, 1) := dk_79 (dk_at dksX7_implement_5 17 rfl rfl)
theorem dX7_implement_137 : decode cX7_implement 137 = .ok (.aload_n 0, 1) := dk_42 (dk_at dksX7_implement_5 18 rfl rfl)
theorem dX7_implement_138 : decode cX7_implement 138 = .ok (.invokevirtual 124, 3) := dk_182 0 124 (dk_at dksX7_implement_5 19 rfl rfl)
theorem dX7_implement_141 : decode cX7_implement 141 = .ok (.aload_n 0, 1) := dk_42 (dk_at dksX7_implement_5 22 rfl rfl)
theorem dX7_implement_142 : decode cX7_implement 142 = .ok (.getfield 29, 3) := dk_180 0 29 (dk_at dksX7_implement_6 0 rfl rfl)
theorem dX7_implement_145 : decode cX7_implement 145 = .ok (.iload_n 1, 1) := dk_27 (dk_at dksX7_implement_6 3 rfl rfl)
theorem dX7_implement_146 : decode cX7_implement 146 = .ok (.iaload, 1) := dk_46 (dk_at dksX7_implement_6 4 rfl rfl)
theorem dX7_implement_147 : decode cX7_implement 147 = .ok (.ireturn, 1) := dk_172 (dk_at dksX7_implement_6 5 rfl rfl)
abbrev cX7_declares : ByteArray := prog_30_method_7_code
def yX7_declares : MethodName := ⟨RX7, "declares", "(I)Z"⟩
def dkwX7_declares_1 : List UInt8 := [180, 0, 13, 27, 46, 6, 160, 0, 7, 4, 167, 0, 4, 3, 172]
abbrev dktX7_declares_1 : List UInt8 := dkwX7_declares_1 ++ []
def dkwX7_declares_0 : List UInt8 := [42, 27, 182, 0, 131, 153, 0, 31, 27, 16, 8, 159, 0, 25, 42, 27, 182, 0, 135, 154, 0, 13, 42]
abbrev dktX7_declares_0 : List UInt8 := dkwX7_declares_0 ++ dktX7_declares_1
theorem dksX7_declares_0 : cX7_declares.data.toList.drop 0 = dktX7_declares_0 := by decide +kernel
theorem dksX7_declares_1 : cX7_declares.data.toList.drop 23 = dktX7_declares_1 := dk_seg dksX7_declares_0 23 rfl rfl
theorem dX7_declares_0 : decode cX7_declares 0 = .ok (.aload_n 0, 1) := dk_42 (dk_at dksX7_declares_0 0 rfl rfl)
theorem dX7_declares_1 : decode cX7_declares 1 = .ok (.iload_n 1, 1) := dk_27 (dk_at dksX7_declares_0 1 rfl rfl)
theorem dX7_declares_2 : decode cX7_declares 2 = .ok (.invokevirtual 131, 3) := dk_182 0 131 (dk_at dksX7_declares_0 2 rfl rfl)
theorem dX7_declares_5 : decode cX7_declares 5 = .ok (.ifCond .eq 31, 3) := dk_153 0 31 (dk_at dksX7_declares_0 5 rfl rfl)
theorem dX7_declares_8 : decode cX7_declares 8 = .ok (.iload_n 1, 1) := dk_27 (dk_at dksX7_declares_0 8 rfl rfl)
theorem dX7_declares_9 : decode cX7_declares 9 = .ok (.bipush 8, 2) := dk_16 8 (dk_at dksX7_declares_0 9 rfl rfl)
theorem dX7_declares_11 : decode cX7_declares 11 = .ok (.if_icmp .eq 25, 3) := dk_159 0 25 (dk_at dksX7_declares_0 11 rfl rfl)
theorem dX7_declares_14 : decode cX7_declares 14 = .ok (.aload_n 0, 1) := dk_42 (dk_at dksX7_declares_0 14 rfl rfl)
theorem dX7_declares_15 : decode cX7_declares 15 = .ok (.iload_n 1, 1) := dk_27 (dk_at dksX7_declares_0 15 rfl rfl)
theorem dX7_declares_16 : decode cX7_declares 16 = .ok (.invokevirtual 135, 3) := dk_182 0 135 (dk_at dksX7_declares_0 16 rfl rfl)
theorem dX7_declares_19 : decode cX7_declares 19 = .ok (.ifCond .ne 13, 3) := dk_154 0 13 (dk_at dksX7_declares_0 19 rfl rfl)
theorem dX7_declares_22 : decode cX7_declares 22 = .ok (.aload_n 0, 1) := dk_42 (dk_at dksX7_declares_0 22 rfl rfl)
theorem dX7_declares_23 : decode cX7_declares 23 = .ok (.getfield 13, 3) := dk_180 0 13 (dk_at dksX7_declares_1 0 rfl rfl)
theorem dX7_declares_26 : decode cX7_declares 26 = .ok (.iload_n 1, 1) := dk_27 (dk_at dksX7_declares_1 3 rfl rfl)
theorem dX7_declares_27 : decode cX7_declares 27 = .ok (.iaload, 1) := dk_46 (dk_at dksX7_declares_1 4 rfl rfl)
theorem dX7_declares_28 : decode cX7_declares 28 = .ok (.iconst 3, 1) := dk_6 (dk_at dksX7_declares_1 5 rfl rfl)
theorem dX7_declares_29 : decode cX7_declares 29 = .ok (.if_icmp .ne 7, 3) := dk_160 0 7 (dk_at dksX7_declares_1 6 rfl rfl)
theorem dX7_declares_32 : decode cX7_declares 32 = .ok (.iconst 1, 1) := dk_4 (dk_at dksX7_declares_1 9 rfl rfl)
theorem dX7_declares_33 : decode cX7_declares 33 = .ok (.goto 4, 3) := dk_167 0 4 (dk_at dksX7_declares_1 10 rfl rfl)
theorem dX7_declares_36 : decode cX7_declares 36 = .ok (.iconst 0, 1) := dk_3 (dk_at dksX7_declares_1 13 rfl rfl)
theorem dX7_declares_37 : decode cX7_declares 37 = .ok (.ireturn, 1) := dk_172 (dk_at dksX7_declares_1 14 rfl rfl)
abbrev cX7_about : ByteArray := prog_30_method_22_code
def yX7_about : MethodName := ⟨RX7, "about", "(II)I"⟩
def dkwX7_about_5 : List UInt8 := [162, 0, 19, 42, 180, 0, 32, 6, 27, 104, 28, 96, 16, 7, 100, 46, 167, 0, 4, 2, 172]
abbrev dktX7_about_5 : List UInt8 := dkwX7_about_5 ++ []
def dkwX7_about_4 : List UInt8 := [182, 0, 173, 153, 0, 7, 4, 167, 0, 4, 3, 172, 28, 16, 7, 100, 42, 180, 0, 29, 27, 46]
abbrev dktX7_about_4 : List UInt8 := dkwX7_about_4 ++ dktX7_about_5
def dkwX7_about_3 : List UInt8 := [180, 0, 20, 27, 46, 172, 42, 180, 0, 29, 27, 46, 172, 42, 180, 0, 42, 27, 46, 172, 42, 27]
abbrev dktX7_about_3 : List UInt8 := dkwX7_about_3 ++ dktX7_about_4
def dkwX7_about_2 : List UInt8 := [42, 180, 0, 13, 27, 46, 172, 42, 180, 0, 17, 27, 46, 172, 42, 180, 0, 23, 27, 46, 172, 42]
abbrev dktX7_about_2 : List UInt8 := dkwX7_about_2 ++ dktX7_about_3
def dkwX7_about_1 : List UInt8 := [170, 0, 0, 0, 97, 0, 0, 0, 0, 0, 0, 0, 6, 0, 0, 0, 41, 0, 0, 0, 48, 0, 0, 0, 55, 0, 0, 0, 62, 0, 0, 0, 69, 0, 0, 0, 76, 0, 0, 0, 83]
abbrev dktX7_about_1 : List UInt8 := dkwX7_about_1 ++ dktX7_about_2
def dkwX7_about_0 : List UInt8 := [42, 27, 182, 0, 131, 153, 0, 15, 28, 133, 9, 20, 0, 171, 184, 0, 127, 154, 0, 5, 2, 172, 28]
abbrev dktX7_about_0 : List UInt8 := dkwX7_about_0 ++ dktX7_about_1
theorem dksX7_about_0 : cX7_about.data.toList.drop 0 = dktX7_about_0 := by decide +kernel
theorem dksX7_about_1 : cX7_about.data.toList.drop 23 = dktX7_about_1 := dk_seg dksX7_about_0 23 rfl rfl
theorem dksX7_about_2 : cX7_about.data.toList.drop 64 = dktX7_about_2 := dk_seg dksX7_about_1 41 rfl rfl
theorem dksX7_about_3 : cX7_about.data.toList.drop 86 = dktX7_about_3 := dk_seg dksX7_about_2 22 rfl rfl
theorem dksX7_about_4 : cX7_about.data.toList.drop 108 = dktX7_about_4 := dk_seg dksX7_about_3 22 rfl rfl
theorem dksX7_about_5 : cX7_about.data.toList.drop 130 = dktX7_about_5 := dk_seg dksX7_about_4 22 rfl rfl
theorem dX7_about_0 : decode cX7_about 0 = .ok (.aload_n 0, 1) := dk_42 (dk_at dksX7_about_0 0 rfl rfl)
theorem dX7_about_1 : decode cX7_about 1 = .ok (.iload_n 1, 1) := dk_27 (dk_at dksX7_about_0 1 rfl rfl)
theorem dX7_about_2 : decode cX7_about 2 = .ok (.invokevirtual 131, 3) := dk_182 0 131 (dk_at dksX7_about_0 2 rfl rfl)
theorem dX7_about_5 : decode cX7_about 5 = .ok (.ifCond .eq 15, 3) := dk_153 0 15 (dk_at dksX7_about_0 5 rfl rfl)
theorem dX7_about_8 : decode cX7_about 8 = .ok (.iload_n 2, 1) := dk_28 (dk_at dksX7_about_0 8 rfl rfl)
theorem dX7_about_9 : decode cX7_about 9 = .ok (.i2l, 1) := dk_133 (dk_at dksX7_about_0 9 rfl rfl)
theorem dX7_about_10 : decode cX7_about 10 = .ok (.lconst 0, 1) := dk_9 (dk_at dksX7_about_0 10 rfl rfl)
theorem dX7_about_11 : decode cX7_about 11 = .ok (.ldc2_w 171, 3) := dk_20 0 171 (dk_at dksX7_about_0 11 rfl rfl)
theorem dX7_about_14 : decode cX7_about 14 = .ok (.invokestatic 127, 3) := dk_184 0 127 (dk_at dksX7_about_0 14 rfl rfl)
theorem dX7_about_17 : decode cX7_about 17 = .ok (.ifCond .ne 5, 3) := dk_154 0 5 (dk_at dksX7_about_0 17 rfl rfl)
theorem dX7_about_20 : decode cX7_about 20 = .ok (.iconst (-1), 1) := dk_2 (dk_at dksX7_about_0 20 rfl rfl)
theorem dX7_about_21 : decode cX7_about 21 = .ok (.ireturn, 1) := dk_172 (dk_at dksX7_about_0 21 rfl rfl)
theorem dX7_about_22 : decode cX7_about 22 = .ok (.iload_n 2, 1) := dk_28 (dk_at dksX7_about_0 22 rfl rfl)
theorem dX7_about_23 : decode cX7_about 23 = .ok (.tableswitch 97 0 6 #[41, 48, 55, 62, 69, 76, 83], 41) := by decide +kernel
theorem dX7_about_64 : decode cX7_about 64 = .ok (.aload_n 0, 1) := dk_42 (dk_at dksX7_about_2 0 rfl rfl)
theorem dX7_about_65 : decode cX7_about 65 = .ok (.getfield 13, 3) := dk_180 0 13 (dk_at dksX7_about_2 1 rfl rfl)
theorem dX7_about_68 : decode cX7_about 68 = .ok (.iload_n 1, 1) := dk_27 (dk_at dksX7_about_2 4 rfl rfl)
theorem dX7_about_69 : decode cX7_about 69 = .ok (.iaload, 1) := dk_46 (dk_at dksX7_about_2 5 rfl rfl)
theorem dX7_about_70 : decode cX7_about 70 = .ok (.ireturn, 1) := dk_172 (dk_at dksX7_about_2 6 rfl rfl)
theorem dX7_about_71 : decode cX7_about 71 = .ok (.aload_n 0, 1) := dk_42 (dk_at dksX7_about_2 7 rfl rfl)
theorem dX7_about_72 : decode cX7_about 72 = .ok (.getfield 17, 3) := dk_180 0 17 (dk_at dksX7_about_2 8 rfl rfl)
theorem dX7_about_75 : decode cX7_about 75 = .ok (.iload_n 1, 1) := dk_27 (dk_at dksX7_about_2 11 rfl rfl)
theorem dX7_about_76 : decode cX7_about 76 = .ok (.iaload, 1) := dk_46 (dk_at dksX7_about_2 12 rfl rfl)
theorem dX7_about_77 : decode cX7_about 77 = .ok (.ireturn, 1) := dk_172 (dk_at dksX7_about_2 13 rfl rfl)
theorem dX7_about_78 : decode cX7_about 78 = .ok (.aload_n 0, 1) := dk_42 (dk_at dksX7_about_2 14 rfl rfl)
theorem dX7_about_79 : decode cX7_about 79 = .ok (.getfield 23, 3) := dk_180 0 23 (dk_at dksX7_about_2 15 rfl rfl)
theorem dX7_about_82 : decode cX7_about 82 = .ok (.iload_n 1, 1) := dk_27 (dk_at dksX7_about_2 18 rfl rfl)
theorem dX7_about_83 : decode cX7_about 83 = .ok (.iaload, 1) := dk_46 (dk_at dksX7_about_2 19 rfl rfl)
theorem dX7_about_84 : decode cX7_about 84 = .ok (.ireturn, 1) := dk_172 (dk_at dksX7_about_2 20 rfl rfl)
theorem dX7_about_85 : decode cX7_about 85 = .ok (.aload_n 0, 1) := dk_42 (dk_at dksX7_about_2 21 rfl rfl)
theorem dX7_about_86 : decode cX7_about 86 = .ok (.getfield 20, 3) := dk_180 0 20 (dk_at dksX7_about_3 0 rfl rfl)
theorem dX7_about_89 : decode cX7_about 89 = .ok (.iload_n 1, 1) := dk_27 (dk_at dksX7_about_3 3 rfl rfl)
theorem dX7_about_90 : decode cX7_about 90 = .ok (.iaload, 1) := dk_46 (dk_at dksX7_about_3 4 rfl rfl)
theorem dX7_about_91 : decode cX7_about 91 = .ok (.ireturn, 1) := dk_172 (dk_at dksX7_about_3 5 rfl rfl)
theorem dX7_about_92 : decode cX7_about 92 = .ok (.aload_n 0, 1) := dk_42 (dk_at dksX7_about_3 6 rfl rfl)
theorem dX7_about_93 : decode cX7_about 93 = .ok (.getfield 29, 3) := dk_180 0 29 (dk_at dksX7_about_3 7 rfl rfl)
theorem dX7_about_96 : decode cX7_about 96 = .ok (.iload_n 1, 1) := dk_27 (dk_at dksX7_about_3 10 rfl rfl)
theorem dX7_about_97 : decode cX7_about 97 = .ok (.iaload, 1) := dk_46 (dk_at dksX7_about_3 11 rfl rfl)
theorem dX7_about_98 : decode cX7_about 98 = .ok (.ireturn, 1) := dk_172 (dk_at dksX7_about_3 12 rfl rfl)
theorem dX7_about_99 : decode cX7_about 99 = .ok (.aload_n 0, 1) := dk_42 (dk_at dksX7_about_3 13 rfl rfl)
theorem dX7_about_100 : decode cX7_about 100 = .ok (.getfield 42, 3) := dk_180 0 42 (dk_at dksX7_about_3 14 rfl rfl)
theorem dX7_about_103 : decode cX7_about 103 = .ok (.iload_n 1, 1) := dk_27 (dk_at dksX7_about_3 17 rfl rfl)
theorem dX7_about_104 : decode cX7_about 104 = .ok (.iaload, 1) := dk_46 (dk_at dksX7_about_3 18 rfl rfl)
theorem dX7_about_105 : decode cX7_about 105 = .ok (.ireturn, 1) := dk_172 (dk_at dksX7_about_3 19 rfl rfl)
theorem dX7_about_106 : decode cX7_about 106 = .ok (.aload_n 0, 1) := dk_42 (dk_at dksX7_about_3 20 rfl rfl)
theorem dX7_about_107 : decode cX7_about 107 = .ok (.iload_n 1, 1) := dk_27 (dk_at dksX7_about_3 21 rfl rfl)
theorem dX7_about_108 : decode cX7_about 108 = .ok (.invokevirtual 173, 3) := dk_182 0 173 (dk_at dksX7_about_4 0 rfl rfl)
theorem dX7_about_111 : decode cX7_about 111 = .ok (.ifCond .eq 7, 3) := dk_153 0 7 (dk_at dksX7_about_4 3 rfl rfl)
theorem dX7_about_114 : decode cX7_about 114 = .ok (.iconst 1, 1) := dk_4 (dk_at dksX7_about_4 6 rfl rfl)
theorem dX7_about_115 : decode cX7_about 115 = .ok (.goto 4, 3) := dk_167 0 4 (dk_at dksX7_about_4 7 rfl rfl)
theorem dX7_about_118 : decode cX7_about 118 = .ok (.iconst 0, 1) := dk_3 (dk_at dksX7_about_4 10 rfl rfl)
theorem dX7_about_119 : decode cX7_about 119 = .ok (.ireturn, 1) := dk_172 (dk_at dksX7_about_4 11 rfl rfl)
theorem dX7_about_120 : decode cX7_about 120 = .ok (.iload_n 2, 1) := dk_28 (dk_at dksX7_about_4 12 rfl rfl)
theorem dX7_about_121 : decode cX7_about 121 = .ok (.bipush 7, 2) := dk_16 7 (dk_at dksX7_about_4 13 rfl rfl)
theorem dX7_about_123 : decode cX7_about 123 = .ok (.isub, 1) := dk_100 (dk_at dksX7_about_4 15 rfl rfl)
theorem dX7_about_124 : decode cX7_about 124 = .ok (.aload_n 0, 1) := dk_42 (dk_at dksX7_about_4 16 rfl rfl)
theorem dX7_about_125 : decode cX7_about 125 = .ok (.getfield 29, 3) := dk_180 0 29 (dk_at dksX7_about_4 17 rfl rfl)
theorem dX7_about_128 : decode cX7_about 128 = .ok (.iload_n 1, 1) := dk_27 (dk_at dksX7_about_4 20 rfl rfl)
theorem dX7_about_129 : decode cX7_about 129 = .ok (.iaload, 1) := dk_46 (dk_at dksX7_about_4 21 rfl rfl)
theorem dX7_about_130 : decode cX7_about 130 = .ok (.if_icmp .ge 19, 3) := dk_162 0 19 (dk_at dksX7_about_5 0 rfl rfl)
theorem dX7_about_133 : decode cX7_about 133 = .ok (.aload_n 0, 1) := dk_42 (dk_at dksX7_about_5 3 rfl rfl)
theorem dX7_about_134 : decode cX7_about 134 = .ok (.getfield 32, 3) := dk_180 0 32 (dk_at dksX7_about_5 4 rfl rfl)
theorem dX7_about_137 : decode cX7_about 137 = .ok (.iconst 3, 1) := dk_6 (dk_at dksX7_about_5 7 rfl rfl)
theorem dX7_about_138 : decode cX7_about 138 = .ok (.iload_n 1, 1) := dk_27 (dk_at dksX7_about_5 8 rfl rfl)
theorem dX7_about_139 : decode cX7_about 139 = .ok (.imul, 1) := dk_104 (dk_at dksX7_about_5 9 rfl rfl)
theorem dX7_about_140 : decode cX7_about 140 = .ok (.iload_n 2, 1) := dk_28 (dk_at dksX7_about_5 10 rfl rfl)
theorem dX7_about_141 : decode cX7_about 141 = .ok (.iadd, 1) := dk_96 (dk_at dksX7_about_5 11 rfl rfl)
theorem dX7_about_142 : decode cX7_about 142 = .ok (.bipush 7, 2) := dk_16 7 (dk_at dksX7_about_5 12 rfl rfl)
theorem dX7_about_144 : decode cX7_about 144 = .ok (.isub, 1) := dk_100 (dk_at dksX7_about_5 14 rfl rfl)
theorem dX7_about_145 : decode cX7_about 145 = .ok (.iaload, 1) := dk_46 (dk_at dksX7_about_5 15 rfl rfl)
theorem dX7_about_146 : decode cX7_about 146 = .ok (.goto 4, 3) := dk_167 0 4 (dk_at dksX7_about_5 16 rfl rfl)
theorem dX7_about_149 : decode cX7_about 149 = .ok (.iconst (-1), 1) := dk_2 (dk_at dksX7_about_5 19 rfl rfl)
theorem dX7_about_150 : decode cX7_about 150 = .ok (.ireturn, 1) := dk_172 (dk_at dksX7_about_5 20 rfl rfl)
abbrev cX7_isClosed : ByteArray := prog_30_method_21_code
def yX7_isClosed : MethodName := ⟨RX7, "isClosed", "(I)Z"⟩
def dkwX7_isClosed_2 : List UInt8 := [132, 3, 1, 167, 255, 211, 28, 172]
abbrev dktX7_isClosed_2 : List UInt8 := dkwX7_isClosed_2 ++ []
def dkwX7_isClosed_1 : List UInt8 := [160, 0, 21, 42, 42, 180, 0, 88, 29, 46, 27, 182, 0, 156, 153, 0, 7, 4, 167, 0, 4, 3, 61]
abbrev dktX7_isClosed_1 : List UInt8 := dkwX7_isClosed_1 ++ dktX7_isClosed_2
def dkwX7_isClosed_0 : List UInt8 := [3, 61, 3, 62, 29, 42, 180, 0, 168, 162, 0, 43, 28, 154, 0, 27, 42, 180, 0, 91, 29, 46, 2]
abbrev dktX7_isClosed_0 : List UInt8 := dkwX7_isClosed_0 ++ dktX7_isClosed_1
theorem dksX7_isClosed_0 : cX7_isClosed.data.toList.drop 0 = dktX7_isClosed_0 := by decide +kernel
theorem dksX7_isClosed_1 : cX7_isClosed.data.toList.drop 23 = dktX7_isClosed_1 := dk_seg dksX7_isClosed_0 23 rfl rfl
theorem dksX7_isClosed_2 : cX7_isClosed.data.toList.drop 46 = dktX7_isClosed_2 := dk_seg dksX7_isClosed_1 23 rfl rfl
theorem dX7_isClosed_0 : decode cX7_isClosed 0 = .ok (.iconst 0, 1) := dk_3 (dk_at dksX7_isClosed_0 0 rfl rfl)
theorem dX7_isClosed_1 : decode cX7_isClosed 1 = .ok (.istore_n 2, 1) := dk_61 (dk_at dksX7_isClosed_0 1 rfl rfl)
theorem dX7_isClosed_2 : decode cX7_isClosed 2 = .ok (.iconst 0, 1) := dk_3 (dk_at dksX7_isClosed_0 2 rfl rfl)
theorem dX7_isClosed_3 : decode cX7_isClosed 3 = .ok (.istore_n 3, 1) := dk_62 (dk_at dksX7_isClosed_0 3 rfl rfl)
theorem dX7_isClosed_4 : decode cX7_isClosed 4 = .ok (.iload_n 3, 1) := dk_29 (dk_at dksX7_isClosed_0 4 rfl rfl)
theorem dX7_isClosed_5 : decode cX7_isClosed 5 = .ok (.aload_n 0, 1) := dk_42 (dk_at dksX7_isClosed_0 5 rfl rfl)
theorem dX7_isClosed_6 : decode cX7_isClosed 6 = .ok (.getfield 168, 3) := dk_180 0 168 (dk_at dksX7_isClosed_0 6 rfl rfl)
theorem dX7_isClosed_9 : decode cX7_isClosed 9 = .ok (.if_icmp .ge 43, 3) := dk_162 0 43 (dk_at dksX7_isClosed_0 9 rfl rfl)
theorem dX7_isClosed_12 : decode cX7_isClosed 12 = .ok (.iload_n 2, 1) := dk_28 (dk_at dksX7_isClosed_0 12 rfl rfl)
theorem dX7_isClosed_13 : decode cX7_isClosed 13 = .ok (.ifCond .ne 27, 3) := dk_154 0 27 (dk_at dksX7_isClosed_0 13 rfl rfl)
theorem dX7_isClosed_16 : decode cX7_isClosed 16 = .ok (.aload_n 0, 1) := dk_42 (dk_at dksX7_isClosed_0 16 rfl rfl)
theorem dX7_isClosed_17 : decode cX7_isClosed 17 = .ok (.getfield 91, 3) := dk_180 0 91 (dk_at dksX7_isClosed_0 17 rfl rfl)
theorem dX7_isClosed_20 : decode cX7_isClosed 20 = .ok (.iload_n 3, 1) := dk_29 (dk_at dksX7_isClosed_0 20 rfl rfl)
theorem dX7_isClosed_21 : decode cX7_isClosed 21 = .ok (.iaload, 1) := dk_46 (dk_at dksX7_isClosed_0 21 rfl rfl)
theorem dX7_isClosed_22 : decode cX7_isClosed 22 = .ok (.iconst (-1), 1) := dk_2 (dk_at dksX7_isClosed_0 22 rfl rfl)
theorem dX7_isClosed_23 : decode cX7_isClosed 23 = .ok (.if_icmp .ne 21, 3) := dk_160 0 21 (dk_at dksX7_isClosed_1 0 rfl rfl)
theorem dX7_isClosed_26 : decode cX7_isClosed 26 = .ok (.aload_n 0, 1) := dk_42 (dk_at dksX7_isClosed_1 3 rfl rfl)
theorem dX7_isClosed_27 : decode cX7_isClosed 27 = .ok (.aload_n 0, 1) := dk_42 (dk_at dksX7_isClosed_1 4 rfl rfl)
theorem dX7_isClosed_28 : decode cX7_isClosed 28 = .ok (.getfield 88, 3) := dk_180 0 88 (dk_at dksX7_isClosed_1 5 rfl rfl)
theorem dX7_isClosed_31 : decode cX7_isClosed 31 = .ok (.iload_n 3, 1) := dk_29 (dk_at dksX7_isClosed_1 8 rfl rfl)
theorem dX7_isClosed_32 : decode cX7_isClosed 32 = .ok (.iaload, 1) := dk_46 (dk_at dksX7_isClosed_1 9 rfl rfl)
theorem dX7_isClosed_33 : decode cX7_isClosed 33 = .ok (.iload_n 1, 1) := dk_27 (dk_at dksX7_isClosed_1 10 rfl rfl)
theorem dX7_isClosed_34 : decode cX7_isClosed 34 = .ok (.invokevirtual 156, 3) := dk_182 0 156 (dk_at dksX7_isClosed_1 11 rfl rfl)
theorem dX7_isClosed_37 : decode cX7_isClosed 37 = .ok (.ifCond .eq 7, 3) := dk_153 0 7 (dk_at dksX7_isClosed_1 14 rfl rfl)
theorem dX7_isClosed_40 : decode cX7_isClosed 40 = .ok (.iconst 1, 1) := dk_4 (dk_at dksX7_isClosed_1 17 rfl rfl)
theorem dX7_isClosed_41 : decode cX7_isClosed 41 = .ok (.goto 4, 3) := dk_167 0 4 (dk_at dksX7_isClosed_1 18 rfl rfl)
theorem dX7_isClosed_44 : decode cX7_isClosed 44 = .ok (.iconst 0, 1) := dk_3 (dk_at dksX7_isClosed_1 21 rfl rfl)
theorem dX7_isClosed_45 : decode cX7_isClosed 45 = .ok (.istore_n 2, 1) := dk_61 (dk_at dksX7_isClosed_1 22 rfl rfl)
theorem dX7_isClosed_46 : decode cX7_isClosed 46 = .ok (.iinc 3 1, 3) := dk_132 3 1 (dk_at dksX7_isClosed_2 0 rfl rfl)
theorem dX7_isClosed_49 : decode cX7_isClosed 49 = .ok (.goto (-45), 3) := dk_167 255 211 (dk_at dksX7_isClosed_2 3 rfl rfl)
theorem dX7_isClosed_52 : decode cX7_isClosed 52 = .ok (.iload_n 2, 1) := dk_28 (dk_at dksX7_isClosed_2 6 rfl rfl)
theorem dX7_isClosed_53 : decode cX7_isClosed 53 = .ok (.ireturn, 1) := dk_172 (dk_at dksX7_isClosed_2 7 rfl rfl)
abbrev cX7_isOne : ByteArray := prog_30_method_8_code
def yX7_isOne : MethodName := ⟨RX7, "isOne", "(II)Z"⟩
def dkwX7_isOne_0 : List UInt8 := [42, 180, 0, 35, 16, 60, 27, 104, 28, 96, 51, 172]
abbrev dktX7_isOne_0 : List UInt8 := dkwX7_isOne_0 ++ []
theorem dksX7_isOne_0 : cX7_isOne.data.toList.drop 0 = dktX7_isOne_0 := by decide +kernel
theorem dX7_isOne_0 : decode cX7_isOne 0 = .ok (.aload_n 0, 1) := dk_42 (dk_at dksX7_isOne_0 0 rfl rfl)
theorem dX7_isOne_1 : decode cX7_isOne 1 = .ok (.getfield 35, 3) := dk_180 0 35 (dk_at dksX7_isOne_0 1 rfl rfl)
theorem dX7_isOne_4 : decode cX7_isOne 4 = .ok (.bipush 60, 2) := dk_16 60 (dk_at dksX7_isOne_0 4 rfl rfl)
theorem dX7_isOne_6 : decode cX7_isOne 6 = .ok (.iload_n 1, 1) := dk_27 (dk_at dksX7_isOne_0 6 rfl rfl)
theorem dX7_isOne_7 : decode cX7_isOne 7 = .ok (.imul, 1) := dk_104 (dk_at dksX7_isOne_0 7 rfl rfl)
theorem dX7_isOne_8 : decode cX7_isOne 8 = .ok (.iload_n 2, 1) := dk_28 (dk_at dksX7_isOne_0 8 rfl rfl)
theorem dX7_isOne_9 : decode cX7_isOne 9 = .ok (.iadd, 1) := dk_96 (dk_at dksX7_isOne_0 9 rfl rfl)
theorem dX7_isOne_10 : decode cX7_isOne 10 = .ok (.baload, 1) := dk_51 (dk_at dksX7_isOne_0 10 rfl rfl)
theorem dX7_isOne_11 : decode cX7_isOne 11 = .ok (.ireturn, 1) := dk_172 (dk_at dksX7_isOne_0 11 rfl rfl)
abbrev cX7_ancestor : ByteArray := prog_30_method_23_code
def yX7_ancestor : MethodName := ⟨RX7, "ancestor", "(II)I"⟩
def dkwX7_ancestor_1 : List UInt8 := [153, 0, 17, 42, 180, 0, 39, 16, 60, 27, 104, 28, 96, 46, 167, 0, 4, 2, 172]
abbrev dktX7_ancestor_1 : List UInt8 := dkwX7_ancestor_1 ++ []
def dkwX7_ancestor_0 : List UInt8 := [42, 27, 182, 0, 131, 153, 0, 35, 28, 133, 9, 42, 180, 0, 42, 27, 46, 4, 100, 133, 184, 0, 127]
abbrev dktX7_ancestor_0 : List UInt8 := dkwX7_ancestor_0 ++ dktX7_ancestor_1
theorem dksX7_ancestor_0 : cX7_ancestor.data.toList.drop 0 = dktX7_ancestor_0 := by decide +kernel
theorem dksX7_ancestor_1 : cX7_ancestor.data.toList.drop 23 = dktX7_ancestor_1 := dk_seg dksX7_ancestor_0 23 rfl rfl
theorem dX7_ancestor_0 : decode cX7_ancestor 0 = .ok (.aload_n 0, 1) := dk_42 (dk_at dksX7_ancestor_0 0 rfl rfl)
theorem dX7_ancestor_1 : decode cX7_ancestor 1 = .ok (.iload_n 1, 1) := dk_27 (dk_at dksX7_ancestor_0 1 rfl rfl)
theorem dX7_ancestor_2 : decode cX7_ancestor 2 = .ok (.invokevirtual 131, 3) := dk_182 0 131 (dk_at dksX7_ancestor_0 2 rfl rfl)
theorem dX7_ancestor_5 : decode cX7_ancestor 5 = .ok (.ifCond .eq 35, 3) := dk_153 0 35 (dk_at dksX7_ancestor_0 5 rfl rfl)
theorem dX7_ancestor_8 : decode cX7_ancestor 8 = .ok (.iload_n 2, 1) := dk_28 (dk_at dksX7_ancestor_0 8 rfl rfl)
theorem dX7_ancestor_9 : decode cX7_ancestor 9 = .ok (.i2l, 1) := dk_133 (dk_at dksX7_ancestor_0 9 rfl rfl)
theorem dX7_ancestor_10 : decode cX7_ancestor 10 = .ok (.lconst 0, 1) := dk_9 (dk_at dksX7_ancestor_0 10 rfl rfl)
theorem dX7_ancestor_11 : decode cX7_ancestor 11 = .ok (.aload_n 0, 1) := dk_42 (dk_at dksX7_ancestor_0 11 rfl rfl)
theorem dX7_ancestor_12 : decode cX7_ancestor 12 = .ok (.getfield 42, 3) := dk_180 0 42 (dk_at dksX7_ancestor_0 12 rfl rfl)
theorem dX7_ancestor_15 : decode cX7_ancestor 15 = .ok (.iload_n 1, 1) := dk_27 (dk_at dksX7_ancestor_0 15 rfl rfl)
theorem dX7_ancestor_16 : decode cX7_ancestor 16 = .ok (.iaload, 1) := dk_46 (dk_at dksX7_ancestor_0 16 rfl rfl)
theorem dX7_ancestor_17 : decode cX7_ancestor 17 = .ok (.iconst 1, 1) := dk_4 (dk_at dksX7_ancestor_0 17 rfl rfl)
theorem dX7_ancestor_18 : decode cX7_ancestor 18 = .ok (.isub, 1) := dk_100 (dk_at dksX7_ancestor_0 18 rfl rfl)
theorem dX7_ancestor_19 : decode cX7_ancestor 19 = .ok (.i2l, 1) := dk_133 (dk_at dksX7_ancestor_0 19 rfl rfl)
theorem dX7_ancestor_20 : decode cX7_ancestor 20 = .ok (.invokestatic 127, 3) := dk_184 0 127 (dk_at dksX7_ancestor_0 20 rfl rfl)
theorem dX7_ancestor_23 : decode cX7_ancestor 23 = .ok (.ifCond .eq 17, 3) := dk_153 0 17 (dk_at dksX7_ancestor_1 0 rfl rfl)
theorem dX7_ancestor_26 : decode cX7_ancestor 26 = .ok (.aload_n 0, 1) := dk_42 (dk_at dksX7_ancestor_1 3 rfl rfl)
theorem dX7_ancestor_27 : decode cX7_ancestor 27 = .ok (.getfield 39, 3) := dk_180 0 39 (dk_at dksX7_ancestor_1 4 rfl rfl)
theorem dX7_ancestor_30 : decode cX7_ancestor 30 = .ok (.bipush 60, 2) := dk_16 60 (dk_at dksX7_ancestor_1 7 rfl rfl)
theorem dX7_ancestor_32 : decode cX7_ancestor 32 = .ok (.iload_n 1, 1) := dk_27 (dk_at dksX7_ancestor_1 9 rfl rfl)
theorem dX7_ancestor_33 : decode cX7_ancestor 33 = .ok (.imul, 1) := dk_104 (dk_at dksX7_ancestor_1 10 rfl rfl)
theorem dX7_ancestor_34 : decode cX7_ancestor 34 = .ok (.iload_n 2, 1) := dk_28 (dk_at dksX7_ancestor_1 11 rfl rfl)
theorem dX7_ancestor_35 : decode cX7_ancestor 35 = .ok (.iadd, 1) := dk_96 (dk_at dksX7_ancestor_1 12 rfl rfl)
theorem dX7_ancestor_36 : decode cX7_ancestor 36 = .ok (.iaload, 1) := dk_46 (dk_at dksX7_ancestor_1 13 rfl rfl)
theorem dX7_ancestor_37 : decode cX7_ancestor 37 = .ok (.goto 4, 3) := dk_167 0 4 (dk_at dksX7_ancestor_1 14 rfl rfl)
theorem dX7_ancestor_40 : decode cX7_ancestor 40 = .ok (.iconst (-1), 1) := dk_2 (dk_at dksX7_ancestor_1 17 rfl rfl)
theorem dX7_ancestor_41 : decode cX7_ancestor 41 = .ok (.ireturn, 1) := dk_172 (dk_at dksX7_ancestor_1 18 rfl rfl)
abbrev cX7_is : ByteArray := prog_30_method_24_code
def yX7_is : MethodName := ⟨RX7, "is", "(II)I"⟩
def dkwX7_is_1 : List UInt8 := [153, 0, 7, 4, 167, 0, 4, 3, 172]
abbrev dktX7_is_1 : List UInt8 := dkwX7_is_1 ++ []
def dkwX7_is_0 : List UInt8 := [42, 27, 182, 0, 131, 153, 0, 11, 42, 28, 182, 0, 131, 154, 0, 5, 2, 172, 42, 27, 28, 182, 0, 176]
abbrev dktX7_is_0 : List UInt8 := dkwX7_is_0 ++ dktX7_is_1
theorem dksX7_is_0 : cX7_is.data.toList.drop 0 = dktX7_is_0 := by decide +kernel
theorem dksX7_is_1 : cX7_is.data.toList.drop 24 = dktX7_is_1 := dk_seg dksX7_is_0 24 rfl rfl
theorem dX7_is_0 : decode cX7_is 0 = .ok (.aload_n 0, 1) := dk_42 (dk_at dksX7_is_0 0 rfl rfl)
theorem dX7_is_1 : decode cX7_is 1 = .ok (.iload_n 1, 1) := dk_27 (dk_at dksX7_is_0 1 rfl rfl)
theorem dX7_is_2 : decode cX7_is 2 = .ok (.invokevirtual 131, 3) := dk_182 0 131 (dk_at dksX7_is_0 2 rfl rfl)
theorem dX7_is_5 : decode cX7_is 5 = .ok (.ifCond .eq 11, 3) := dk_153 0 11 (dk_at dksX7_is_0 5 rfl rfl)
theorem dX7_is_8 : decode cX7_is 8 = .ok (.aload_n 0, 1) := dk_42 (dk_at dksX7_is_0 8 rfl rfl)
theorem dX7_is_9 : decode cX7_is 9 = .ok (.iload_n 2, 1) := dk_28 (dk_at dksX7_is_0 9 rfl rfl)
theorem dX7_is_10 : decode cX7_is 10 = .ok (.invokevirtual 131, 3) := dk_182 0 131 (dk_at dksX7_is_0 10 rfl rfl)
theorem dX7_is_13 : decode cX7_is 13 = .ok (.ifCond .ne 5, 3) := dk_154 0 5 (dk_at dksX7_is_0 13 rfl rfl)
theorem dX7_is_16 : decode cX7_is 16 = .ok (.iconst (-1), 1) := dk_2 (dk_at dksX7_is_0 16 rfl rfl)
theorem dX7_is_17 : decode cX7_is 17 = .ok (.ireturn, 1) := dk_172 (dk_at dksX7_is_0 17 rfl rfl)
theorem dX7_is_18 : decode cX7_is 18 = .ok (.aload_n 0, 1) := dk_42 (dk_at dksX7_is_0 18 rfl rfl)
theorem dX7_is_19 : decode cX7_is 19 = .ok (.iload_n 1, 1) := dk_27 (dk_at dksX7_is_0 19 rfl rfl)
theorem dX7_is_20 : decode cX7_is 20 = .ok (.iload_n 2, 1) := dk_28 (dk_at dksX7_is_0 20 rfl rfl)
theorem dX7_is_21 : decode cX7_is 21 = .ok (.invokevirtual 176, 3) := dk_182 0 176 (dk_at dksX7_is_0 21 rfl rfl)
theorem dX7_is_24 : decode cX7_is 24 = .ok (.ifCond .eq 7, 3) := dk_153 0 7 (dk_at dksX7_is_1 0 rfl rfl)
theorem dX7_is_27 : decode cX7_is 27 = .ok (.iconst 1, 1) := dk_4 (dk_at dksX7_is_1 3 rfl rfl)
theorem dX7_is_28 : decode cX7_is 28 = .ok (.goto 4, 3) := dk_167 0 4 (dk_at dksX7_is_1 4 rfl rfl)
theorem dX7_is_31 : decode cX7_is 31 = .ok (.iconst 0, 1) := dk_3 (dk_at dksX7_is_1 7 rfl rfl)
theorem dX7_is_32 : decode cX7_is 32 = .ok (.ireturn, 1) := dk_172 (dk_at dksX7_is_1 8 rfl rfl)
abbrev cX7_goesInto : ByteArray := prog_30_method_15_code
def yX7_goesInto : MethodName := ⟨RX7, "goesInto", "(II)Z"⟩
def dkwX7_goesInto_2 : List UInt8 := [172]
abbrev dktX7_goesInto_2 : List UInt8 := dkwX7_goesInto_2 ++ []
def dkwX7_goesInto_1 : List UInt8 := [3, 167, 0, 23, 28, 16, 8, 161, 0, 16, 42, 27, 28, 182, 0, 156, 153, 0, 7, 4, 167, 0, 4, 3]
abbrev dktX7_goesInto_1 : List UInt8 := dkwX7_goesInto_1 ++ dktX7_goesInto_2
def dkwX7_goesInto_0 : List UInt8 := [27, 16, 8, 162, 0, 25, 28, 16, 8, 162, 0, 15, 27, 28, 184, 0, 153, 153, 0, 7, 4, 167, 0, 27]
abbrev dktX7_goesInto_0 : List UInt8 := dkwX7_goesInto_0 ++ dktX7_goesInto_1
theorem dksX7_goesInto_0 : cX7_goesInto.data.toList.drop 0 = dktX7_goesInto_0 := by decide +kernel
theorem dksX7_goesInto_1 : cX7_goesInto.data.toList.drop 24 = dktX7_goesInto_1 := dk_seg dksX7_goesInto_0 24 rfl rfl
theorem dksX7_goesInto_2 : cX7_goesInto.data.toList.drop 48 = dktX7_goesInto_2 := dk_seg dksX7_goesInto_1 24 rfl rfl
theorem dX7_goesInto_0 : decode cX7_goesInto 0 = .ok (.iload_n 1, 1) := dk_27 (dk_at dksX7_goesInto_0 0 rfl rfl)
theorem dX7_goesInto_1 : decode cX7_goesInto 1 = .ok (.bipush 8, 2) := dk_16 8 (dk_at dksX7_goesInto_0 1 rfl rfl)
theorem dX7_goesInto_3 : decode cX7_goesInto 3 = .ok (.if_icmp .ge 25, 3) := dk_162 0 25 (dk_at dksX7_goesInto_0 3 rfl rfl)
theorem dX7_goesInto_6 : decode cX7_goesInto 6 = .ok (.iload_n 2, 1) := dk_28 (dk_at dksX7_goesInto_0 6 rfl rfl)
theorem dX7_goesInto_7 : decode cX7_goesInto 7 = .ok (.bipush 8, 2) := dk_16 8 (dk_at dksX7_goesInto_0 7 rfl rfl)
theorem dX7_goesInto_9 : decode cX7_goesInto 9 = .ok (.if_icmp .ge 15, 3) := dk_162 0 15 (dk_at dksX7_goesInto_0 9 rfl rfl)
theorem dX7_goesInto_12 : decode cX7_goesInto 12 = .ok (.iload_n 1, 1) := dk_27 (dk_at dksX7_goesInto_0 12 rfl rfl)
theorem dX7_goesInto_13 : decode cX7_goesInto 13 = .ok (.iload_n 2, 1) := dk_28 (dk_at dksX7_goesInto_0 13 rfl rfl)
theorem dX7_goesInto_14 : decode cX7_goesInto 14 = .ok (.invokestatic 153, 3) := dk_184 0 153 (dk_at dksX7_goesInto_0 14 rfl rfl)
theorem dX7_goesInto_17 : decode cX7_goesInto 17 = .ok (.ifCond .eq 7, 3) := dk_153 0 7 (dk_at dksX7_goesInto_0 17 rfl rfl)
theorem dX7_goesInto_20 : decode cX7_goesInto 20 = .ok (.iconst 1, 1) := dk_4 (dk_at dksX7_goesInto_0 20 rfl rfl)
theorem dX7_goesInto_21 : decode cX7_goesInto 21 = .ok (.goto 27, 3) := dk_167 0 27 (dk_at dksX7_goesInto_0 21 rfl rfl)
theorem dX7_goesInto_24 : decode cX7_goesInto 24 = .ok (.iconst 0, 1) := dk_3 (dk_at dksX7_goesInto_1 0 rfl rfl)
theorem dX7_goesInto_25 : decode cX7_goesInto 25 = .ok (.goto 23, 3) := dk_167 0 23 (dk_at dksX7_goesInto_1 1 rfl rfl)
theorem dX7_goesInto_28 : decode cX7_goesInto 28 = .ok (.iload_n 2, 1) := dk_28 (dk_at dksX7_goesInto_1 4 rfl rfl)
theorem dX7_goesInto_29 : decode cX7_goesInto 29 = .ok (.bipush 8, 2) := dk_16 8 (dk_at dksX7_goesInto_1 5 rfl rfl)
theorem dX7_goesInto_31 : decode cX7_goesInto 31 = .ok (.if_icmp .lt 16, 3) := dk_161 0 16 (dk_at dksX7_goesInto_1 7 rfl rfl)
theorem dX7_goesInto_34 : decode cX7_goesInto 34 = .ok (.aload_n 0, 1) := dk_42 (dk_at dksX7_goesInto_1 10 rfl rfl)
theorem dX7_goesInto_35 : decode cX7_goesInto 35 = .ok (.iload_n 1, 1) := dk_27 (dk_at dksX7_goesInto_1 11 rfl rfl)
theorem dX7_goesInto_36 : decode cX7_goesInto 36 = .ok (.iload_n 2, 1) := dk_28 (dk_at dksX7_goesInto_1 12 rfl rfl)
theorem dX7_goesInto_37 : decode cX7_goesInto 37 = .ok (.invokevirtual 156, 3) := dk_182 0 156 (dk_at dksX7_goesInto_1 13 rfl rfl)
theorem dX7_goesInto_40 : decode cX7_goesInto 40 = .ok (.ifCond .eq 7, 3) := dk_153 0 7 (dk_at dksX7_goesInto_1 16 rfl rfl)
theorem dX7_goesInto_43 : decode cX7_goesInto 43 = .ok (.iconst 1, 1) := dk_4 (dk_at dksX7_goesInto_1 19 rfl rfl)
theorem dX7_goesInto_44 : decode cX7_goesInto 44 = .ok (.goto 4, 3) := dk_167 0 4 (dk_at dksX7_goesInto_1 20 rfl rfl)
theorem dX7_goesInto_47 : decode cX7_goesInto 47 = .ok (.iconst 0, 1) := dk_3 (dk_at dksX7_goesInto_1 23 rfl rfl)
theorem dX7_goesInto_48 : decode cX7_goesInto 48 = .ok (.ireturn, 1) := dk_172 (dk_at dksX7_goesInto_2 0 rfl rfl)
abbrev cX7_widens : ByteArray := prog_30_method_14_code
def yX7_widens : MethodName := ⟨RX7, "widens", "(II)Z"⟩
def dkwX7_widens_2 : List UInt8 := [172]
abbrev dktX7_widens_2 : List UInt8 := dkwX7_widens_2 ++ []
def dkwX7_widens_1 : List UInt8 := [167, 0, 24, 26, 5, 161, 0, 18, 26, 16, 6, 163, 0, 12, 27, 26, 164, 0, 7, 4, 167, 0, 4, 3]
abbrev dktX7_widens_1 : List UInt8 := dkwX7_widens_1 ++ dktX7_widens_2
def dkwX7_widens_0 : List UInt8 := [26, 27, 160, 0, 5, 4, 172, 26, 4, 160, 0, 16, 27, 7, 161, 0, 7, 4, 167, 0, 28, 3]
abbrev dktX7_widens_0 : List UInt8 := dkwX7_widens_0 ++ dktX7_widens_1
theorem dksX7_widens_0 : cX7_widens.data.toList.drop 0 = dktX7_widens_0 := by decide +kernel
theorem dksX7_widens_1 : cX7_widens.data.toList.drop 22 = dktX7_widens_1 := dk_seg dksX7_widens_0 22 rfl rfl
theorem dksX7_widens_2 : cX7_widens.data.toList.drop 46 = dktX7_widens_2 := dk_seg dksX7_widens_1 24 rfl rfl
theorem dX7_widens_0 : decode cX7_widens 0 = .ok (.iload_n 0, 1) := dk_26 (dk_at dksX7_widens_0 0 rfl rfl)
theorem dX7_widens_1 : decode cX7_widens 1 = .ok (.iload_n 1, 1) := dk_27 (dk_at dksX7_widens_0 1 rfl rfl)
theorem dX7_widens_2 : decode cX7_widens 2 = .ok (.if_icmp .ne 5, 3) := dk_160 0 5 (dk_at dksX7_widens_0 2 rfl rfl)
theorem dX7_widens_5 : decode cX7_widens 5 = .ok (.iconst 1, 1) := dk_4 (dk_at dksX7_widens_0 5 rfl rfl)
theorem dX7_widens_6 : decode cX7_widens 6 = .ok (.ireturn, 1) := dk_172 (dk_at dksX7_widens_0 6 rfl rfl)
theorem dX7_widens_7 : decode cX7_widens 7 = .ok (.iload_n 0, 1) := dk_26 (dk_at dksX7_widens_0 7 rfl rfl)
theorem dX7_widens_8 : decode cX7_widens 8 = .ok (.iconst 1, 1) := dk_4 (dk_at dksX7_widens_0 8 rfl rfl)
theorem dX7_widens_9 : decode cX7_widens 9 = .ok (.if_icmp .ne 16, 3) := dk_160 0 16 (dk_at dksX7_widens_0 9 rfl rfl)
theorem dX7_widens_12 : decode cX7_widens 12 = .ok (.iload_n 1, 1) := dk_27 (dk_at dksX7_widens_0 12 rfl rfl)
theorem dX7_widens_13 : decode cX7_widens 13 = .ok (.iconst 4, 1) := dk_7 (dk_at dksX7_widens_0 13 rfl rfl)
theorem dX7_widens_14 : decode cX7_widens 14 = .ok (.if_icmp .lt 7, 3) := dk_161 0 7 (dk_at dksX7_widens_0 14 rfl rfl)
theorem dX7_widens_17 : decode cX7_widens 17 = .ok (.iconst 1, 1) := dk_4 (dk_at dksX7_widens_0 17 rfl rfl)
theorem dX7_widens_18 : decode cX7_widens 18 = .ok (.goto 28, 3) := dk_167 0 28 (dk_at dksX7_widens_0 18 rfl rfl)
theorem dX7_widens_21 : decode cX7_widens 21 = .ok (.iconst 0, 1) := dk_3 (dk_at dksX7_widens_0 21 rfl rfl)
theorem dX7_widens_22 : decode cX7_widens 22 = .ok (.goto 24, 3) := dk_167 0 24 (dk_at dksX7_widens_1 0 rfl rfl)
theorem dX7_widens_25 : decode cX7_widens 25 = .ok (.iload_n 0, 1) := dk_26 (dk_at dksX7_widens_1 3 rfl rfl)
theorem dX7_widens_26 : decode cX7_widens 26 = .ok (.iconst 2, 1) := dk_5 (dk_at dksX7_widens_1 4 rfl rfl)
theorem dX7_widens_27 : decode cX7_widens 27 = .ok (.if_icmp .lt 18, 3) := dk_161 0 18 (dk_at dksX7_widens_1 5 rfl rfl)
theorem dX7_widens_30 : decode cX7_widens 30 = .ok (.iload_n 0, 1) := dk_26 (dk_at dksX7_widens_1 8 rfl rfl)
theorem dX7_widens_31 : decode cX7_widens 31 = .ok (.bipush 6, 2) := dk_16 6 (dk_at dksX7_widens_1 9 rfl rfl)
theorem dX7_widens_33 : decode cX7_widens 33 = .ok (.if_icmp .gt 12, 3) := dk_163 0 12 (dk_at dksX7_widens_1 11 rfl rfl)
theorem dX7_widens_36 : decode cX7_widens 36 = .ok (.iload_n 1, 1) := dk_27 (dk_at dksX7_widens_1 14 rfl rfl)
theorem dX7_widens_37 : decode cX7_widens 37 = .ok (.iload_n 0, 1) := dk_26 (dk_at dksX7_widens_1 15 rfl rfl)
theorem dX7_widens_38 : decode cX7_widens 38 = .ok (.if_icmp .le 7, 3) := dk_164 0 7 (dk_at dksX7_widens_1 16 rfl rfl)
theorem dX7_widens_41 : decode cX7_widens 41 = .ok (.iconst 1, 1) := dk_4 (dk_at dksX7_widens_1 19 rfl rfl)
theorem dX7_widens_42 : decode cX7_widens 42 = .ok (.goto 4, 3) := dk_167 0 4 (dk_at dksX7_widens_1 20 rfl rfl)
theorem dX7_widens_45 : decode cX7_widens 45 = .ok (.iconst 0, 1) := dk_3 (dk_at dksX7_widens_1 23 rfl rfl)
theorem dX7_widens_46 : decode cX7_widens 46 = .ok (.ireturn, 1) := dk_172 (dk_at dksX7_widens_2 0 rfl rfl)
abbrev cX7_meet : ByteArray := prog_30_method_25_code
def yX7_meet : MethodName := ⟨RX7, "meet", "(II)I"⟩
def dkwX7_meet_2 : List UInt8 := [180, 0, 39, 16, 60, 27, 104, 29, 96, 46, 172]
abbrev dktX7_meet_2 : List UInt8 := dkwX7_meet_2 ++ []
def dkwX7_meet_1 : List UInt8 := [180, 0, 39, 16, 60, 27, 104, 29, 96, 46, 182, 0, 156, 154, 0, 9, 132, 3, 1, 167, 255, 234, 42]
abbrev dktX7_meet_1 : List UInt8 := dkwX7_meet_1 ++ dktX7_meet_2
def dkwX7_meet_0 : List UInt8 := [42, 27, 182, 0, 179, 153, 0, 11, 42, 28, 182, 0, 179, 154, 0, 5, 2, 172, 3, 62, 42, 28, 42]
abbrev dktX7_meet_0 : List UInt8 := dkwX7_meet_0 ++ dktX7_meet_1
theorem dksX7_meet_0 : cX7_meet.data.toList.drop 0 = dktX7_meet_0 := by decide +kernel
theorem dksX7_meet_1 : cX7_meet.data.toList.drop 23 = dktX7_meet_1 := dk_seg dksX7_meet_0 23 rfl rfl
theorem dksX7_meet_2 : cX7_meet.data.toList.drop 46 = dktX7_meet_2 := dk_seg dksX7_meet_1 23 rfl rfl
theorem dX7_meet_0 : decode cX7_meet 0 = .ok (.aload_n 0, 1) := dk_42 (dk_at dksX7_meet_0 0 rfl rfl)
theorem dX7_meet_1 : decode cX7_meet 1 = .ok (.iload_n 1, 1) := dk_27 (dk_at dksX7_meet_0 1 rfl rfl)
theorem dX7_meet_2 : decode cX7_meet 2 = .ok (.invokevirtual 179, 3) := dk_182 0 179 (dk_at dksX7_meet_0 2 rfl rfl)
theorem dX7_meet_5 : decode cX7_meet 5 = .ok (.ifCond .eq 11, 3) := dk_153 0 11 (dk_at dksX7_meet_0 5 rfl rfl)
theorem dX7_meet_8 : decode cX7_meet 8 = .ok (.aload_n 0, 1) := dk_42 (dk_at dksX7_meet_0 8 rfl rfl)
theorem dX7_meet_9 : decode cX7_meet 9 = .ok (.iload_n 2, 1) := dk_28 (dk_at dksX7_meet_0 9 rfl rfl)
theorem dX7_meet_10 : decode cX7_meet 10 = .ok (.invokevirtual 179, 3) := dk_182 0 179 (dk_at dksX7_meet_0 10 rfl rfl)
theorem dX7_meet_13 : decode cX7_meet 13 = .ok (.ifCond .ne 5, 3) := dk_154 0 5 (dk_at dksX7_meet_0 13 rfl rfl)
theorem dX7_meet_16 : decode cX7_meet 16 = .ok (.iconst (-1), 1) := dk_2 (dk_at dksX7_meet_0 16 rfl rfl)
theorem dX7_meet_17 : decode cX7_meet 17 = .ok (.ireturn, 1) := dk_172 (dk_at dksX7_meet_0 17 rfl rfl)
theorem dX7_meet_18 : decode cX7_meet 18 = .ok (.iconst 0, 1) := dk_3 (dk_at dksX7_meet_0 18 rfl rfl)
theorem dX7_meet_19 : decode cX7_meet 19 = .ok (.istore_n 3, 1) := dk_62 (dk_at dksX7_meet_0 19 rfl rfl)
theorem dX7_meet_20 : decode cX7_meet 20 = .ok (.aload_n 0, 1) := dk_42 (dk_at dksX7_meet_0 20 rfl rfl)
theorem dX7_meet_21 : decode cX7_meet 21 = .ok (.iload_n 2, 1) := dk_28 (dk_at dksX7_meet_0 21 rfl rfl)
theorem dX7_meet_22 : decode cX7_meet 22 = .ok (.aload_n 0, 1) := dk_42 (dk_at dksX7_meet_0 22 rfl rfl)
theorem dX7_meet_23 : decode cX7_meet 23 = .ok (.getfield 39, 3) := dk_180 0 39 (dk_at dksX7_meet_1 0 rfl rfl)
theorem dX7_meet_26 : decode cX7_meet 26 = .ok (.bipush 60, 2) := dk_16 60 (dk_at dksX7_meet_1 3 rfl rfl)
theorem dX7_meet_28 : decode cX7_meet 28 = .ok (.iload_n 1, 1) := dk_27 (dk_at dksX7_meet_1 5 rfl rfl)
theorem dX7_meet_29 : decode cX7_meet 29 = .ok (.imul, 1) := dk_104 (dk_at dksX7_meet_1 6 rfl rfl)
theorem dX7_meet_30 : decode cX7_meet 30 = .ok (.iload_n 3, 1) := dk_29 (dk_at dksX7_meet_1 7 rfl rfl)
theorem dX7_meet_31 : decode cX7_meet 31 = .ok (.iadd, 1) := dk_96 (dk_at dksX7_meet_1 8 rfl rfl)
theorem dX7_meet_32 : decode cX7_meet 32 = .ok (.iaload, 1) := dk_46 (dk_at dksX7_meet_1 9 rfl rfl)
theorem dX7_meet_33 : decode cX7_meet 33 = .ok (.invokevirtual 156, 3) := dk_182 0 156 (dk_at dksX7_meet_1 10 rfl rfl)
theorem dX7_meet_36 : decode cX7_meet 36 = .ok (.ifCond .ne 9, 3) := dk_154 0 9 (dk_at dksX7_meet_1 13 rfl rfl)
theorem dX7_meet_39 : decode cX7_meet 39 = .ok (.iinc 3 1, 3) := dk_132 3 1 (dk_at dksX7_meet_1 16 rfl rfl)
theorem dX7_meet_42 : decode cX7_meet 42 = .ok (.goto (-22), 3) := dk_167 255 234 (dk_at dksX7_meet_1 19 rfl rfl)
theorem dX7_meet_45 : decode cX7_meet 45 = .ok (.aload_n 0, 1) := dk_42 (dk_at dksX7_meet_1 22 rfl rfl)
theorem dX7_meet_46 : decode cX7_meet 46 = .ok (.getfield 39, 3) := dk_180 0 39 (dk_at dksX7_meet_2 0 rfl rfl)
theorem dX7_meet_49 : decode cX7_meet 49 = .ok (.bipush 60, 2) := dk_16 60 (dk_at dksX7_meet_2 3 rfl rfl)
theorem dX7_meet_51 : decode cX7_meet 51 = .ok (.iload_n 1, 1) := dk_27 (dk_at dksX7_meet_2 5 rfl rfl)
theorem dX7_meet_52 : decode cX7_meet 52 = .ok (.imul, 1) := dk_104 (dk_at dksX7_meet_2 6 rfl rfl)
theorem dX7_meet_53 : decode cX7_meet 53 = .ok (.iload_n 3, 1) := dk_29 (dk_at dksX7_meet_2 7 rfl rfl)
theorem dX7_meet_54 : decode cX7_meet 54 = .ok (.iadd, 1) := dk_96 (dk_at dksX7_meet_2 8 rfl rfl)
theorem dX7_meet_55 : decode cX7_meet 55 = .ok (.iaload, 1) := dk_46 (dk_at dksX7_meet_2 9 rfl rfl)
theorem dX7_meet_56 : decode cX7_meet 56 = .ok (.ireturn, 1) := dk_172 (dk_at dksX7_meet_2 10 rfl rfl)
abbrev cX7_isReference : ByteArray := prog_30_method_5_code
def yX7_isReference : MethodName := ⟨RX7, "isReference", "(I)Z"⟩
def dkwX7_isReference_0 : List UInt8 := [42, 27, 182, 0, 131, 153, 0, 13, 27, 16, 8, 161, 0, 7, 4, 167, 0, 4, 3, 172]
abbrev dktX7_isReference_0 : List UInt8 := dkwX7_isReference_0 ++ []
theorem dksX7_isReference_0 : cX7_isReference.data.toList.drop 0 = dktX7_isReference_0 := by decide +kernel
theorem dX7_isReference_0 : decode cX7_isReference 0 = .ok (.aload_n 0, 1) := dk_42 (dk_at dksX7_isReference_0 0 rfl rfl)
theorem dX7_isReference_1 : decode cX7_isReference 1 = .ok (.iload_n 1, 1) := dk_27 (dk_at dksX7_isReference_0 1 rfl rfl)
theorem dX7_isReference_2 : decode cX7_isReference 2 = .ok (.invokevirtual 131, 3) := dk_182 0 131 (dk_at dksX7_isReference_0 2 rfl rfl)
theorem dX7_isReference_5 : decode cX7_isReference 5 = .ok (.ifCond .eq 13, 3) := dk_153 0 13 (dk_at dksX7_isReference_0 5 rfl rfl)
theorem dX7_isReference_8 : decode cX7_isReference 8 = .ok (.iload_n 1, 1) := dk_27 (dk_at dksX7_isReference_0 8 rfl rfl)
theorem dX7_isReference_9 : decode cX7_isReference 9 = .ok (.bipush 8, 2) := dk_16 8 (dk_at dksX7_isReference_0 9 rfl rfl)
theorem dX7_isReference_11 : decode cX7_isReference 11 = .ok (.if_icmp .lt 7, 3) := dk_161 0 7 (dk_at dksX7_isReference_0 11 rfl rfl)
theorem dX7_isReference_14 : decode cX7_isReference 14 = .ok (.iconst 1, 1) := dk_4 (dk_at dksX7_isReference_0 14 rfl rfl)
theorem dX7_isReference_15 : decode cX7_isReference 15 = .ok (.goto 4, 3) := dk_167 0 4 (dk_at dksX7_isReference_0 15 rfl rfl)
theorem dX7_isReference_18 : decode cX7_isReference 18 = .ok (.iconst 0, 1) := dk_3 (dk_at dksX7_isReference_0 18 rfl rfl)
theorem dX7_isReference_19 : decode cX7_isReference 19 = .ok (.ireturn, 1) := dk_172 (dk_at dksX7_isReference_0 19 rfl rfl)
abbrev cX7_letter : ByteArray := prog_30_method_26_code
def yX7_letter : MethodName := ⟨RX7, "letter", "(II)I"⟩
def dkwX7_letter_10 : List UInt8 := [167, 0, 10, 16, 48, 29, 16, 10, 112, 96, 172]
abbrev dktX7_letter_10 : List UInt8 := dkwX7_letter_10 ++ []
def dkwX7_letter_9 : List UInt8 := [167, 0, 32, 21, 7, 4, 160, 0, 19, 21, 5, 5, 160, 0, 13, 16, 48, 29, 16, 10, 108, 96]
abbrev dktX7_letter_9 : List UInt8 := dkwX7_letter_9 ++ dktX7_letter_10
def dkwX7_letter_8 : List UInt8 := [16, 68, 172, 21, 7, 154, 0, 8, 16, 76, 167, 0, 46, 21, 7, 21, 5, 4, 96, 160, 0, 8, 16, 59]
abbrev dktX7_letter_8 : List UInt8 := dkwX7_letter_8 ++ dktX7_letter_9
def dkwX7_letter_7 : List UInt8 := [167, 0, 26, 29, 8, 160, 0, 8, 16, 74, 167, 0, 16, 29, 16, 6, 160, 0, 8, 16, 70, 167, 0, 5]
abbrev dktX7_letter_7 : List UInt8 := dkwX7_letter_7 ++ dktX7_letter_8
def dkwX7_letter_6 : List UInt8 := [16, 66, 167, 0, 46, 29, 6, 160, 0, 8, 16, 83, 167, 0, 36, 29, 7, 160, 0, 8, 16, 73]
abbrev dktX7_letter_6 : List UInt8 := dkwX7_letter_6 ++ dktX7_letter_7
def dkwX7_letter_5 : List UInt8 := [154, 0, 8, 16, 90, 167, 0, 66, 29, 4, 160, 0, 8, 16, 67, 167, 0, 56, 29, 5, 160, 0, 8]
abbrev dktX7_letter_5 : List UInt8 := dkwX7_letter_5 ++ dktX7_letter_6
def dkwX7_letter_4 : List UInt8 := [172, 28, 21, 4, 162, 0, 6, 16, 91, 172, 28, 21, 4, 100, 54, 7, 29, 16, 8, 162, 0, 76, 29]
abbrev dktX7_letter_4 : List UInt8 := dkwX7_letter_4 ++ dktX7_letter_5
def dkwX7_letter_3 : List UInt8 := [21, 4, 5, 96, 21, 5, 96, 54, 6, 28, 2, 160, 0, 6, 21, 6, 172, 28, 21, 6, 161, 0, 5, 2]
abbrev dktX7_letter_3 : List UInt8 := dkwX7_letter_3 ++ dktX7_letter_4
def dkwX7_letter_2 : List UInt8 := [164, 0, 7, 5, 167, 0, 4, 4, 54, 5, 29, 16, 8, 162, 0, 10, 21, 4, 4, 96, 167, 0, 10]
abbrev dktX7_letter_2 : List UInt8 := dkwX7_letter_2 ++ dktX7_letter_3
def dkwX7_letter_1 : List UInt8 := [29, 46, 7, 160, 0, 16, 42, 180, 0, 23, 29, 46, 62, 132, 4, 1, 167, 255, 236, 29, 16, 9]
abbrev dktX7_letter_1 : List UInt8 := dkwX7_letter_1 ++ dktX7_letter_2
def dkwX7_letter_0 : List UInt8 := [42, 27, 182, 0, 131, 153, 0, 8, 28, 2, 162, 0, 5, 2, 172, 27, 62, 3, 54, 4, 42, 180, 0, 13]
abbrev dktX7_letter_0 : List UInt8 := dkwX7_letter_0 ++ dktX7_letter_1
theorem dksX7_letter_0 : cX7_letter.data.toList.drop 0 = dktX7_letter_0 := by decide +kernel
theorem dksX7_letter_1 : cX7_letter.data.toList.drop 24 = dktX7_letter_1 := dk_seg dksX7_letter_0 24 rfl rfl
theorem dksX7_letter_2 : cX7_letter.data.toList.drop 46 = dktX7_letter_2 := dk_seg dksX7_letter_1 22 rfl rfl
theorem dksX7_letter_3 : cX7_letter.data.toList.drop 69 = dktX7_letter_3 := dk_seg dksX7_letter_2 23 rfl rfl
theorem dksX7_letter_4 : cX7_letter.data.toList.drop 93 = dktX7_letter_4 := dk_seg dksX7_letter_3 24 rfl rfl
theorem dksX7_letter_5 : cX7_letter.data.toList.drop 116 = dktX7_letter_5 := dk_seg dksX7_letter_4 23 rfl rfl
theorem dksX7_letter_6 : cX7_letter.data.toList.drop 139 = dktX7_letter_6 := dk_seg dksX7_letter_5 23 rfl rfl
theorem dksX7_letter_7 : cX7_letter.data.toList.drop 161 = dktX7_letter_7 := dk_seg dksX7_letter_6 22 rfl rfl
theorem dksX7_letter_8 : cX7_letter.data.toList.drop 185 = dktX7_letter_8 := dk_seg dksX7_letter_7 24 rfl rfl
theorem dksX7_letter_9 : cX7_letter.data.toList.drop 209 = dktX7_letter_9 := dk_seg dksX7_letter_8 24 rfl rfl
theorem dksX7_letter_10 : cX7_letter.data.toList.drop 231 = dktX7_letter_10 := dk_seg dksX7_letter_9 22 rfl rfl
theorem dX7_letter_0 : decode cX7_letter 0 = .ok (.aload_n 0, 1) := dk_42 (dk_at dksX7_letter_0 0 rfl rfl)
theorem dX7_letter_1 : decode cX7_letter 1 = .ok (.iload_n 1, 1) := dk_27 (dk_at dksX7_letter_0 1 rfl rfl)
theorem dX7_letter_2 : decode cX7_letter 2 = .ok (.invokevirtual 131, 3) := dk_182 0 131 (dk_at dksX7_letter_0 2 rfl rfl)
theorem dX7_letter_5 : decode cX7_letter 5 = .ok (.ifCond .eq 8, 3) := dk_153 0 8 (dk_at dksX7_letter_0 5 rfl rfl)
theorem dX7_letter_8 : decode cX7_letter 8 = .ok (.iload_n 2, 1) := dk_28 (dk_at dksX7_letter_0 8 rfl rfl)
theorem dX7_letter_9 : decode cX7_letter 9 = .ok (.iconst (-1), 1) := dk_2 (dk_at dksX7_letter_0 9 rfl rfl)
theorem dX7_letter_10 : decode cX7_letter 10 = .ok (.if_icmp .ge 5, 3) := dk_162 0 5 (dk_at dksX7_letter_0 10 rfl rfl)
theorem dX7_letter_13 : decode cX7_letter 13 = .ok (.iconst (-1), 1) := dk_2 (dk_at dksX7_letter_0 13 rfl rfl)
theorem dX7_letter_14 : decode cX7_letter 14 = .ok (.ireturn, 1) := dk_172 (dk_at dksX7_letter_0 14 rfl rfl)
theorem dX7_letter_15 : decode cX7_letter 15 = .ok (.iload_n 1, 1) := dk_27 (dk_at dksX7_letter_0 15 rfl rfl)
theorem dX7_letter_16 : decode cX7_letter 16 = .ok (.istore_n 3, 1) := dk_62 (dk_at dksX7_letter_0 16 rfl rfl)
theorem dX7_letter_17 : decode cX7_letter 17 = .ok (.iconst 0, 1) := dk_3 (dk_at dksX7_letter_0 17 rfl rfl)
theorem dX7_letter_18 : decode cX7_letter 18 = .ok (.istore 4, 2) := dk_54 4 (dk_at dksX7_letter_0 18 rfl rfl)
theorem dX7_letter_20 : decode cX7_letter 20 = .ok (.aload_n 0, 1) := dk_42 (dk_at dksX7_letter_0 20 rfl rfl)
theorem dX7_letter_21 : decode cX7_letter 21 = .ok (.getfield 13, 3) := dk_180 0 13 (dk_at dksX7_letter_0 21 rfl rfl)
theorem dX7_letter_24 : decode cX7_letter 24 = .ok (.iload_n 3, 1) := dk_29 (dk_at dksX7_letter_1 0 rfl rfl)
theorem dX7_letter_25 : decode cX7_letter 25 = .ok (.iaload, 1) := dk_46 (dk_at dksX7_letter_1 1 rfl rfl)
theorem dX7_letter_26 : decode cX7_letter 26 = .ok (.iconst 4, 1) := dk_7 (dk_at dksX7_letter_1 2 rfl rfl)
theorem dX7_letter_27 : decode cX7_letter 27 = .ok (.if_icmp .ne 16, 3) := dk_160 0 16 (dk_at dksX7_letter_1 3 rfl rfl)
theorem dX7_letter_30 : decode cX7_letter 30 = .ok (.aload_n 0, 1) := dk_42 (dk_at dksX7_letter_1 6 rfl rfl)
theorem dX7_letter_31 : decode cX7_letter 31 = .ok (.getfield 23, 3) := dk_180 0 23 (dk_at dksX7_letter_1 7 rfl rfl)
theorem dX7_letter_34 : decode cX7_letter 34 = .ok (.iload_n 3, 1) := dk_29 (dk_at dksX7_letter_1 10 rfl rfl)
theorem dX7_letter_35 : decode cX7_letter 35 = .ok (.iaload, 1) := dk_46 (dk_at dksX7_letter_1 11 rfl rfl)
theorem dX7_letter_36 : decode cX7_letter 36 = .ok (.istore_n 3, 1) := dk_62 (dk_at dksX7_letter_1 12 rfl rfl)
theorem dX7_letter_37 : decode cX7_letter 37 = .ok (.iinc 4 1, 3) := dk_132 4 1 (dk_at dksX7_letter_1 13 rfl rfl)
theorem dX7_letter_40 : decode cX7_letter 40 = .ok (.goto (-20), 3) := dk_167 255 236 (dk_at dksX7_letter_1 16 rfl rfl)
theorem dX7_letter_43 : decode cX7_letter 43 = .ok (.iload_n 3, 1) := dk_29 (dk_at dksX7_letter_1 19 rfl rfl)
theorem dX7_letter_44 : decode cX7_letter 44 = .ok (.bipush 9, 2) := dk_16 9 (dk_at dksX7_letter_1 20 rfl rfl)
theorem dX7_letter_46 : decode cX7_letter 46 = .ok (.if_icmp .le 7, 3) := dk_164 0 7 (dk_at dksX7_letter_2 0 rfl rfl)
theorem dX7_letter_49 : decode cX7_letter 49 = .ok (.iconst 2, 1) := dk_5 (dk_at dksX7_letter_2 3 rfl rfl)
theorem dX7_letter_50 : decode cX7_letter 50 = .ok (.goto 4, 3) := dk_167 0 4 (dk_at dksX7_letter_2 4 rfl rfl)
theorem dX7_letter_53 : decode cX7_letter 53 = .ok (.iconst 1, 1) := dk_4 (dk_at dksX7_letter_2 7 rfl rfl)
theorem dX7_letter_54 : decode cX7_letter 54 = .ok (.istore 5, 2) := dk_54 5 (dk_at dksX7_letter_2 8 rfl rfl)
theorem dX7_letter_56 : decode cX7_letter 56 = .ok (.iload_n 3, 1) := dk_29 (dk_at dksX7_letter_2 10 rfl rfl)
theorem dX7_letter_57 : decode cX7_letter 57 = .ok (.bipush 8, 2) := dk_16 8 (dk_at dksX7_letter_2 11 rfl rfl)
theorem dX7_letter_59 : decode cX7_letter 59 = .ok (.if_icmp .ge 10, 3) := dk_162 0 10 (dk_at dksX7_letter_2 13 rfl rfl)
theorem dX7_letter_62 : decode cX7_letter 62 = .ok (.iload 4, 2) := dk_21 4 (dk_at dksX7_letter_2 16 rfl rfl)
theorem dX7_letter_64 : decode cX7_letter 64 = .ok (.iconst 1, 1) := dk_4 (dk_at dksX7_letter_2 18 rfl rfl)
theorem dX7_letter_65 : decode cX7_letter 65 = .ok (.iadd, 1) := dk_96 (dk_at dksX7_letter_2 19 rfl rfl)
theorem dX7_letter_66 : decode cX7_letter 66 = .ok (.goto 10, 3) := dk_167 0 10 (dk_at dksX7_letter_2 20 rfl rfl)
theorem dX7_letter_69 : decode cX7_letter 69 = .ok (.iload 4, 2) := dk_21 4 (dk_at dksX7_letter_3 0 rfl rfl)
theorem dX7_letter_71 : decode cX7_letter 71 = .ok (.iconst 2, 1) := dk_5 (dk_at dksX7_letter_3 2 rfl rfl)
theorem dX7_letter_72 : decode cX7_letter 72 = .ok (.iadd, 1) := dk_96 (dk_at dksX7_letter_3 3 rfl rfl)
theorem dX7_letter_73 : decode cX7_letter 73 = .ok (.iload 5, 2) := dk_21 5 (dk_at dksX7_letter_3 4 rfl rfl)
theorem dX7_letter_75 : decode cX7_letter 75 = .ok (.iadd, 1) := dk_96 (dk_at dksX7_letter_3 6 rfl rfl)
theorem dX7_letter_76 : decode cX7_letter 76 = .ok (.istore 6, 2) := dk_54 6 (dk_at dksX7_letter_3 7 rfl rfl)
theorem dX7_letter_78 : decode cX7_letter 78 = .ok (.iload_n 2, 1) := dk_28 (dk_at dksX7_letter_3 9 rfl rfl)
theorem dX7_letter_79 : decode cX7_letter 79 = .ok (.iconst (-1), 1) := dk_2 (dk_at dksX7_letter_3 10 rfl rfl)
theorem dX7_letter_80 : decode cX7_letter 80 = .ok (.if_icmp .ne 6, 3) := dk_160 0 6 (dk_at dksX7_letter_3 11 rfl rfl)
theorem dX7_letter_83 : decode cX7_letter 83 = .ok (.iload 6, 2) := dk_21 6 (dk_at dksX7_letter_3 14 rfl rfl)
theorem dX7_letter_85 : decode cX7_letter 85 = .ok (.ireturn, 1) := dk_172 (dk_at dksX7_letter_3 16 rfl rfl)
theorem dX7_letter_86 : decode cX7_letter 86 = .ok (.iload_n 2, 1) := dk_28 (dk_at dksX7_letter_3 17 rfl rfl)
theorem dX7_letter_87 : decode cX7_letter 87 = .ok (.iload 6, 2) := dk_21 6 (dk_at dksX7_letter_3 18 rfl rfl)
theorem dX7_letter_89 : decode cX7_letter 89 = .ok (.if_icmp .lt 5, 3) := dk_161 0 5 (dk_at dksX7_letter_3 20 rfl rfl)
theorem dX7_letter_92 : decode cX7_letter 92 = .ok (.iconst (-1), 1) := dk_2 (dk_at dksX7_letter_3 23 rfl rfl)
theorem dX7_letter_93 : decode cX7_letter 93 = .ok (.ireturn, 1) := dk_172 (dk_at dksX7_letter_4 0 rfl rfl)
theorem dX7_letter_94 : decode cX7_letter 94 = .ok (.iload_n 2, 1) := dk_28 (dk_at dksX7_letter_4 1 rfl rfl)
theorem dX7_letter_95 : decode cX7_letter 95 = .ok (.iload 4, 2) := dk_21 4 (dk_at dksX7_letter_4 2 rfl rfl)
theorem dX7_letter_97 : decode cX7_letter 97 = .ok (.if_icmp .ge 6, 3) := dk_162 0 6 (dk_at dksX7_letter_4 4 rfl rfl)
theorem dX7_letter_100 : decode cX7_letter 100 = .ok (.bipush 91, 2) := dk_16 91 (dk_at dksX7_letter_4 7 rfl rfl)
theorem dX7_letter_102 : decode cX7_letter 102 = .ok (.ireturn, 1) := dk_172 (dk_at dksX7_letter_4 9 rfl rfl)
theorem dX7_letter_103 : decode cX7_letter 103 = .ok (.iload_n 2, 1) := dk_28 (dk_at dksX7_letter_4 10 rfl rfl)
theorem dX7_letter_104 : decode cX7_letter 104 = .ok (.iload 4, 2) := dk_21 4 (dk_at dksX7_letter_4 11 rfl rfl)
theorem dX7_letter_106 : decode cX7_letter 106 = .ok (.isub, 1) := dk_100 (dk_at dksX7_letter_4 13 rfl rfl)
theorem dX7_letter_107 : decode cX7_letter 107 = .ok (.istore 7, 2) := dk_54 7 (dk_at dksX7_letter_4 14 rfl rfl)
theorem dX7_letter_109 : decode cX7_letter 109 = .ok (.iload_n 3, 1) := dk_29 (dk_at dksX7_letter_4 16 rfl rfl)
theorem dX7_letter_110 : decode cX7_letter 110 = .ok (.bipush 8, 2) := dk_16 8 (dk_at dksX7_letter_4 17 rfl rfl)
theorem dX7_letter_112 : decode cX7_letter 112 = .ok (.if_icmp .ge 76, 3) := dk_162 0 76 (dk_at dksX7_letter_4 19 rfl rfl)
theorem dX7_letter_115 : decode cX7_letter 115 = .ok (.iload_n 3, 1) := dk_29 (dk_at dksX7_letter_4 22 rfl rfl)
theorem dX7_letter_116 : decode cX7_letter 116 = .ok (.ifCond .ne 8, 3) := dk_154 0 8 (dk_at dksX7_letter_5 0 rfl rfl)
theorem dX7_letter_119 : decode cX7_letter 119 = .ok (.bipush 90, 2) := dk_16 90 (dk_at dksX7_letter_5 3 rfl rfl)
theorem dX7_letter_121 : decode cX7_letter 121 = .ok (.goto 66, 3) := dk_167 0 66 (dk_at dksX7_letter_5 5 rfl rfl)
theorem dX7_letter_124 : decode cX7_letter 124 = .ok (.iload_n 3, 1) := dk_29 (dk_at dksX7_letter_5 8 rfl rfl)
theorem dX7_letter_125 : decode cX7_letter 125 = .ok (.iconst 1, 1) := dk_4 (dk_at dksX7_letter_5 9 rfl rfl)
theorem dX7_letter_126 : decode cX7_letter 126 = .ok (.if_icmp .ne 8, 3) := dk_160 0 8 (dk_at dksX7_letter_5 10 rfl rfl)
theorem dX7_letter_129 : decode cX7_letter 129 = .ok (.bipush 67, 2) := dk_16 67 (dk_at dksX7_letter_5 13 rfl rfl)
theorem dX7_letter_131 : decode cX7_letter 131 = .ok (.goto 56, 3) := dk_167 0 56 (dk_at dksX7_letter_5 15 rfl rfl)
theorem dX7_letter_134 : decode cX7_letter 134 = .ok (.iload_n 3, 1) := dk_29 (dk_at dksX7_letter_5 18 rfl rfl)
theorem dX7_letter_135 : decode cX7_letter 135 = .ok (.iconst 2, 1) := dk_5 (dk_at dksX7_letter_5 19 rfl rfl)
theorem dX7_letter_136 : decode cX7_letter 136 = .ok (.if_icmp .ne 8, 3) := dk_160 0 8 (dk_at dksX7_letter_5 20 rfl rfl)
theorem dX7_letter_139 : decode cX7_letter 139 = .ok (.bipush 66, 2) := dk_16 66 (dk_at dksX7_letter_6 0 rfl rfl)
theorem dX7_letter_141 : decode cX7_letter 141 = .ok (.goto 46, 3) := dk_167 0 46 (dk_at dksX7_letter_6 2 rfl rfl)
theorem dX7_letter_144 : decode cX7_letter 144 = .ok (.iload_n 3, 1) := dk_29 (dk_at dksX7_letter_6 5 rfl rfl)
theorem dX7_letter_145 : decode cX7_letter 145 = .ok (.iconst 3, 1) := dk_6 (dk_at dksX7_letter_6 6 rfl rfl)
theorem dX7_letter_146 : decode cX7_letter 146 = .ok (.if_icmp .ne 8, 3) := dk_160 0 8 (dk_at dksX7_letter_6 7 rfl rfl)
theorem dX7_letter_149 : decode cX7_letter 149 = .ok (.bipush 83, 2) := dk_16 83 (dk_at dksX7_letter_6 10 rfl rfl)
theorem dX7_letter_151 : decode cX7_letter 151 = .ok (.goto 36, 3) := dk_167 0 36 (dk_at dksX7_letter_6 12 rfl rfl)
theorem dX7_letter_154 : decode cX7_letter 154 = .ok (.iload_n 3, 1) := dk_29 (dk_at dksX7_letter_6 15 rfl rfl)
theorem dX7_letter_155 : decode cX7_letter 155 = .ok (.iconst 4, 1) := dk_7 (dk_at dksX7_letter_6 16 rfl rfl)
theorem dX7_letter_156 : decode cX7_letter 156 = .ok (.if_icmp .ne 8, 3) := dk_160 0 8 (dk_at dksX7_letter_6 17 rfl rfl)
theorem dX7_letter_159 : decode cX7_letter 159 = .ok (.bipush 73, 2) := dk_16 73 (dk_at dksX7_letter_6 20 rfl rfl)
theorem dX7_letter_161 : decode cX7_letter 161 = .ok (.goto 26, 3) := dk_167 0 26 (dk_at dksX7_letter_7 0 rfl rfl)
theorem dX7_letter_164 : decode cX7_letter 164 = .ok (.iload_n 3, 1) := dk_29 (dk_at dksX7_letter_7 3 rfl rfl)
theorem dX7_letter_165 : decode cX7_letter 165 = .ok (.iconst 5, 1) := dk_8 (dk_at dksX7_letter_7 4 rfl rfl)
theorem dX7_letter_166 : decode cX7_letter 166 = .ok (.if_icmp .ne 8, 3) := dk_160 0 8 (dk_at dksX7_letter_7 5 rfl rfl)
theorem dX7_letter_169 : decode cX7_letter 169 = .ok (.bipush 74, 2) := dk_16 74 (dk_at dksX7_letter_7 8 rfl rfl)
theorem dX7_letter_171 : decode cX7_letter 171 = .ok (.goto 16, 3) := dk_167 0 16 (dk_at dksX7_letter_7 10 rfl rfl)
theorem dX7_letter_174 : decode cX7_letter 174 = .ok (.iload_n 3, 1) := dk_29 (dk_at dksX7_letter_7 13 rfl rfl)
theorem dX7_letter_175 : decode cX7_letter 175 = .ok (.bipush 6, 2) := dk_16 6 (dk_at dksX7_letter_7 14 rfl rfl)
theorem dX7_letter_177 : decode cX7_letter 177 = .ok (.if_icmp .ne 8, 3) := dk_160 0 8 (dk_at dksX7_letter_7 16 rfl rfl)
theorem dX7_letter_180 : decode cX7_letter 180 = .ok (.bipush 70, 2) := dk_16 70 (dk_at dksX7_letter_7 19 rfl rfl)
theorem dX7_letter_182 : decode cX7_letter 182 = .ok (.goto 5, 3) := dk_167 0 5 (dk_at dksX7_letter_7 21 rfl rfl)
theorem dX7_letter_185 : decode cX7_letter 185 = .ok (.bipush 68, 2) := dk_16 68 (dk_at dksX7_letter_8 0 rfl rfl)
theorem dX7_letter_187 : decode cX7_letter 187 = .ok (.ireturn, 1) := dk_172 (dk_at dksX7_letter_8 2 rfl rfl)
theorem dX7_letter_188 : decode cX7_letter 188 = .ok (.iload 7, 2) := dk_21 7 (dk_at dksX7_letter_8 3 rfl rfl)
theorem dX7_letter_190 : decode cX7_letter 190 = .ok (.ifCond .ne 8, 3) := dk_154 0 8 (dk_at dksX7_letter_8 5 rfl rfl)
theorem dX7_letter_193 : decode cX7_letter 193 = .ok (.bipush 76, 2) := dk_16 76 (dk_at dksX7_letter_8 8 rfl rfl)
theorem dX7_letter_195 : decode cX7_letter 195 = .ok (.goto 46, 3) := dk_167 0 46 (dk_at dksX7_letter_8 10 rfl rfl)
theorem dX7_letter_198 : decode cX7_letter 198 = .ok (.iload 7, 2) := dk_21 7 (dk_at dksX7_letter_8 13 rfl rfl)
theorem dX7_letter_200 : decode cX7_letter 200 = .ok (.iload 5, 2) := dk_21 5 (dk_at dksX7_letter_8 15 rfl rfl)
theorem dX7_letter_202 : decode cX7_letter 202 = .ok (.iconst 1, 1) := dk_4 (dk_at dksX7_letter_8 17 rfl rfl)
theorem dX7_letter_203 : decode cX7_letter 203 = .ok (.iadd, 1) := dk_96 (dk_at dksX7_letter_8 18 rfl rfl)
theorem dX7_letter_204 : decode cX7_letter 204 = .ok (.if_icmp .ne 8, 3) := dk_160 0 8 (dk_at dksX7_letter_8 19 rfl rfl)
theorem dX7_letter_207 : decode cX7_letter 207 = .ok (.bipush 59, 2) := dk_16 59 (dk_at dksX7_letter_8 22 rfl rfl)
theorem dX7_letter_209 : decode cX7_letter 209 = .ok (.goto 32, 3) := dk_167 0 32 (dk_at dksX7_letter_9 0 rfl rfl)
theorem dX7_letter_212 : decode cX7_letter 212 = .ok (.iload 7, 2) := dk_21 7 (dk_at dksX7_letter_9 3 rfl rfl)
theorem dX7_letter_214 : decode cX7_letter 214 = .ok (.iconst 1, 1) := dk_4 (dk_at dksX7_letter_9 5 rfl rfl)
theorem dX7_letter_215 : decode cX7_letter 215 = .ok (.if_icmp .ne 19, 3) := dk_160 0 19 (dk_at dksX7_letter_9 6 rfl rfl)
theorem dX7_letter_218 : decode cX7_letter 218 = .ok (.iload 5, 2) := dk_21 5 (dk_at dksX7_letter_9 9 rfl rfl)
theorem dX7_letter_220 : decode cX7_letter 220 = .ok (.iconst 2, 1) := dk_5 (dk_at dksX7_letter_9 11 rfl rfl)
theorem dX7_letter_221 : decode cX7_letter 221 = .ok (.if_icmp .ne 13, 3) := dk_160 0 13 (dk_at dksX7_letter_9 12 rfl rfl)
theorem dX7_letter_224 : decode cX7_letter 224 = .ok (.bipush 48, 2) := dk_16 48 (dk_at dksX7_letter_9 15 rfl rfl)
theorem dX7_letter_226 : decode cX7_letter 226 = .ok (.iload_n 3, 1) := dk_29 (dk_at dksX7_letter_9 17 rfl rfl)
theorem dX7_letter_227 : decode cX7_letter 227 = .ok (.bipush 10, 2) := dk_16 10 (dk_at dksX7_letter_9 18 rfl rfl)
theorem dX7_letter_229 : decode cX7_letter 229 = .ok (.idiv, 1) := dk_108 (dk_at dksX7_letter_9 20 rfl rfl)
theorem dX7_letter_230 : decode cX7_letter 230 = .ok (.iadd, 1) := dk_96 (dk_at dksX7_letter_9 21 rfl rfl)
theorem dX7_letter_231 : decode cX7_letter 231 = .ok (.goto 10, 3) := dk_167 0 10 (dk_at dksX7_letter_10 0 rfl rfl)
theorem dX7_letter_234 : decode cX7_letter 234 = .ok (.bipush 48, 2) := dk_16 48 (dk_at dksX7_letter_10 3 rfl rfl)
theorem dX7_letter_236 : decode cX7_letter 236 = .ok (.iload_n 3, 1) := dk_29 (dk_at dksX7_letter_10 5 rfl rfl)
theorem dX7_letter_237 : decode cX7_letter 237 = .ok (.bipush 10, 2) := dk_16 10 (dk_at dksX7_letter_10 6 rfl rfl)
theorem dX7_letter_239 : decode cX7_letter 239 = .ok (.irem, 1) := dk_112 (dk_at dksX7_letter_10 8 rfl rfl)
theorem dX7_letter_240 : decode cX7_letter 240 = .ok (.iadd, 1) := dk_96 (dk_at dksX7_letter_10 9 rfl rfl)
theorem dX7_letter_241 : decode cX7_letter 241 = .ok (.ireturn, 1) := dk_172 (dk_at dksX7_letter_10 10 rfl rfl)
abbrev cX7_field : ByteArray := prog_30_method_38_code
def yX7_field : MethodName := ⟨RX7, "field", "(IIII)I"⟩
def dkwX7_field_5 : List UInt8 := [182, 0, 212, 172]
abbrev dktX7_field_5 : List UInt8 := dkwX7_field_5 ++ []
def dkwX7_field_4 : List UInt8 := [160, 0, 6, 16, 253, 172, 42, 89, 180, 0, 209, 4, 96, 181, 0, 209, 42, 27, 28, 29, 21, 4, 4]
abbrev dktX7_field_4 : List UInt8 := dkwX7_field_4 ++ dktX7_field_5
def dkwX7_field_3 : List UInt8 := [29, 7, 126, 154, 0, 14, 42, 27, 182, 0, 173, 153, 0, 6, 16, 254, 172, 42, 180, 0, 182, 16, 100]
abbrev dktX7_field_3 : List UInt8 := dkwX7_field_3 ++ dktX7_field_4
def dkwX7_field_2 : List UInt8 := [160, 0, 12, 42, 21, 4, 182, 0, 131, 154, 0, 5, 2, 172, 42, 27, 28, 182, 0, 205, 2, 160, 0, 17]
abbrev dktX7_field_2 : List UInt8 := dkwX7_field_2 ++ dktX7_field_3
def dkwX7_field_1 : List UInt8 := [20, 0, 203, 184, 0, 127, 153, 0, 28, 42, 180, 0, 13, 27, 46, 6, 160, 0, 9, 29, 16, 13]
abbrev dktX7_field_1 : List UInt8 := dkwX7_field_1 ++ dktX7_field_2
def dkwX7_field_0 : List UInt8 := [42, 27, 182, 0, 165, 153, 0, 52, 28, 133, 9, 20, 0, 201, 184, 0, 127, 153, 0, 40, 29, 133, 9]
abbrev dktX7_field_0 : List UInt8 := dkwX7_field_0 ++ dktX7_field_1
theorem dksX7_field_0 : cX7_field.data.toList.drop 0 = dktX7_field_0 := by decide +kernel
theorem dksX7_field_1 : cX7_field.data.toList.drop 23 = dktX7_field_1 := dk_seg dksX7_field_0 23 rfl rfl
theorem dksX7_field_2 : cX7_field.data.toList.drop 45 = dktX7_field_2 := dk_seg dksX7_field_1 22 rfl rfl
theorem dksX7_field_3 : cX7_field.data.toList.drop 69 = dktX7_field_3 := dk_seg dksX7_field_2 24 rfl rfl
theorem dksX7_field_4 : cX7_field.data.toList.drop 92 = dktX7_field_4 := dk_seg dksX7_field_3 23 rfl rfl
theorem dksX7_field_5 : cX7_field.data.toList.drop 115 = dktX7_field_5 := dk_seg dksX7_field_4 23 rfl rfl
theorem dX7_field_0 : decode cX7_field 0 = .ok (.aload_n 0, 1) := dk_42 (dk_at dksX7_field_0 0 rfl rfl)
theorem dX7_field_1 : decode cX7_field 1 = .ok (.iload_n 1, 1) := dk_27 (dk_at dksX7_field_0 1 rfl rfl)
theorem dX7_field_2 : decode cX7_field 2 = .ok (.invokevirtual 165, 3) := dk_182 0 165 (dk_at dksX7_field_0 2 rfl rfl)
theorem dX7_field_5 : decode cX7_field 5 = .ok (.ifCond .eq 52, 3) := dk_153 0 52 (dk_at dksX7_field_0 5 rfl rfl)
theorem dX7_field_8 : decode cX7_field 8 = .ok (.iload_n 2, 1) := dk_28 (dk_at dksX7_field_0 8 rfl rfl)
theorem dX7_field_9 : decode cX7_field 9 = .ok (.i2l, 1) := dk_133 (dk_at dksX7_field_0 9 rfl rfl)
theorem dX7_field_10 : decode cX7_field 10 = .ok (.lconst 0, 1) := dk_9 (dk_at dksX7_field_0 10 rfl rfl)
theorem dX7_field_11 : decode cX7_field 11 = .ok (.ldc2_w 201, 3) := dk_20 0 201 (dk_at dksX7_field_0 11 rfl rfl)
theorem dX7_field_14 : decode cX7_field 14 = .ok (.invokestatic 127, 3) := dk_184 0 127 (dk_at dksX7_field_0 14 rfl rfl)
theorem dX7_field_17 : decode cX7_field 17 = .ok (.ifCond .eq 40, 3) := dk_153 0 40 (dk_at dksX7_field_0 17 rfl rfl)
theorem dX7_field_20 : decode cX7_field 20 = .ok (.iload_n 3, 1) := dk_29 (dk_at dksX7_field_0 20 rfl rfl)
theorem dX7_field_21 : decode cX7_field 21 = .ok (.i2l, 1) := dk_133 (dk_at dksX7_field_0 21 rfl rfl)
theorem dX7_field_22 : decode cX7_field 22 = .ok (.lconst 0, 1) := dk_9 (dk_at dksX7_field_0 22 rfl rfl)
theorem dX7_field_23 : decode cX7_field 23 = .ok (.ldc2_w 203, 3) := dk_20 0 203 (dk_at dksX7_field_1 0 rfl rfl)
theorem dX7_field_26 : decode cX7_field 26 = .ok (.invokestatic 127, 3) := dk_184 0 127 (dk_at dksX7_field_1 3 rfl rfl)
theorem dX7_field_29 : decode cX7_field 29 = .ok (.ifCond .eq 28, 3) := dk_153 0 28 (dk_at dksX7_field_1 6 rfl rfl)
theorem dX7_field_32 : decode cX7_field 32 = .ok (.aload_n 0, 1) := dk_42 (dk_at dksX7_field_1 9 rfl rfl)
theorem dX7_field_33 : decode cX7_field 33 = .ok (.getfield 13, 3) := dk_180 0 13 (dk_at dksX7_field_1 10 rfl rfl)
theorem dX7_field_36 : decode cX7_field 36 = .ok (.iload_n 1, 1) := dk_27 (dk_at dksX7_field_1 13 rfl rfl)
theorem dX7_field_37 : decode cX7_field 37 = .ok (.iaload, 1) := dk_46 (dk_at dksX7_field_1 14 rfl rfl)
theorem dX7_field_38 : decode cX7_field 38 = .ok (.iconst 3, 1) := dk_6 (dk_at dksX7_field_1 15 rfl rfl)
theorem dX7_field_39 : decode cX7_field 39 = .ok (.if_icmp .ne 9, 3) := dk_160 0 9 (dk_at dksX7_field_1 16 rfl rfl)
theorem dX7_field_42 : decode cX7_field 42 = .ok (.iload_n 3, 1) := dk_29 (dk_at dksX7_field_1 19 rfl rfl)
theorem dX7_field_43 : decode cX7_field 43 = .ok (.bipush 13, 2) := dk_16 13 (dk_at dksX7_field_1 20 rfl rfl)
theorem dX7_field_45 : decode cX7_field 45 = .ok (.if_icmp .ne 12, 3) := dk_160 0 12 (dk_at dksX7_field_2 0 rfl rfl)
theorem dX7_field_48 : decode cX7_field 48 = .ok (.aload_n 0, 1) := dk_42 (dk_at dksX7_field_2 3 rfl rfl)
theorem dX7_field_49 : decode cX7_field 49 = .ok (.iload 4, 2) := dk_21 4 (dk_at dksX7_field_2 4 rfl rfl)
theorem dX7_field_51 : decode cX7_field 51 = .ok (.invokevirtual 131, 3) := dk_182 0 131 (dk_at dksX7_field_2 6 rfl rfl)
theorem dX7_field_54 : decode cX7_field 54 = .ok (.ifCond .ne 5, 3) := dk_154 0 5 (dk_at dksX7_field_2 9 rfl rfl)
theorem dX7_field_57 : decode cX7_field 57 = .ok (.iconst (-1), 1) := dk_2 (dk_at dksX7_field_2 12 rfl rfl)
theorem dX7_field_58 : decode cX7_field 58 = .ok (.ireturn, 1) := dk_172 (dk_at dksX7_field_2 13 rfl rfl)
theorem dX7_field_59 : decode cX7_field 59 = .ok (.aload_n 0, 1) := dk_42 (dk_at dksX7_field_2 14 rfl rfl)
theorem dX7_field_60 : decode cX7_field 60 = .ok (.iload_n 1, 1) := dk_27 (dk_at dksX7_field_2 15 rfl rfl)
theorem dX7_field_61 : decode cX7_field 61 = .ok (.iload_n 2, 1) := dk_28 (dk_at dksX7_field_2 16 rfl rfl)
theorem dX7_field_62 : decode cX7_field 62 = .ok (.invokevirtual 205, 3) := dk_182 0 205 (dk_at dksX7_field_2 17 rfl rfl)
theorem dX7_field_65 : decode cX7_field 65 = .ok (.iconst (-1), 1) := dk_2 (dk_at dksX7_field_2 20 rfl rfl)
theorem dX7_field_66 : decode cX7_field 66 = .ok (.if_icmp .ne 17, 3) := dk_160 0 17 (dk_at dksX7_field_2 21 rfl rfl)
theorem dX7_field_69 : decode cX7_field 69 = .ok (.iload_n 3, 1) := dk_29 (dk_at dksX7_field_3 0 rfl rfl)
theorem dX7_field_70 : decode cX7_field 70 = .ok (.iconst 4, 1) := dk_7 (dk_at dksX7_field_3 1 rfl rfl)
theorem dX7_field_71 : decode cX7_field 71 = .ok (.iand, 1) := dk_126 (dk_at dksX7_field_3 2 rfl rfl)
theorem dX7_field_72 : decode cX7_field 72 = .ok (.ifCond .ne 14, 3) := dk_154 0 14 (dk_at dksX7_field_3 3 rfl rfl)
theorem dX7_field_75 : decode cX7_field 75 = .ok (.aload_n 0, 1) := dk_42 (dk_at dksX7_field_3 6 rfl rfl)
theorem dX7_field_76 : decode cX7_field 76 = .ok (.iload_n 1, 1) := dk_27 (dk_at dksX7_field_3 7 rfl rfl)
theorem dX7_field_77 : decode cX7_field 77 = .ok (.invokevirtual 173, 3) := dk_182 0 173 (dk_at dksX7_field_3 8 rfl rfl)
theorem dX7_field_80 : decode cX7_field 80 = .ok (.ifCond .eq 6, 3) := dk_153 0 6 (dk_at dksX7_field_3 11 rfl rfl)
theorem dX7_field_83 : decode cX7_field 83 = .ok (.bipush (-2), 2) := dk_16 254 (dk_at dksX7_field_3 14 rfl rfl)
theorem dX7_field_85 : decode cX7_field 85 = .ok (.ireturn, 1) := dk_172 (dk_at dksX7_field_3 16 rfl rfl)
theorem dX7_field_86 : decode cX7_field 86 = .ok (.aload_n 0, 1) := dk_42 (dk_at dksX7_field_3 17 rfl rfl)
theorem dX7_field_87 : decode cX7_field 87 = .ok (.getfield 182, 3) := dk_180 0 182 (dk_at dksX7_field_3 18 rfl rfl)
theorem dX7_field_90 : decode cX7_field 90 = .ok (.bipush 100, 2) := dk_16 100 (dk_at dksX7_field_3 21 rfl rfl)
theorem dX7_field_92 : decode cX7_field 92 = .ok (.if_icmp .ne 6, 3) := dk_160 0 6 (dk_at dksX7_field_4 0 rfl rfl)
theorem dX7_field_95 : decode cX7_field 95 = .ok (.bipush (-3), 2) := dk_16 253 (dk_at dksX7_field_4 3 rfl rfl)
theorem dX7_field_97 : decode cX7_field 97 = .ok (.ireturn, 1) := dk_172 (dk_at dksX7_field_4 5 rfl rfl)
theorem dX7_field_98 : decode cX7_field 98 = .ok (.aload_n 0, 1) := dk_42 (dk_at dksX7_field_4 6 rfl rfl)
theorem dX7_field_99 : decode cX7_field 99 = .ok (.dup, 1) := dk_89 (dk_at dksX7_field_4 7 rfl rfl)
theorem dX7_field_100 : decode cX7_field 100 = .ok (.getfield 209, 3) := dk_180 0 209 (dk_at dksX7_field_4 8 rfl rfl)
theorem dX7_field_103 : decode cX7_field 103 = .ok (.iconst 1, 1) := dk_4 (dk_at dksX7_field_4 11 rfl rfl)
theorem dX7_field_104 : decode cX7_field 104 = .ok (.iadd, 1) := dk_96 (dk_at dksX7_field_4 12 rfl rfl)
theorem dX7_field_105 : decode cX7_field 105 = .ok (.putfield 209, 3) := dk_181 0 209 (dk_at dksX7_field_4 13 rfl rfl)
theorem dX7_field_108 : decode cX7_field 108 = .ok (.aload_n 0, 1) := dk_42 (dk_at dksX7_field_4 16 rfl rfl)
theorem dX7_field_109 : decode cX7_field 109 = .ok (.iload_n 1, 1) := dk_27 (dk_at dksX7_field_4 17 rfl rfl)
theorem dX7_field_110 : decode cX7_field 110 = .ok (.iload_n 2, 1) := dk_28 (dk_at dksX7_field_4 18 rfl rfl)
theorem dX7_field_111 : decode cX7_field 111 = .ok (.iload_n 3, 1) := dk_29 (dk_at dksX7_field_4 19 rfl rfl)
theorem dX7_field_112 : decode cX7_field 112 = .ok (.iload 4, 2) := dk_21 4 (dk_at dksX7_field_4 20 rfl rfl)
theorem dX7_field_114 : decode cX7_field 114 = .ok (.iconst 1, 1) := dk_4 (dk_at dksX7_field_4 22 rfl rfl)
theorem dX7_field_115 : decode cX7_field 115 = .ok (.invokevirtual 212, 3) := dk_182 0 212 (dk_at dksX7_field_5 0 rfl rfl)
theorem dX7_field_118 : decode cX7_field 118 = .ok (.ireturn, 1) := dk_172 (dk_at dksX7_field_5 3 rfl rfl)
abbrev cX7_ownField : ByteArray := prog_30_method_33_code
def yX7_ownField : MethodName := ⟨RX7, "ownField", "(II)I"⟩
def dkwX7_ownField_2 : List UInt8 := [167, 0, 4, 29, 62, 132, 4, 1, 167, 255, 205, 29, 172]
abbrev dktX7_ownField_2 : List UInt8 := dkwX7_ownField_2 ++ []
def dkwX7_ownField_1 : List UInt8 := [42, 180, 0, 45, 21, 4, 46, 27, 160, 0, 19, 42, 180, 0, 48, 21, 4, 46, 28, 160, 0, 8, 21, 4]
abbrev dktX7_ownField_1 : List UInt8 := dkwX7_ownField_1 ++ dktX7_ownField_2
def dkwX7_ownField_0 : List UInt8 := [2, 62, 3, 54, 4, 21, 4, 42, 180, 0, 182, 162, 0, 48, 42, 180, 0, 54, 21, 4, 51, 153, 0, 30]
abbrev dktX7_ownField_0 : List UInt8 := dkwX7_ownField_0 ++ dktX7_ownField_1
theorem dksX7_ownField_0 : cX7_ownField.data.toList.drop 0 = dktX7_ownField_0 := by decide +kernel
theorem dksX7_ownField_1 : cX7_ownField.data.toList.drop 24 = dktX7_ownField_1 := dk_seg dksX7_ownField_0 24 rfl rfl
theorem dksX7_ownField_2 : cX7_ownField.data.toList.drop 48 = dktX7_ownField_2 := dk_seg dksX7_ownField_1 24 rfl rfl
theorem dX7_ownField_0 : decode cX7_ownField 0 = .ok (.iconst (-1), 1) := dk_2 (dk_at dksX7_ownField_0 0 rfl rfl)
theorem dX7_ownField_1 : decode cX7_ownField 1 = .ok (.istore_n 3, 1) := dk_62 (dk_at dksX7_ownField_0 1 rfl rfl)
theorem dX7_ownField_2 : decode cX7_ownField 2 = .ok (.iconst 0, 1) := dk_3 (dk_at dksX7_ownField_0 2 rfl rfl)
theorem dX7_ownField_3 : decode cX7_ownField 3 = .ok (.istore 4, 2) := dk_54 4 (dk_at dksX7_ownField_0 3 rfl rfl)
theorem dX7_ownField_5 : decode cX7_ownField 5 = .ok (.iload 4, 2) := dk_21 4 (dk_at dksX7_ownField_0 5 rfl rfl)
theorem dX7_ownField_7 : decode cX7_ownField 7 = .ok (.aload_n 0, 1) := dk_42 (dk_at dksX7_ownField_0 7 rfl rfl)
theorem dX7_ownField_8 : decode cX7_ownField 8 = .ok (.getfield 182, 3) := dk_180 0 182 (dk_at dksX7_ownField_0 8 rfl rfl)
theorem dX7_ownField_11 : decode cX7_ownField 11 = .ok (.if_icmp .ge 48, 3) := dk_162 0 48 (dk_at dksX7_ownField_0 11 rfl rfl)
theorem dX7_ownField_14 : decode cX7_ownField 14 = .ok (.aload_n 0, 1) := dk_42 (dk_at dksX7_ownField_0 14 rfl rfl)
theorem dX7_ownField_15 : decode cX7_ownField 15 = .ok (.getfield 54, 3) := dk_180 0 54 (dk_at dksX7_ownField_0 15 rfl rfl)
theorem dX7_ownField_18 : decode cX7_ownField 18 = .ok (.iload 4, 2) := dk_21 4 (dk_at dksX7_ownField_0 18 rfl rfl)
theorem dX7_ownField_20 : decode cX7_ownField 20 = .ok (.baload, 1) := dk_51 (dk_at dksX7_ownField_0 20 rfl rfl)
theorem dX7_ownField_21 : decode cX7_ownField 21 = .ok (.ifCond .eq 30, 3) := dk_153 0 30 (dk_at dksX7_ownField_0 21 rfl rfl)
theorem dX7_ownField_24 : decode cX7_ownField 24 = .ok (.aload_n 0, 1) := dk_42 (dk_at dksX7_ownField_1 0 rfl rfl)
theorem dX7_ownField_25 : decode cX7_ownField 25 = .ok (.getfield 45, 3) := dk_180 0 45 (dk_at dksX7_ownField_1 1 rfl rfl)
theorem dX7_ownField_28 : decode cX7_ownField 28 = .ok (.iload 4, 2) := dk_21 4 (dk_at dksX7_ownField_1 4 rfl rfl)
theorem dX7_ownField_30 : decode cX7_ownField 30 = .ok (.iaload, 1) := dk_46 (dk_at dksX7_ownField_1 6 rfl rfl)
theorem dX7_ownField_31 : decode cX7_ownField 31 = .ok (.iload_n 1, 1) := dk_27 (dk_at dksX7_ownField_1 7 rfl rfl)
theorem dX7_ownField_32 : decode cX7_ownField 32 = .ok (.if_icmp .ne 19, 3) := dk_160 0 19 (dk_at dksX7_ownField_1 8 rfl rfl)
theorem dX7_ownField_35 : decode cX7_ownField 35 = .ok (.aload_n 0, 1) := dk_42 (dk_at dksX7_ownField_1 11 rfl rfl)
theorem dX7_ownField_36 : decode cX7_ownField 36 = .ok (.getfield 48, 3) := dk_180 0 48 (dk_at dksX7_ownField_1 12 rfl rfl)
theorem dX7_ownField_39 : decode cX7_ownField 39 = .ok (.iload 4, 2) := dk_21 4 (dk_at dksX7_ownField_1 15 rfl rfl)
theorem dX7_ownField_41 : decode cX7_ownField 41 = .ok (.iaload, 1) := dk_46 (dk_at dksX7_ownField_1 17 rfl rfl)
theorem dX7_ownField_42 : decode cX7_ownField 42 = .ok (.iload_n 2, 1) := dk_28 (dk_at dksX7_ownField_1 18 rfl rfl)
theorem dX7_ownField_43 : decode cX7_ownField 43 = .ok (.if_icmp .ne 8, 3) := dk_160 0 8 (dk_at dksX7_ownField_1 19 rfl rfl)
theorem dX7_ownField_46 : decode cX7_ownField 46 = .ok (.iload 4, 2) := dk_21 4 (dk_at dksX7_ownField_1 22 rfl rfl)
theorem dX7_ownField_48 : decode cX7_ownField 48 = .ok (.goto 4, 3) := dk_167 0 4 (dk_at dksX7_ownField_2 0 rfl rfl)
theorem dX7_ownField_51 : decode cX7_ownField 51 = .ok (.iload_n 3, 1) := dk_29 (dk_at dksX7_ownField_2 3 rfl rfl)
theorem dX7_ownField_52 : decode cX7_ownField 52 = .ok (.istore_n 3, 1) := dk_62 (dk_at dksX7_ownField_2 4 rfl rfl)
theorem dX7_ownField_53 : decode cX7_ownField 53 = .ok (.iinc 4 1, 3) := dk_132 4 1 (dk_at dksX7_ownField_2 5 rfl rfl)
theorem dX7_ownField_56 : decode cX7_ownField 56 = .ok (.goto (-51), 3) := dk_167 255 205 (dk_at dksX7_ownField_2 8 rfl rfl)
theorem dX7_ownField_59 : decode cX7_ownField 59 = .ok (.iload_n 3, 1) := dk_29 (dk_at dksX7_ownField_2 11 rfl rfl)
theorem dX7_ownField_60 : decode cX7_ownField 60 = .ok (.ireturn, 1) := dk_172 (dk_at dksX7_ownField_2 12 rfl rfl)
abbrev cX7_declare : ByteArray := prog_30_method_36_code
def yX7_declare : MethodName := ⟨RX7, "declare", "(IIIIZ)I"⟩
def dkwX7_declare_4 : List UInt8 := [21, 4, 184, 0, 195, 80, 21, 6, 172]
abbrev dktX7_declare_4 : List UInt8 := dkwX7_declare_4 ++ []
def dkwX7_declare_3 : List UInt8 := [3, 84, 42, 180, 0, 69, 21, 6, 3, 84, 42, 180, 0, 72, 21, 6, 3, 79, 42, 180, 0, 84, 21, 6]
abbrev dktX7_declare_3 : List UInt8 := dkwX7_declare_3 ++ dktX7_declare_4
def dkwX7_declare_2 : List UInt8 := [79, 42, 180, 0, 54, 21, 6, 21, 5, 84, 42, 180, 0, 60, 21, 6, 3, 79, 42, 180, 0, 66, 21, 6]
abbrev dktX7_declare_2 : List UInt8 := dkwX7_declare_2 ++ dktX7_declare_3
def dkwX7_declare_1 : List UInt8 := [42, 180, 0, 48, 21, 6, 28, 79, 42, 180, 0, 51, 21, 6, 29, 79, 42, 180, 0, 57, 21, 6, 21, 4]
abbrev dktX7_declare_1 : List UInt8 := dkwX7_declare_1 ++ dktX7_declare_2
def dkwX7_declare_0 : List UInt8 := [42, 180, 0, 182, 54, 6, 42, 89, 180, 0, 182, 4, 96, 181, 0, 182, 42, 180, 0, 45, 21, 6, 27, 79]
abbrev dktX7_declare_0 : List UInt8 := dkwX7_declare_0 ++ dktX7_declare_1
theorem dksX7_declare_0 : cX7_declare.data.toList.drop 0 = dktX7_declare_0 := by decide +kernel
theorem dksX7_declare_1 : cX7_declare.data.toList.drop 24 = dktX7_declare_1 := dk_seg dksX7_declare_0 24 rfl rfl
theorem dksX7_declare_2 : cX7_declare.data.toList.drop 48 = dktX7_declare_2 := dk_seg dksX7_declare_1 24 rfl rfl
theorem dksX7_declare_3 : cX7_declare.data.toList.drop 72 = dktX7_declare_3 := dk_seg dksX7_declare_2 24 rfl rfl
theorem dksX7_declare_4 : cX7_declare.data.toList.drop 96 = dktX7_declare_4 := dk_seg dksX7_declare_3 24 rfl rfl
theorem dX7_declare_0 : decode cX7_declare 0 = .ok (.aload_n 0, 1) := dk_42 (dk_at dksX7_declare_0 0 rfl rfl)
theorem dX7_declare_1 : decode cX7_declare 1 = .ok (.getfield 182, 3) := dk_180 0 182 (dk_at dksX7_declare_0 1 rfl rfl)
theorem dX7_declare_4 : decode cX7_declare 4 = .ok (.istore 6, 2) := dk_54 6 (dk_at dksX7_declare_0 4 rfl rfl)
theorem dX7_declare_6 : decode cX7_declare 6 = .ok (.aload_n 0, 1) := dk_42 (dk_at dksX7_declare_0 6 rfl rfl)
theorem dX7_declare_7 : decode cX7_declare 7 = .ok (.dup, 1) := dk_89 (dk_at dksX7_declare_0 7 rfl rfl)
theorem dX7_declare_8 : decode cX7_declare 8 = .ok (.getfield 182, 3) := dk_180 0 182 (dk_at dksX7_declare_0 8 rfl rfl)
theorem dX7_declare_11 : decode cX7_declare 11 = .ok (.iconst 1, 1) := dk_4 (dk_at dksX7_declare_0 11 rfl rfl)
theorem dX7_declare_12 : decode cX7_declare 12 = .ok (.iadd, 1) := dk_96 (dk_at dksX7_declare_0 12 rfl rfl)
theorem dX7_declare_13 : decode cX7_declare 13 = .ok (.putfield 182, 3) := dk_181 0 182 (dk_at dksX7_declare_0 13 rfl rfl)
theorem dX7_declare_16 : decode cX7_declare 16 = .ok (.aload_n 0, 1) := dk_42 (dk_at dksX7_declare_0 16 rfl rfl)
theorem dX7_declare_17 : decode cX7_declare 17 = .ok (.getfield 45, 3) := dk_180 0 45 (dk_at dksX7_declare_0 17 rfl rfl)
theorem dX7_declare_20 : decode cX7_declare 20 = .ok (.iload 6, 2) := dk_21 6 (dk_at dksX7_declare_0 20 rfl rfl)
theorem dX7_declare_22 : decode cX7_declare 22 = .ok (.iload_n 1, 1) := dk_27 (dk_at dksX7_declare_0 22 rfl rfl)
theorem dX7_declare_23 : decode cX7_declare 23 = .ok (.iastore, 1) := dk_79 (dk_at dksX7_declare_0 23 rfl rfl)
theorem dX7_declare_24 : decode cX7_declare 24 = .ok (.aload_n 0, 1) := dk_42 (dk_at dksX7_declare_1 0 rfl rfl)
theorem dX7_declare_25 : decode cX7_declare 25 = .ok (.getfield 48, 3) := dk_180 0 48 (dk_at dksX7_declare_1 1 rfl rfl)
theorem dX7_declare_28 : decode cX7_declare 28 = .ok (.iload 6, 2) := dk_21 6 (dk_at dksX7_declare_1 4 rfl rfl)
theorem dX7_declare_30 : decode cX7_declare 30 = .ok (.iload_n 2, 1) := dk_28 (dk_at dksX7_declare_1 6 rfl rfl)
theorem dX7_declare_31 : decode cX7_declare 31 = .ok (.iastore, 1) := dk_79 (dk_at dksX7_declare_1 7 rfl rfl)
theorem dX7_declare_32 : decode cX7_declare 32 = .ok (.aload_n 0, 1) := dk_42 (dk_at dksX7_declare_1 8 rfl rfl)
theorem dX7_declare_33 : decode cX7_declare 33 = .ok (.getfield 51, 3) := dk_180 0 51 (dk_at dksX7_declare_1 9 rfl rfl)
theorem dX7_declare_36 : decode cX7_declare 36 = .ok (.iload 6, 2) := dk_21 6 (dk_at dksX7_declare_1 12 rfl rfl)
theorem dX7_declare_38 : decode cX7_declare 38 = .ok (.iload_n 3, 1) := dk_29 (dk_at dksX7_declare_1 14 rfl rfl)
theorem dX7_declare_39 : decode cX7_declare 39 = .ok (.iastore, 1) := dk_79 (dk_at dksX7_declare_1 15 rfl rfl)
theorem dX7_declare_40 : decode cX7_declare 40 = .ok (.aload_n 0, 1) := dk_42 (dk_at dksX7_declare_1 16 rfl rfl)
theorem dX7_declare_41 : decode cX7_declare 41 = .ok (.getfield 57, 3) := dk_180 0 57 (dk_at dksX7_declare_1 17 rfl rfl)
theorem dX7_declare_44 : decode cX7_declare 44 = .ok (.iload 6, 2) := dk_21 6 (dk_at dksX7_declare_1 20 rfl rfl)
theorem dX7_declare_46 : decode cX7_declare 46 = .ok (.iload 4, 2) := dk_21 4 (dk_at dksX7_declare_1 22 rfl rfl)
theorem dX7_declare_48 : decode cX7_declare 48 = .ok (.iastore, 1) := dk_79 (dk_at dksX7_declare_2 0 rfl rfl)
theorem dX7_declare_49 : decode cX7_declare 49 = .ok (.aload_n 0, 1) := dk_42 (dk_at dksX7_declare_2 1 rfl rfl)
theorem dX7_declare_50 : decode cX7_declare 50 = .ok (.getfield 54, 3) := dk_180 0 54 (dk_at dksX7_declare_2 2 rfl rfl)
theorem dX7_declare_53 : decode cX7_declare 53 = .ok (.iload 6, 2) := dk_21 6 (dk_at dksX7_declare_2 5 rfl rfl)
theorem dX7_declare_55 : decode cX7_declare 55 = .ok (.iload 5, 2) := dk_21 5 (dk_at dksX7_declare_2 7 rfl rfl)
theorem dX7_declare_57 : decode cX7_declare 57 = .ok (.bastore, 1) := dk_84 (dk_at dksX7_declare_2 9 rfl rfl)
theorem dX7_declare_58 : decode cX7_declare 58 = .ok (.aload_n 0, 1) := dk_42 (dk_at dksX7_declare_2 10 rfl rfl)
theorem dX7_declare_59 : decode cX7_declare 59 = .ok (.getfield 60, 3) := dk_180 0 60 (dk_at dksX7_declare_2 11 rfl rfl)
theorem dX7_declare_62 : decode cX7_declare 62 = .ok (.iload 6, 2) := dk_21 6 (dk_at dksX7_declare_2 14 rfl rfl)
theorem dX7_declare_64 : decode cX7_declare 64 = .ok (.iconst 0, 1) := dk_3 (dk_at dksX7_declare_2 16 rfl rfl)
theorem dX7_declare_65 : decode cX7_declare 65 = .ok (.iastore, 1) := dk_79 (dk_at dksX7_declare_2 17 rfl rfl)
theorem dX7_declare_66 : decode cX7_declare 66 = .ok (.aload_n 0, 1) := dk_42 (dk_at dksX7_declare_2 18 rfl rfl)
theorem dX7_declare_67 : decode cX7_declare 67 = .ok (.getfield 66, 3) := dk_180 0 66 (dk_at dksX7_declare_2 19 rfl rfl)
theorem dX7_declare_70 : decode cX7_declare 70 = .ok (.iload 6, 2) := dk_21 6 (dk_at dksX7_declare_2 22 rfl rfl)
theorem dX7_declare_72 : decode cX7_declare 72 = .ok (.iconst 0, 1) := dk_3 (dk_at dksX7_declare_3 0 rfl rfl)
theorem dX7_declare_73 : decode cX7_declare 73 = .ok (.bastore, 1) := dk_84 (dk_at dksX7_declare_3 1 rfl rfl)
theorem dX7_declare_74 : decode cX7_declare 74 = .ok (.aload_n 0, 1) := dk_42 (dk_at dksX7_declare_3 2 rfl rfl)
theorem dX7_declare_75 : decode cX7_declare 75 = .ok (.getfield 69, 3) := dk_180 0 69 (dk_at dksX7_declare_3 3 rfl rfl)
theorem dX7_declare_78 : decode cX7_declare 78 = .ok (.iload 6, 2) := dk_21 6 (dk_at dksX7_declare_3 6 rfl rfl)
theorem dX7_declare_80 : decode cX7_declare 80 = .ok (.iconst 0, 1) := dk_3 (dk_at dksX7_declare_3 8 rfl rfl)
theorem dX7_declare_81 : decode cX7_declare 81 = .ok (.bastore, 1) := dk_84 (dk_at dksX7_declare_3 9 rfl rfl)
theorem dX7_declare_82 : decode cX7_declare 82 = .ok (.aload_n 0, 1) := dk_42 (dk_at dksX7_declare_3 10 rfl rfl)
theorem dX7_declare_83 : decode cX7_declare 83 = .ok (.getfield 72, 3) := dk_180 0 72 (dk_at dksX7_declare_3 11 rfl rfl)
theorem dX7_declare_86 : decode cX7_declare 86 = .ok (.iload 6, 2) := dk_21 6 (dk_at dksX7_declare_3 14 rfl rfl)
theorem dX7_declare_88 : decode cX7_declare 88 = .ok (.iconst 0, 1) := dk_3 (dk_at dksX7_declare_3 16 rfl rfl)
theorem dX7_declare_89 : decode cX7_declare 89 = .ok (.iastore, 1) := dk_79 (dk_at dksX7_declare_3 17 rfl rfl)
theorem dX7_declare_90 : decode cX7_declare 90 = .ok (.aload_n 0, 1) := dk_42 (dk_at dksX7_declare_3 18 rfl rfl)
theorem dX7_declare_91 : decode cX7_declare 91 = .ok (.getfield 84, 3) := dk_180 0 84 (dk_at dksX7_declare_3 19 rfl rfl)
theorem dX7_declare_94 : decode cX7_declare 94 = .ok (.iload 6, 2) := dk_21 6 (dk_at dksX7_declare_3 22 rfl rfl)
theorem dX7_declare_96 : decode cX7_declare 96 = .ok (.iload 4, 2) := dk_21 4 (dk_at dksX7_declare_4 0 rfl rfl)
theorem dX7_declare_98 : decode cX7_declare 98 = .ok (.invokestatic 195, 3) := dk_184 0 195 (dk_at dksX7_declare_4 2 rfl rfl)
theorem dX7_declare_101 : decode cX7_declare 101 = .ok (.lastore, 1) := dk_80 (dk_at dksX7_declare_4 5 rfl rfl)
theorem dX7_declare_102 : decode cX7_declare 102 = .ok (.iload 6, 2) := dk_21 6 (dk_at dksX7_declare_4 6 rfl rfl)
theorem dX7_declare_104 : decode cX7_declare 104 = .ok (.ireturn, 1) := dk_172 (dk_at dksX7_declare_4 8 rfl rfl)
abbrev cX7_none : ByteArray := prog_30_method_37_code
def yX7_none : MethodName := ⟨RX7, "none", "(I)J"⟩
def dkwX7_none_0 : List UInt8 := [26, 16, 8, 161, 0, 9, 20, 0, 199, 167, 0, 4, 9, 173]
abbrev dktX7_none_0 : List UInt8 := dkwX7_none_0 ++ []
theorem dksX7_none_0 : cX7_none.data.toList.drop 0 = dktX7_none_0 := by decide +kernel
theorem dX7_none_0 : decode cX7_none 0 = .ok (.iload_n 0, 1) := dk_26 (dk_at dksX7_none_0 0 rfl rfl)
theorem dX7_none_1 : decode cX7_none 1 = .ok (.bipush 8, 2) := dk_16 8 (dk_at dksX7_none_0 1 rfl rfl)
theorem dX7_none_3 : decode cX7_none 3 = .ok (.if_icmp .lt 9, 3) := dk_161 0 9 (dk_at dksX7_none_0 3 rfl rfl)
theorem dX7_none_6 : decode cX7_none 6 = .ok (.ldc2_w 199, 3) := dk_20 0 199 (dk_at dksX7_none_0 6 rfl rfl)
theorem dX7_none_9 : decode cX7_none 9 = .ok (.goto 4, 3) := dk_167 0 4 (dk_at dksX7_none_0 9 rfl rfl)
theorem dX7_none_12 : decode cX7_none 12 = .ok (.lconst 0, 1) := dk_9 (dk_at dksX7_none_0 12 rfl rfl)
theorem dX7_none_13 : decode cX7_none 13 = .ok (.lreturn, 1) := dk_173 (dk_at dksX7_none_0 13 rfl rfl)
abbrev cX7_method : ByteArray := prog_30_method_40_code
def yX7_method : MethodName := ⟨RX7, "method", "(IIIIIIII)I"⟩
def dkwX7_method_15 : List UInt8 := [6, 21, 10, 104, 5, 96, 21, 8, 79, 21, 10, 172]
abbrev dktX7_method_15 : List UInt8 := dkwX7_method_15 ++ []
def dkwX7_method_14 : List UInt8 := [6, 21, 10, 104, 21, 6, 79, 42, 180, 0, 63, 6, 21, 10, 104, 4, 96, 21, 7, 79, 42, 180, 0, 63]
abbrev dktX7_method_14 : List UInt8 := dkwX7_method_14 ++ dktX7_method_15
def dkwX7_method_13 : List UInt8 := [27, 28, 29, 21, 4, 3, 182, 0, 212, 54, 10, 42, 180, 0, 60, 21, 10, 21, 5, 79, 42, 180, 0, 63]
abbrev dktX7_method_13 : List UInt8 := dkwX7_method_13 ++ dktX7_method_14
def dkwX7_method_12 : List UInt8 := [167, 255, 88, 21, 9, 153, 0, 6, 16, 254, 172, 42, 180, 0, 182, 16, 100, 160, 0, 6, 16, 253, 172, 42]
abbrev dktX7_method_12 : List UInt8 := dkwX7_method_12 ++ dktX7_method_13
def dkwX7_method_11 : List UInt8 := [54, 11, 21, 9, 154, 0, 8, 21, 11, 153, 0, 7, 4, 167, 0, 4, 3, 54, 9, 132, 10, 1]
abbrev dktX7_method_11 : List UInt8 := dkwX7_method_11 ++ dktX7_method_12
def dkwX7_method_10 : List UInt8 := [161, 0, 19, 42, 180, 0, 63, 6, 21, 10, 104, 5, 96, 46, 21, 8, 160, 0, 7, 4, 167, 0, 4, 3]
abbrev dktX7_method_10 : List UInt8 := dkwX7_method_10 ++ dktX7_method_11
def dkwX7_method_9 : List UInt8 := [161, 0, 19, 42, 180, 0, 63, 6, 21, 10, 104, 4, 96, 46, 21, 7, 160, 0, 29, 21, 5, 6]
abbrev dktX7_method_9 : List UInt8 := dkwX7_method_9 ++ dktX7_method_10
def dkwX7_method_8 : List UInt8 := [21, 5, 4, 161, 0, 17, 42, 180, 0, 63, 6, 21, 10, 104, 46, 21, 6, 160, 0, 51, 21, 5, 5]
abbrev dktX7_method_8 : List UInt8 := dkwX7_method_8 ++ dktX7_method_9
def dkwX7_method_7 : List UInt8 := [180, 0, 60, 21, 10, 46, 21, 5, 160, 0, 7, 4, 167, 0, 4, 3, 54, 11, 21, 11, 153, 0, 71]
abbrev dktX7_method_7 : List UInt8 := dkwX7_method_7 ++ dktX7_method_8
def dkwX7_method_6 : List UInt8 := [42, 180, 0, 48, 21, 10, 46, 28, 160, 0, 31, 42, 180, 0, 57, 21, 10, 46, 21, 4, 160, 0, 19, 42]
abbrev dktX7_method_6 : List UInt8 := dkwX7_method_6 ++ dktX7_method_7
def dkwX7_method_5 : List UInt8 := [162, 0, 165, 42, 180, 0, 54, 21, 10, 51, 154, 0, 53, 42, 180, 0, 45, 21, 10, 46, 27, 160, 0, 42]
abbrev dktX7_method_5 : List UInt8 := dkwX7_method_5 ++ dktX7_method_6
def dkwX7_method_4 : List UInt8 := [42, 21, 8, 182, 0, 131, 154, 0, 5, 2, 172, 3, 54, 9, 3, 54, 10, 21, 10, 42, 180, 0, 182]
abbrev dktX7_method_4 : List UInt8 := dkwX7_method_4 ++ dktX7_method_5
def dkwX7_method_3 : List UInt8 := [153, 0, 33, 21, 5, 4, 164, 0, 12, 42, 21, 7, 182, 0, 131, 153, 0, 18, 21, 5, 5, 164, 0, 14]
abbrev dktX7_method_3 : List UInt8 := dkwX7_method_3 ++ dktX7_method_4
def dkwX7_method_2 : List UInt8 := [9, 20, 0, 159, 184, 0, 127, 154, 0, 5, 2, 172, 21, 5, 158, 0, 12, 42, 21, 6, 182, 0, 131]
abbrev dktX7_method_2 : List UInt8 := dkwX7_method_2 ++ dktX7_method_3
def dkwX7_method_1 : List UInt8 := [182, 0, 218, 153, 0, 31, 21, 4, 2, 159, 0, 12, 42, 21, 4, 182, 0, 131, 153, 0, 16, 21, 5, 133]
abbrev dktX7_method_1 : List UInt8 := dkwX7_method_1 ++ dktX7_method_2
def dkwX7_method_0 : List UInt8 := [42, 27, 182, 0, 165, 153, 0, 52, 28, 133, 9, 20, 0, 201, 184, 0, 127, 153, 0, 40, 42, 27, 29]
abbrev dktX7_method_0 : List UInt8 := dkwX7_method_0 ++ dktX7_method_1
theorem dksX7_method_0 : cX7_method.data.toList.drop 0 = dktX7_method_0 := by decide +kernel
theorem dksX7_method_1 : cX7_method.data.toList.drop 23 = dktX7_method_1 := dk_seg dksX7_method_0 23 rfl rfl
theorem dksX7_method_2 : cX7_method.data.toList.drop 47 = dktX7_method_2 := dk_seg dksX7_method_1 24 rfl rfl
theorem dksX7_method_3 : cX7_method.data.toList.drop 70 = dktX7_method_3 := dk_seg dksX7_method_2 23 rfl rfl
theorem dksX7_method_4 : cX7_method.data.toList.drop 94 = dktX7_method_4 := dk_seg dksX7_method_3 24 rfl rfl
theorem dksX7_method_5 : cX7_method.data.toList.drop 117 = dktX7_method_5 := dk_seg dksX7_method_4 23 rfl rfl
theorem dksX7_method_6 : cX7_method.data.toList.drop 141 = dktX7_method_6 := dk_seg dksX7_method_5 24 rfl rfl
theorem dksX7_method_7 : cX7_method.data.toList.drop 165 = dktX7_method_7 := dk_seg dksX7_method_6 24 rfl rfl
theorem dksX7_method_8 : cX7_method.data.toList.drop 188 = dktX7_method_8 := dk_seg dksX7_method_7 23 rfl rfl
theorem dksX7_method_9 : cX7_method.data.toList.drop 211 = dktX7_method_9 := dk_seg dksX7_method_8 23 rfl rfl
theorem dksX7_method_10 : cX7_method.data.toList.drop 233 = dktX7_method_10 := dk_seg dksX7_method_9 22 rfl rfl
theorem dksX7_method_11 : cX7_method.data.toList.drop 257 = dktX7_method_11 := dk_seg dksX7_method_10 24 rfl rfl
theorem dksX7_method_12 : cX7_method.data.toList.drop 279 = dktX7_method_12 := dk_seg dksX7_method_11 22 rfl rfl
theorem dksX7_method_13 : cX7_method.data.toList.drop 303 = dktX7_method_13 := dk_seg dksX7_method_12 24 rfl rfl
theorem dksX7_method_14 : cX7_method.data.toList.drop 327 = dktX7_method_14 := dk_seg dksX7_method_13 24 rfl rfl
theorem dksX7_method_15 : cX7_method.data.toList.drop 351 = dktX7_method_15 := dk_seg dksX7_method_14 24 rfl rfl
theorem dX7_method_0 : decode cX7_method 0 = .ok (.aload_n 0, 1) := dk_42 (dk_at dksX7_method_0 0 rfl rfl)
theorem dX7_method_1 : decode cX7_method 1 = .ok (.iload_n 1, 1) := dk_27 (dk_at dksX7_method_0 1 rfl rfl)
theorem dX7_method_2 : decode cX7_method 2 = .ok (.invokevirtual 165, 3) := dk_182 0 165 (dk_at dksX7_method_0 2 rfl rfl)
theorem dX7_method_5 : decode cX7_method 5 = .ok (.ifCond .eq 52, 3) := dk_153 0 52 (dk_at dksX7_method_0 5 rfl rfl)
theorem dX7_method_8 : decode cX7_method 8 = .ok (.iload_n 2, 1) := dk_28 (dk_at dksX7_method_0 8 rfl rfl)
theorem dX7_method_9 : decode cX7_method 9 = .ok (.i2l, 1) := dk_133 (dk_at dksX7_method_0 9 rfl rfl)
theorem dX7_method_10 : decode cX7_method 10 = .ok (.lconst 0, 1) := dk_9 (dk_at dksX7_method_0 10 rfl rfl)
theorem dX7_method_11 : decode cX7_method 11 = .ok (.ldc2_w 201, 3) := dk_20 0 201 (dk_at dksX7_method_0 11 rfl rfl)
theorem dX7_method_14 : decode cX7_method 14 = .ok (.invokestatic 127, 3) := dk_184 0 127 (dk_at dksX7_method_0 14 rfl rfl)
theorem dX7_method_17 : decode cX7_method 17 = .ok (.ifCond .eq 40, 3) := dk_153 0 40 (dk_at dksX7_method_0 17 rfl rfl)
theorem dX7_method_20 : decode cX7_method 20 = .ok (.aload_n 0, 1) := dk_42 (dk_at dksX7_method_0 20 rfl rfl)
theorem dX7_method_21 : decode cX7_method 21 = .ok (.iload_n 1, 1) := dk_27 (dk_at dksX7_method_0 21 rfl rfl)
theorem dX7_method_22 : decode cX7_method 22 = .ok (.iload_n 3, 1) := dk_29 (dk_at dksX7_method_0 22 rfl rfl)
theorem dX7_method_23 : decode cX7_method 23 = .ok (.invokevirtual 218, 3) := dk_182 0 218 (dk_at dksX7_method_1 0 rfl rfl)
theorem dX7_method_26 : decode cX7_method 26 = .ok (.ifCond .eq 31, 3) := dk_153 0 31 (dk_at dksX7_method_1 3 rfl rfl)
theorem dX7_method_29 : decode cX7_method 29 = .ok (.iload 4, 2) := dk_21 4 (dk_at dksX7_method_1 6 rfl rfl)
theorem dX7_method_31 : decode cX7_method 31 = .ok (.iconst (-1), 1) := dk_2 (dk_at dksX7_method_1 8 rfl rfl)
theorem dX7_method_32 : decode cX7_method 32 = .ok (.if_icmp .eq 12, 3) := dk_159 0 12 (dk_at dksX7_method_1 9 rfl rfl)
theorem dX7_method_35 : decode cX7_method 35 = .ok (.aload_n 0, 1) := dk_42 (dk_at dksX7_method_1 12 rfl rfl)
theorem dX7_method_36 : decode cX7_method 36 = .ok (.iload 4, 2) := dk_21 4 (dk_at dksX7_method_1 13 rfl rfl)
theorem dX7_method_38 : decode cX7_method 38 = .ok (.invokevirtual 131, 3) := dk_182 0 131 (dk_at dksX7_method_1 15 rfl rfl)
theorem dX7_method_41 : decode cX7_method 41 = .ok (.ifCond .eq 16, 3) := dk_153 0 16 (dk_at dksX7_method_1 18 rfl rfl)
theorem dX7_method_44 : decode cX7_method 44 = .ok (.iload 5, 2) := dk_21 5 (dk_at dksX7_method_1 21 rfl rfl)
theorem dX7_method_46 : decode cX7_method 46 = .ok (.i2l, 1) := dk_133 (dk_at dksX7_method_1 23 rfl rfl)
theorem dX7_method_47 : decode cX7_method 47 = .ok (.lconst 0, 1) := dk_9 (dk_at dksX7_method_2 0 rfl rfl)
theorem dX7_method_48 : decode cX7_method 48 = .ok (.ldc2_w 159, 3) := dk_20 0 159 (dk_at dksX7_method_2 1 rfl rfl)
theorem dX7_method_51 : decode cX7_method 51 = .ok (.invokestatic 127, 3) := dk_184 0 127 (dk_at dksX7_method_2 4 rfl rfl)
theorem dX7_method_54 : decode cX7_method 54 = .ok (.ifCond .ne 5, 3) := dk_154 0 5 (dk_at dksX7_method_2 7 rfl rfl)
theorem dX7_method_57 : decode cX7_method 57 = .ok (.iconst (-1), 1) := dk_2 (dk_at dksX7_method_2 10 rfl rfl)
theorem dX7_method_58 : decode cX7_method 58 = .ok (.ireturn, 1) := dk_172 (dk_at dksX7_method_2 11 rfl rfl)
theorem dX7_method_59 : decode cX7_method 59 = .ok (.iload 5, 2) := dk_21 5 (dk_at dksX7_method_2 12 rfl rfl)
theorem dX7_method_61 : decode cX7_method 61 = .ok (.ifCond .le 12, 3) := dk_158 0 12 (dk_at dksX7_method_2 14 rfl rfl)
theorem dX7_method_64 : decode cX7_method 64 = .ok (.aload_n 0, 1) := dk_42 (dk_at dksX7_method_2 17 rfl rfl)
theorem dX7_method_65 : decode cX7_method 65 = .ok (.iload 6, 2) := dk_21 6 (dk_at dksX7_method_2 18 rfl rfl)
theorem dX7_method_67 : decode cX7_method 67 = .ok (.invokevirtual 131, 3) := dk_182 0 131 (dk_at dksX7_method_2 20 rfl rfl)
theorem dX7_method_70 : decode cX7_method 70 = .ok (.ifCond .eq 33, 3) := dk_153 0 33 (dk_at dksX7_method_3 0 rfl rfl)
theorem dX7_method_73 : decode cX7_method 73 = .ok (.iload 5, 2) := dk_21 5 (dk_at dksX7_method_3 3 rfl rfl)
theorem dX7_method_75 : decode cX7_method 75 = .ok (.iconst 1, 1) := dk_4 (dk_at dksX7_method_3 5 rfl rfl)
theorem dX7_method_76 : decode cX7_method 76 = .ok (.if_icmp .le 12, 3) := dk_164 0 12 (dk_at dksX7_method_3 6 rfl rfl)
theorem dX7_method_79 : decode cX7_method 79 = .ok (.aload_n 0, 1) := dk_42 (dk_at dksX7_method_3 9 rfl rfl)
theorem dX7_method_80 : decode cX7_method 80 = .ok (.iload 7, 2) := dk_21 7 (dk_at dksX7_method_3 10 rfl rfl)
theorem dX7_method_82 : decode cX7_method 82 = .ok (.invokevirtual 131, 3) := dk_182 0 131 (dk_at dksX7_method_3 12 rfl rfl)
theorem dX7_method_85 : decode cX7_method 85 = .ok (.ifCond .eq 18, 3) := dk_153 0 18 (dk_at dksX7_method_3 15 rfl rfl)
theorem dX7_method_88 : decode cX7_method 88 = .ok (.iload 5, 2) := dk_21 5 (dk_at dksX7_method_3 18 rfl rfl)
theorem dX7_method_90 : decode cX7_method 90 = .ok (.iconst 2, 1) := dk_5 (dk_at dksX7_method_3 20 rfl rfl)
theorem dX7_method_91 : decode cX7_method 91 = .ok (.if_icmp .le 14, 3) := dk_164 0 14 (dk_at dksX7_method_3 21 rfl rfl)
theorem dX7_method_94 : decode cX7_method 94 = .ok (.aload_n 0, 1) := dk_42 (dk_at dksX7_method_4 0 rfl rfl)
theorem dX7_method_95 : decode cX7_method 95 = .ok (.iload 8, 2) := dk_21 8 (dk_at dksX7_method_4 1 rfl rfl)
theorem dX7_method_97 : decode cX7_method 97 = .ok (.invokevirtual 131, 3) := dk_182 0 131 (dk_at dksX7_method_4 3 rfl rfl)
theorem dX7_method_100 : decode cX7_method 100 = .ok (.ifCond .ne 5, 3) := dk_154 0 5 (dk_at dksX7_method_4 6 rfl rfl)
theorem dX7_method_103 : decode cX7_method 103 = .ok (.iconst (-1), 1) := dk_2 (dk_at dksX7_method_4 9 rfl rfl)
theorem dX7_method_104 : decode cX7_method 104 = .ok (.ireturn, 1) := dk_172 (dk_at dksX7_method_4 10 rfl rfl)
theorem dX7_method_105 : decode cX7_method 105 = .ok (.iconst 0, 1) := dk_3 (dk_at dksX7_method_4 11 rfl rfl)
theorem dX7_method_106 : decode cX7_method 106 = .ok (.istore 9, 2) := dk_54 9 (dk_at dksX7_method_4 12 rfl rfl)
theorem dX7_method_108 : decode cX7_method 108 = .ok (.iconst 0, 1) := dk_3 (dk_at dksX7_method_4 14 rfl rfl)
theorem dX7_method_109 : decode cX7_method 109 = .ok (.istore 10, 2) := dk_54 10 (dk_at dksX7_method_4 15 rfl rfl)
theorem dX7_method_111 : decode cX7_method 111 = .ok (.iload 10, 2) := dk_21 10 (dk_at dksX7_method_4 17 rfl rfl)
theorem dX7_method_113 : decode cX7_method 113 = .ok (.aload_n 0, 1) := dk_42 (dk_at dksX7_method_4 19 rfl rfl)
theorem dX7_method_114 : decode cX7_method 114 = .ok (.getfield 182, 3) := dk_180 0 182 (dk_at dksX7_method_4 20 rfl rfl)
theorem dX7_method_117 : decode cX7_method 117 = .ok (.if_icmp .ge 165, 3) := dk_162 0 165 (dk_at dksX7_method_5 0 rfl rfl)
theorem dX7_method_120 : decode cX7_method 120 = .ok (.aload_n 0, 1) := dk_42 (dk_at dksX7_method_5 3 rfl rfl)
theorem dX7_method_121 : decode cX7_method 121 = .ok (.getfield 54, 3) := dk_180 0 54 (dk_at dksX7_method_5 4 rfl rfl)
theorem dX7_method_124 : decode cX7_method 124 = .ok (.iload 10, 2) := dk_21 10 (dk_at dksX7_method_5 7 rfl rfl)
theorem dX7_method_126 : decode cX7_method 126 = .ok (.baload, 1) := dk_51 (dk_at dksX7_method_5 9 rfl rfl)
theorem dX7_method_127 : decode cX7_method 127 = .ok (.ifCond .ne 53, 3) := dk_154 0 53 (dk_at dksX7_method_5 10 rfl rfl)
theorem dX7_method_130 : decode cX7_method 130 = .ok (.aload_n 0, 1) := dk_42 (dk_at dksX7_method_5 13 rfl rfl)
theorem dX7_method_131 : decode cX7_method 131 = .ok (.getfield 45, 3) := dk_180 0 45 (dk_at dksX7_method_5 14 rfl rfl)
theorem dX7_method_134 : decode cX7_method 134 = .ok (.iload 10, 2) := dk_21 10 (dk_at dksX7_method_5 17 rfl rfl)
theorem dX7_method_136 : decode cX7_method 136 = .ok (.iaload, 1) := dk_46 (dk_at dksX7_method_5 19 rfl rfl)
theorem dX7_method_137 : decode cX7_method 137 = .ok (.iload_n 1, 1) := dk_27 (dk_at dksX7_method_5 20 rfl rfl)
theorem dX7_method_138 : decode cX7_method 138 = .ok (.if_icmp .ne 42, 3) := dk_160 0 42 (dk_at dksX7_method_5 21 rfl rfl)
theorem dX7_method_141 : decode cX7_method 141 = .ok (.aload_n 0, 1) := dk_42 (dk_at dksX7_method_6 0 rfl rfl)
theorem dX7_method_142 : decode cX7_method 142 = .ok (.getfield 48, 3) := dk_180 0 48 (dk_at dksX7_method_6 1 rfl rfl)
theorem dX7_method_145 : decode cX7_method 145 = .ok (.iload 10, 2) := dk_21 10 (dk_at dksX7_method_6 4 rfl rfl)
theorem dX7_method_147 : decode cX7_method 147 = .ok (.iaload, 1) := dk_46 (dk_at dksX7_method_6 6 rfl rfl)
theorem dX7_method_148 : decode cX7_method 148 = .ok (.iload_n 2, 1) := dk_28 (dk_at dksX7_method_6 7 rfl rfl)
theorem dX7_method_149 : decode cX7_method 149 = .ok (.if_icmp .ne 31, 3) := dk_160 0 31 (dk_at dksX7_method_6 8 rfl rfl)
theorem dX7_method_152 : decode cX7_method 152 = .ok (.aload_n 0, 1) := dk_42 (dk_at dksX7_method_6 11 rfl rfl)
theorem dX7_method_153 : decode cX7_method 153 = .ok (.getfield 57, 3) := dk_180 0 57 (dk_at dksX7_method_6 12 rfl rfl)
theorem dX7_method_156 : decode cX7_method 156 = .ok (.iload 10, 2) := dk_21 10 (dk_at dksX7_method_6 15 rfl rfl)
theorem dX7_method_158 : decode cX7_method 158 = .ok (.iaload, 1) := dk_46 (dk_at dksX7_method_6 17 rfl rfl)
theorem dX7_method_159 : decode cX7_method 159 = .ok (.iload 4, 2) := dk_21 4 (dk_at dksX7_method_6 18 rfl rfl)
theorem dX7_method_161 : decode cX7_method 161 = .ok (.if_icmp .ne 19, 3) := dk_160 0 19 (dk_at dksX7_method_6 20 rfl rfl)
theorem dX7_method_164 : decode cX7_method 164 = .ok (.aload_n 0, 1) := dk_42 (dk_at dksX7_method_6 23 rfl rfl)
theorem dX7_method_165 : decode cX7_method 165 = .ok (.getfield 60, 3) := dk_180 0 60 (dk_at dksX7_method_7 0 rfl rfl)
theorem dX7_method_168 : decode cX7_method 168 = .ok (.iload 10, 2) := dk_21 10 (dk_at dksX7_method_7 3 rfl rfl)
theorem dX7_method_170 : decode cX7_method 170 = .ok (.iaload, 1) := dk_46 (dk_at dksX7_method_7 5 rfl rfl)
theorem dX7_method_171 : decode cX7_method 171 = .ok (.iload 5, 2) := dk_21 5 (dk_at dksX7_method_7 6 rfl rfl)
theorem dX7_method_173 : decode cX7_method 173 = .ok (.if_icmp .ne 7, 3) := dk_160 0 7 (dk_at dksX7_method_7 8 rfl rfl)
theorem dX7_method_176 : decode cX7_method 176 = .ok (.iconst 1, 1) := dk_4 (dk_at dksX7_method_7 11 rfl rfl)
theorem dX7_method_177 : decode cX7_method 177 = .ok (.goto 4, 3) := dk_167 0 4 (dk_at dksX7_method_7 12 rfl rfl)
theorem dX7_method_180 : decode cX7_method 180 = .ok (.iconst 0, 1) := dk_3 (dk_at dksX7_method_7 15 rfl rfl)
theorem dX7_method_181 : decode cX7_method 181 = .ok (.istore 11, 2) := dk_54 11 (dk_at dksX7_method_7 16 rfl rfl)
theorem dX7_method_183 : decode cX7_method 183 = .ok (.iload 11, 2) := dk_21 11 (dk_at dksX7_method_7 18 rfl rfl)
theorem dX7_method_185 : decode cX7_method 185 = .ok (.ifCond .eq 71, 3) := dk_153 0 71 (dk_at dksX7_method_7 20 rfl rfl)
theorem dX7_method_188 : decode cX7_method 188 = .ok (.iload 5, 2) := dk_21 5 (dk_at dksX7_method_8 0 rfl rfl)
theorem dX7_method_190 : decode cX7_method 190 = .ok (.iconst 1, 1) := dk_4 (dk_at dksX7_method_8 2 rfl rfl)
theorem dX7_method_191 : decode cX7_method 191 = .ok (.if_icmp .lt 17, 3) := dk_161 0 17 (dk_at dksX7_method_8 3 rfl rfl)
theorem dX7_method_194 : decode cX7_method 194 = .ok (.aload_n 0, 1) := dk_42 (dk_at dksX7_method_8 6 rfl rfl)
theorem dX7_method_195 : decode cX7_method 195 = .ok (.getfield 63, 3) := dk_180 0 63 (dk_at dksX7_method_8 7 rfl rfl)
theorem dX7_method_198 : decode cX7_method 198 = .ok (.iconst 3, 1) := dk_6 (dk_at dksX7_method_8 10 rfl rfl)
theorem dX7_method_199 : decode cX7_method 199 = .ok (.iload 10, 2) := dk_21 10 (dk_at dksX7_method_8 11 rfl rfl)
theorem dX7_method_201 : decode cX7_method 201 = .ok (.imul, 1) := dk_104 (dk_at dksX7_method_8 13 rfl rfl)
theorem dX7_method_202 : decode cX7_method 202 = .ok (.iaload, 1) := dk_46 (dk_at dksX7_method_8 14 rfl rfl)
theorem dX7_method_203 : decode cX7_method 203 = .ok (.iload 6, 2) := dk_21 6 (dk_at dksX7_method_8 15 rfl rfl)
theorem dX7_method_205 : decode cX7_method 205 = .ok (.if_icmp .ne 51, 3) := dk_160 0 51 (dk_at dksX7_method_8 17 rfl rfl)
theorem dX7_method_208 : decode cX7_method 208 = .ok (.iload 5, 2) := dk_21 5 (dk_at dksX7_method_8 20 rfl rfl)
theorem dX7_method_210 : decode cX7_method 210 = .ok (.iconst 2, 1) := dk_5 (dk_at dksX7_method_8 22 rfl rfl)
theorem dX7_method_211 : decode cX7_method 211 = .ok (.if_icmp .lt 19, 3) := dk_161 0 19 (dk_at dksX7_method_9 0 rfl rfl)
theorem dX7_method_214 : decode cX7_method 214 = .ok (.aload_n 0, 1) := dk_42 (dk_at dksX7_method_9 3 rfl rfl)
theorem dX7_method_215 : decode cX7_method 215 = .ok (.getfield 63, 3) := dk_180 0 63 (dk_at dksX7_method_9 4 rfl rfl)
theorem dX7_method_218 : decode cX7_method 218 = .ok (.iconst 3, 1) := dk_6 (dk_at dksX7_method_9 7 rfl rfl)
theorem dX7_method_219 : decode cX7_method 219 = .ok (.iload 10, 2) := dk_21 10 (dk_at dksX7_method_9 8 rfl rfl)
theorem dX7_method_221 : decode cX7_method 221 = .ok (.imul, 1) := dk_104 (dk_at dksX7_method_9 10 rfl rfl)
theorem dX7_method_222 : decode cX7_method 222 = .ok (.iconst 1, 1) := dk_4 (dk_at dksX7_method_9 11 rfl rfl)
theorem dX7_method_223 : decode cX7_method 223 = .ok (.iadd, 1) := dk_96 (dk_at dksX7_method_9 12 rfl rfl)
theorem dX7_method_224 : decode cX7_method 224 = .ok (.iaload, 1) := dk_46 (dk_at dksX7_method_9 13 rfl rfl)
theorem dX7_method_225 : decode cX7_method 225 = .ok (.iload 7, 2) := dk_21 7 (dk_at dksX7_method_9 14 rfl rfl)
theorem dX7_method_227 : decode cX7_method 227 = .ok (.if_icmp .ne 29, 3) := dk_160 0 29 (dk_at dksX7_method_9 16 rfl rfl)
theorem dX7_method_230 : decode cX7_method 230 = .ok (.iload 5, 2) := dk_21 5 (dk_at dksX7_method_9 19 rfl rfl)
theorem dX7_method_232 : decode cX7_method 232 = .ok (.iconst 3, 1) := dk_6 (dk_at dksX7_method_9 21 rfl rfl)
theorem dX7_method_233 : decode cX7_method 233 = .ok (.if_icmp .lt 19, 3) := dk_161 0 19 (dk_at dksX7_method_10 0 rfl rfl)
theorem dX7_method_236 : decode cX7_method 236 = .ok (.aload_n 0, 1) := dk_42 (dk_at dksX7_method_10 3 rfl rfl)
theorem dX7_method_237 : decode cX7_method 237 = .ok (.getfield 63, 3) := dk_180 0 63 (dk_at dksX7_method_10 4 rfl rfl)
theorem dX7_method_240 : decode cX7_method 240 = .ok (.iconst 3, 1) := dk_6 (dk_at dksX7_method_10 7 rfl rfl)
theorem dX7_method_241 : decode cX7_method 241 = .ok (.iload 10, 2) := dk_21 10 (dk_at dksX7_method_10 8 rfl rfl)
theorem dX7_method_243 : decode cX7_method 243 = .ok (.imul, 1) := dk_104 (dk_at dksX7_method_10 10 rfl rfl)
theorem dX7_method_244 : decode cX7_method 244 = .ok (.iconst 2, 1) := dk_5 (dk_at dksX7_method_10 11 rfl rfl)
theorem dX7_method_245 : decode cX7_method 245 = .ok (.iadd, 1) := dk_96 (dk_at dksX7_method_10 12 rfl rfl)
theorem dX7_method_246 : decode cX7_method 246 = .ok (.iaload, 1) := dk_46 (dk_at dksX7_method_10 13 rfl rfl)
theorem dX7_method_247 : decode cX7_method 247 = .ok (.iload 8, 2) := dk_21 8 (dk_at dksX7_method_10 14 rfl rfl)
theorem dX7_method_249 : decode cX7_method 249 = .ok (.if_icmp .ne 7, 3) := dk_160 0 7 (dk_at dksX7_method_10 16 rfl rfl)
theorem dX7_method_252 : decode cX7_method 252 = .ok (.iconst 1, 1) := dk_4 (dk_at dksX7_method_10 19 rfl rfl)
theorem dX7_method_253 : decode cX7_method 253 = .ok (.goto 4, 3) := dk_167 0 4 (dk_at dksX7_method_10 20 rfl rfl)
theorem dX7_method_256 : decode cX7_method 256 = .ok (.iconst 0, 1) := dk_3 (dk_at dksX7_method_10 23 rfl rfl)
theorem dX7_method_257 : decode cX7_method 257 = .ok (.istore 11, 2) := dk_54 11 (dk_at dksX7_method_11 0 rfl rfl)
theorem dX7_method_259 : decode cX7_method 259 = .ok (.iload 9, 2) := dk_21 9 (dk_at dksX7_method_11 2 rfl rfl)
theorem dX7_method_261 : decode cX7_method 261 = .ok (.ifCond .ne 8, 3) := dk_154 0 8 (dk_at dksX7_method_11 4 rfl rfl)
theorem dX7_method_264 : decode cX7_method 264 = .ok (.iload 11, 2) := dk_21 11 (dk_at dksX7_method_11 7 rfl rfl)
theorem dX7_method_266 : decode cX7_method 266 = .ok (.ifCond .eq 7, 3) := dk_153 0 7 (dk_at dksX7_method_11 9 rfl rfl)
theorem dX7_method_269 : decode cX7_method 269 = .ok (.iconst 1, 1) := dk_4 (dk_at dksX7_method_11 12 rfl rfl)
theorem dX7_method_270 : decode cX7_method 270 = .ok (.goto 4, 3) := dk_167 0 4 (dk_at dksX7_method_11 13 rfl rfl)
theorem dX7_method_273 : decode cX7_method 273 = .ok (.iconst 0, 1) := dk_3 (dk_at dksX7_method_11 16 rfl rfl)
theorem dX7_method_274 : decode cX7_method 274 = .ok (.istore 9, 2) := dk_54 9 (dk_at dksX7_method_11 17 rfl rfl)
theorem dX7_method_276 : decode cX7_method 276 = .ok (.iinc 10 1, 3) := dk_132 10 1 (dk_at dksX7_method_11 19 rfl rfl)
theorem dX7_method_279 : decode cX7_method 279 = .ok (.goto (-168), 3) := dk_167 255 88 (dk_at dksX7_method_12 0 rfl rfl)
theorem dX7_method_282 : decode cX7_method 282 = .ok (.iload 9, 2) := dk_21 9 (dk_at dksX7_method_12 3 rfl rfl)
theorem dX7_method_284 : decode cX7_method 284 = .ok (.ifCond .eq 6, 3) := dk_153 0 6 (dk_at dksX7_method_12 5 rfl rfl)
theorem dX7_method_287 : decode cX7_method 287 = .ok (.bipush (-2), 2) := dk_16 254 (dk_at dksX7_method_12 8 rfl rfl)
theorem dX7_method_289 : decode cX7_method 289 = .ok (.ireturn, 1) := dk_172 (dk_at dksX7_method_12 10 rfl rfl)
theorem dX7_method_290 : decode cX7_method 290 = .ok (.aload_n 0, 1) := dk_42 (dk_at dksX7_method_12 11 rfl rfl)
theorem dX7_method_291 : decode cX7_method 291 = .ok (.getfield 182, 3) := dk_180 0 182 (dk_at dksX7_method_12 12 rfl rfl)
theorem dX7_method_294 : decode cX7_method 294 = .ok (.bipush 100, 2) := dk_16 100 (dk_at dksX7_method_12 15 rfl rfl)
theorem dX7_method_296 : decode cX7_method 296 = .ok (.if_icmp .ne 6, 3) := dk_160 0 6 (dk_at dksX7_method_12 17 rfl rfl)
theorem dX7_method_299 : decode cX7_method 299 = .ok (.bipush (-3), 2) := dk_16 253 (dk_at dksX7_method_12 20 rfl rfl)
theorem dX7_method_301 : decode cX7_method 301 = .ok (.ireturn, 1) := dk_172 (dk_at dksX7_method_12 22 rfl rfl)
theorem dX7_method_302 : decode cX7_method 302 = .ok (.aload_n 0, 1) := dk_42 (dk_at dksX7_method_12 23 rfl rfl)
theorem dX7_method_303 : decode cX7_method 303 = .ok (.iload_n 1, 1) := dk_27 (dk_at dksX7_method_13 0 rfl rfl)
theorem dX7_method_304 : decode cX7_method 304 = .ok (.iload_n 2, 1) := dk_28 (dk_at dksX7_method_13 1 rfl rfl)
theorem dX7_method_305 : decode cX7_method 305 = .ok (.iload_n 3, 1) := dk_29 (dk_at dksX7_method_13 2 rfl rfl)
theorem dX7_method_306 : decode cX7_method 306 = .ok (.iload 4, 2) := dk_21 4 (dk_at dksX7_method_13 3 rfl rfl)
theorem dX7_method_308 : decode cX7_method 308 = .ok (.iconst 0, 1) := dk_3 (dk_at dksX7_method_13 5 rfl rfl)
theorem dX7_method_309 : decode cX7_method 309 = .ok (.invokevirtual 212, 3) := dk_182 0 212 (dk_at dksX7_method_13 6 rfl rfl)
theorem dX7_method_312 : decode cX7_method 312 = .ok (.istore 10, 2) := dk_54 10 (dk_at dksX7_method_13 9 rfl rfl)
theorem dX7_method_314 : decode cX7_method 314 = .ok (.aload_n 0, 1) := dk_42 (dk_at dksX7_method_13 11 rfl rfl)
theorem dX7_method_315 : decode cX7_method 315 = .ok (.getfield 60, 3) := dk_180 0 60 (dk_at dksX7_method_13 12 rfl rfl)
theorem dX7_method_318 : decode cX7_method 318 = .ok (.iload 10, 2) := dk_21 10 (dk_at dksX7_method_13 15 rfl rfl)
theorem dX7_method_320 : decode cX7_method 320 = .ok (.iload 5, 2) := dk_21 5 (dk_at dksX7_method_13 17 rfl rfl)
theorem dX7_method_322 : decode cX7_method 322 = .ok (.iastore, 1) := dk_79 (dk_at dksX7_method_13 19 rfl rfl)
theorem dX7_method_323 : decode cX7_method 323 = .ok (.aload_n 0, 1) := dk_42 (dk_at dksX7_method_13 20 rfl rfl)
theorem dX7_method_324 : decode cX7_method 324 = .ok (.getfield 63, 3) := dk_180 0 63 (dk_at dksX7_method_13 21 rfl rfl)
theorem dX7_method_327 : decode cX7_method 327 = .ok (.iconst 3, 1) := dk_6 (dk_at dksX7_method_14 0 rfl rfl)
theorem dX7_method_328 : decode cX7_method 328 = .ok (.iload 10, 2) := dk_21 10 (dk_at dksX7_method_14 1 rfl rfl)
theorem dX7_method_330 : decode cX7_method 330 = .ok (.imul, 1) := dk_104 (dk_at dksX7_method_14 3 rfl rfl)
theorem dX7_method_331 : decode cX7_method 331 = .ok (.iload 6, 2) := dk_21 6 (dk_at dksX7_method_14 4 rfl rfl)
theorem dX7_method_333 : decode cX7_method 333 = .ok (.iastore, 1) := dk_79 (dk_at dksX7_method_14 6 rfl rfl)
theorem dX7_method_334 : decode cX7_method 334 = .ok (.aload_n 0, 1) := dk_42 (dk_at dksX7_method_14 7 rfl rfl)
theorem dX7_method_335 : decode cX7_method 335 = .ok (.getfield 63, 3) := dk_180 0 63 (dk_at dksX7_method_14 8 rfl rfl)
theorem dX7_method_338 : decode cX7_method 338 = .ok (.iconst 3, 1) := dk_6 (dk_at dksX7_method_14 11 rfl rfl)
theorem dX7_method_339 : decode cX7_method 339 = .ok (.iload 10, 2) := dk_21 10 (dk_at dksX7_method_14 12 rfl rfl)
theorem dX7_method_341 : decode cX7_method 341 = .ok (.imul, 1) := dk_104 (dk_at dksX7_method_14 14 rfl rfl)
theorem dX7_method_342 : decode cX7_method 342 = .ok (.iconst 1, 1) := dk_4 (dk_at dksX7_method_14 15 rfl rfl)
theorem dX7_method_343 : decode cX7_method 343 = .ok (.iadd, 1) := dk_96 (dk_at dksX7_method_14 16 rfl rfl)
theorem dX7_method_344 : decode cX7_method 344 = .ok (.iload 7, 2) := dk_21 7 (dk_at dksX7_method_14 17 rfl rfl)
theorem dX7_method_346 : decode cX7_method 346 = .ok (.iastore, 1) := dk_79 (dk_at dksX7_method_14 19 rfl rfl)
theorem dX7_method_347 : decode cX7_method 347 = .ok (.aload_n 0, 1) := dk_42 (dk_at dksX7_method_14 20 rfl rfl)
theorem dX7_method_348 : decode cX7_method 348 = .ok (.getfield 63, 3) := dk_180 0 63 (dk_at dksX7_method_14 21 rfl rfl)
theorem dX7_method_351 : decode cX7_method 351 = .ok (.iconst 3, 1) := dk_6 (dk_at dksX7_method_15 0 rfl rfl)
theorem dX7_method_352 : decode cX7_method 352 = .ok (.iload 10, 2) := dk_21 10 (dk_at dksX7_method_15 1 rfl rfl)
theorem dX7_method_354 : decode cX7_method 354 = .ok (.imul, 1) := dk_104 (dk_at dksX7_method_15 3 rfl rfl)
theorem dX7_method_355 : decode cX7_method 355 = .ok (.iconst 2, 1) := dk_5 (dk_at dksX7_method_15 4 rfl rfl)
theorem dX7_method_356 : decode cX7_method 356 = .ok (.iadd, 1) := dk_96 (dk_at dksX7_method_15 5 rfl rfl)
theorem dX7_method_357 : decode cX7_method 357 = .ok (.iload 8, 2) := dk_21 8 (dk_at dksX7_method_15 6 rfl rfl)
theorem dX7_method_359 : decode cX7_method 359 = .ok (.iastore, 1) := dk_79 (dk_at dksX7_method_15 8 rfl rfl)
theorem dX7_method_360 : decode cX7_method 360 = .ok (.iload 10, 2) := dk_21 10 (dk_at dksX7_method_15 9 rfl rfl)
theorem dX7_method_362 : decode cX7_method 362 = .ok (.ireturn, 1) := dk_172 (dk_at dksX7_method_15 11 rfl rfl)
abbrev cX7_mayBe : ByteArray := prog_30_method_39_code
def yX7_mayBe : MethodName := ⟨RX7, "mayBe", "(II)Z"⟩
def dkwX7_mayBe_3 : List UInt8 := [160, 0, 14, 28, 16, 8, 126, 154, 0, 7, 4, 167, 0, 4, 3, 172]
abbrev dktX7_mayBe_3 : List UInt8 := dkwX7_mayBe_3 ++ []
def dkwX7_mayBe_2 : List UInt8 := [160, 0, 5, 3, 172, 42, 180, 0, 13, 27, 46, 6, 160, 0, 20, 29, 4, 159, 0, 8, 29, 5]
abbrev dktX7_mayBe_2 : List UInt8 := dkwX7_mayBe_2 ++ dktX7_mayBe_3
def dkwX7_mayBe_1 : List UInt8 := [153, 0, 27, 42, 180, 0, 13, 27, 46, 4, 159, 0, 15, 28, 16, 12, 126, 154, 0, 8, 29, 5]
abbrev dktX7_mayBe_1 : List UInt8 := dkwX7_mayBe_1 ++ dktX7_mayBe_2
def dkwX7_mayBe_0 : List UInt8 := [28, 133, 9, 20, 0, 216, 184, 0, 127, 154, 0, 5, 3, 172, 28, 6, 126, 62, 28, 16, 16, 126]
abbrev dktX7_mayBe_0 : List UInt8 := dkwX7_mayBe_0 ++ dktX7_mayBe_1
theorem dksX7_mayBe_0 : cX7_mayBe.data.toList.drop 0 = dktX7_mayBe_0 := by decide +kernel
theorem dksX7_mayBe_1 : cX7_mayBe.data.toList.drop 22 = dktX7_mayBe_1 := dk_seg dksX7_mayBe_0 22 rfl rfl
theorem dksX7_mayBe_2 : cX7_mayBe.data.toList.drop 44 = dktX7_mayBe_2 := dk_seg dksX7_mayBe_1 22 rfl rfl
theorem dksX7_mayBe_3 : cX7_mayBe.data.toList.drop 66 = dktX7_mayBe_3 := dk_seg dksX7_mayBe_2 22 rfl rfl
theorem dX7_mayBe_0 : decode cX7_mayBe 0 = .ok (.iload_n 2, 1) := dk_28 (dk_at dksX7_mayBe_0 0 rfl rfl)
theorem dX7_mayBe_1 : decode cX7_mayBe 1 = .ok (.i2l, 1) := dk_133 (dk_at dksX7_mayBe_0 1 rfl rfl)
theorem dX7_mayBe_2 : decode cX7_mayBe 2 = .ok (.lconst 0, 1) := dk_9 (dk_at dksX7_mayBe_0 2 rfl rfl)
theorem dX7_mayBe_3 : decode cX7_mayBe 3 = .ok (.ldc2_w 216, 3) := dk_20 0 216 (dk_at dksX7_mayBe_0 3 rfl rfl)
theorem dX7_mayBe_6 : decode cX7_mayBe 6 = .ok (.invokestatic 127, 3) := dk_184 0 127 (dk_at dksX7_mayBe_0 6 rfl rfl)
theorem dX7_mayBe_9 : decode cX7_mayBe 9 = .ok (.ifCond .ne 5, 3) := dk_154 0 5 (dk_at dksX7_mayBe_0 9 rfl rfl)
theorem dX7_mayBe_12 : decode cX7_mayBe 12 = .ok (.iconst 0, 1) := dk_3 (dk_at dksX7_mayBe_0 12 rfl rfl)
theorem dX7_mayBe_13 : decode cX7_mayBe 13 = .ok (.ireturn, 1) := dk_172 (dk_at dksX7_mayBe_0 13 rfl rfl)
theorem dX7_mayBe_14 : decode cX7_mayBe 14 = .ok (.iload_n 2, 1) := dk_28 (dk_at dksX7_mayBe_0 14 rfl rfl)
theorem dX7_mayBe_15 : decode cX7_mayBe 15 = .ok (.iconst 3, 1) := dk_6 (dk_at dksX7_mayBe_0 15 rfl rfl)
theorem dX7_mayBe_16 : decode cX7_mayBe 16 = .ok (.iand, 1) := dk_126 (dk_at dksX7_mayBe_0 16 rfl rfl)
theorem dX7_mayBe_17 : decode cX7_mayBe 17 = .ok (.istore_n 3, 1) := dk_62 (dk_at dksX7_mayBe_0 17 rfl rfl)
theorem dX7_mayBe_18 : decode cX7_mayBe 18 = .ok (.iload_n 2, 1) := dk_28 (dk_at dksX7_mayBe_0 18 rfl rfl)
theorem dX7_mayBe_19 : decode cX7_mayBe 19 = .ok (.bipush 16, 2) := dk_16 16 (dk_at dksX7_mayBe_0 19 rfl rfl)
theorem dX7_mayBe_21 : decode cX7_mayBe 21 = .ok (.iand, 1) := dk_126 (dk_at dksX7_mayBe_0 21 rfl rfl)
theorem dX7_mayBe_22 : decode cX7_mayBe 22 = .ok (.ifCond .eq 27, 3) := dk_153 0 27 (dk_at dksX7_mayBe_1 0 rfl rfl)
theorem dX7_mayBe_25 : decode cX7_mayBe 25 = .ok (.aload_n 0, 1) := dk_42 (dk_at dksX7_mayBe_1 3 rfl rfl)
theorem dX7_mayBe_26 : decode cX7_mayBe 26 = .ok (.getfield 13, 3) := dk_180 0 13 (dk_at dksX7_mayBe_1 4 rfl rfl)
theorem dX7_mayBe_29 : decode cX7_mayBe 29 = .ok (.iload_n 1, 1) := dk_27 (dk_at dksX7_mayBe_1 7 rfl rfl)
theorem dX7_mayBe_30 : decode cX7_mayBe 30 = .ok (.iaload, 1) := dk_46 (dk_at dksX7_mayBe_1 8 rfl rfl)
theorem dX7_mayBe_31 : decode cX7_mayBe 31 = .ok (.iconst 1, 1) := dk_4 (dk_at dksX7_mayBe_1 9 rfl rfl)
theorem dX7_mayBe_32 : decode cX7_mayBe 32 = .ok (.if_icmp .eq 15, 3) := dk_159 0 15 (dk_at dksX7_mayBe_1 10 rfl rfl)
theorem dX7_mayBe_35 : decode cX7_mayBe 35 = .ok (.iload_n 2, 1) := dk_28 (dk_at dksX7_mayBe_1 13 rfl rfl)
theorem dX7_mayBe_36 : decode cX7_mayBe 36 = .ok (.bipush 12, 2) := dk_16 12 (dk_at dksX7_mayBe_1 14 rfl rfl)
theorem dX7_mayBe_38 : decode cX7_mayBe 38 = .ok (.iand, 1) := dk_126 (dk_at dksX7_mayBe_1 16 rfl rfl)
theorem dX7_mayBe_39 : decode cX7_mayBe 39 = .ok (.ifCond .ne 8, 3) := dk_154 0 8 (dk_at dksX7_mayBe_1 17 rfl rfl)
theorem dX7_mayBe_42 : decode cX7_mayBe 42 = .ok (.iload_n 3, 1) := dk_29 (dk_at dksX7_mayBe_1 20 rfl rfl)
theorem dX7_mayBe_43 : decode cX7_mayBe 43 = .ok (.iconst 2, 1) := dk_5 (dk_at dksX7_mayBe_1 21 rfl rfl)
theorem dX7_mayBe_44 : decode cX7_mayBe 44 = .ok (.if_icmp .ne 5, 3) := dk_160 0 5 (dk_at dksX7_mayBe_2 0 rfl rfl)
theorem dX7_mayBe_47 : decode cX7_mayBe 47 = .ok (.iconst 0, 1) := dk_3 (dk_at dksX7_mayBe_2 3 rfl rfl)
theorem dX7_mayBe_48 : decode cX7_mayBe 48 = .ok (.ireturn, 1) := dk_172 (dk_at dksX7_mayBe_2 4 rfl rfl)
theorem dX7_mayBe_49 : decode cX7_mayBe 49 = .ok (.aload_n 0, 1) := dk_42 (dk_at dksX7_mayBe_2 5 rfl rfl)
theorem dX7_mayBe_50 : decode cX7_mayBe 50 = .ok (.getfield 13, 3) := dk_180 0 13 (dk_at dksX7_mayBe_2 6 rfl rfl)
theorem dX7_mayBe_53 : decode cX7_mayBe 53 = .ok (.iload_n 1, 1) := dk_27 (dk_at dksX7_mayBe_2 9 rfl rfl)
theorem dX7_mayBe_54 : decode cX7_mayBe 54 = .ok (.iaload, 1) := dk_46 (dk_at dksX7_mayBe_2 10 rfl rfl)
theorem dX7_mayBe_55 : decode cX7_mayBe 55 = .ok (.iconst 3, 1) := dk_6 (dk_at dksX7_mayBe_2 11 rfl rfl)
theorem dX7_mayBe_56 : decode cX7_mayBe 56 = .ok (.if_icmp .ne 20, 3) := dk_160 0 20 (dk_at dksX7_mayBe_2 12 rfl rfl)
theorem dX7_mayBe_59 : decode cX7_mayBe 59 = .ok (.iload_n 3, 1) := dk_29 (dk_at dksX7_mayBe_2 15 rfl rfl)
theorem dX7_mayBe_60 : decode cX7_mayBe 60 = .ok (.iconst 1, 1) := dk_4 (dk_at dksX7_mayBe_2 16 rfl rfl)
theorem dX7_mayBe_61 : decode cX7_mayBe 61 = .ok (.if_icmp .eq 8, 3) := dk_159 0 8 (dk_at dksX7_mayBe_2 17 rfl rfl)
theorem dX7_mayBe_64 : decode cX7_mayBe 64 = .ok (.iload_n 3, 1) := dk_29 (dk_at dksX7_mayBe_2 20 rfl rfl)
theorem dX7_mayBe_65 : decode cX7_mayBe 65 = .ok (.iconst 2, 1) := dk_5 (dk_at dksX7_mayBe_2 21 rfl rfl)
theorem dX7_mayBe_66 : decode cX7_mayBe 66 = .ok (.if_icmp .ne 14, 3) := dk_160 0 14 (dk_at dksX7_mayBe_3 0 rfl rfl)
theorem dX7_mayBe_69 : decode cX7_mayBe 69 = .ok (.iload_n 2, 1) := dk_28 (dk_at dksX7_mayBe_3 3 rfl rfl)
theorem dX7_mayBe_70 : decode cX7_mayBe 70 = .ok (.bipush 8, 2) := dk_16 8 (dk_at dksX7_mayBe_3 4 rfl rfl)
theorem dX7_mayBe_72 : decode cX7_mayBe 72 = .ok (.iand, 1) := dk_126 (dk_at dksX7_mayBe_3 6 rfl rfl)
theorem dX7_mayBe_73 : decode cX7_mayBe 73 = .ok (.ifCond .ne 7, 3) := dk_154 0 7 (dk_at dksX7_mayBe_3 7 rfl rfl)
theorem dX7_mayBe_76 : decode cX7_mayBe 76 = .ok (.iconst 1, 1) := dk_4 (dk_at dksX7_mayBe_3 10 rfl rfl)
theorem dX7_mayBe_77 : decode cX7_mayBe 77 = .ok (.goto 4, 3) := dk_167 0 4 (dk_at dksX7_mayBe_3 11 rfl rfl)
theorem dX7_mayBe_80 : decode cX7_mayBe 80 = .ok (.iconst 0, 1) := dk_3 (dk_at dksX7_mayBe_3 14 rfl rfl)
theorem dX7_mayBe_81 : decode cX7_mayBe 81 = .ok (.ireturn, 1) := dk_172 (dk_at dksX7_mayBe_3 15 rfl rfl)
abbrev cX7_overrides : ByteArray := prog_30_method_42_code
def yX7_overrides : MethodName := ⟨RX7, "overrides", "(II)I"⟩
def dkwX7_overrides_4 : List UInt8 := [167, 0, 4, 3, 172, 42, 27, 28, 182, 0, 227, 153, 0, 7, 4, 167, 0, 4, 3, 172]
abbrev dktX7_overrides_4 : List UInt8 := dkwX7_overrides_4 ++ []
def dkwX7_overrides_3 : List UInt8 := [159, 0, 26, 42, 42, 180, 0, 45, 27, 46, 42, 180, 0, 45, 28, 46, 182, 0, 156, 153, 0, 7, 4]
abbrev dktX7_overrides_3 : List UInt8 := dkwX7_overrides_3 ++ dktX7_overrides_4
def dkwX7_overrides_2 : List UInt8 := [46, 42, 180, 0, 48, 28, 46, 160, 0, 41, 42, 180, 0, 45, 27, 46, 42, 180, 0, 45, 28, 46]
abbrev dktX7_overrides_2 : List UInt8 := dkwX7_overrides_2 ++ dktX7_overrides_3
def dkwX7_overrides_1 : List UInt8 := [180, 0, 54, 28, 51, 159, 0, 5, 2, 172, 42, 180, 0, 54, 27, 51, 153, 0, 58, 42, 180, 0, 48, 27]
abbrev dktX7_overrides_1 : List UInt8 := dkwX7_overrides_1 ++ dktX7_overrides_2
def dkwX7_overrides_0 : List UInt8 := [42, 27, 182, 0, 185, 153, 0, 26, 42, 28, 182, 0, 185, 153, 0, 18, 42, 180, 0, 54, 27, 51, 42]
abbrev dktX7_overrides_0 : List UInt8 := dkwX7_overrides_0 ++ dktX7_overrides_1
theorem dksX7_overrides_0 : cX7_overrides.data.toList.drop 0 = dktX7_overrides_0 := by decide +kernel
theorem dksX7_overrides_1 : cX7_overrides.data.toList.drop 23 = dktX7_overrides_1 := dk_seg dksX7_overrides_0 23 rfl rfl
theorem dksX7_overrides_2 : cX7_overrides.data.toList.drop 47 = dktX7_overrides_2 := dk_seg dksX7_overrides_1 24 rfl rfl
theorem dksX7_overrides_3 : cX7_overrides.data.toList.drop 69 = dktX7_overrides_3 := dk_seg dksX7_overrides_2 22 rfl rfl
theorem dksX7_overrides_4 : cX7_overrides.data.toList.drop 92 = dktX7_overrides_4 := dk_seg dksX7_overrides_3 23 rfl rfl
theorem dX7_overrides_0 : decode cX7_overrides 0 = .ok (.aload_n 0, 1) := dk_42 (dk_at dksX7_overrides_0 0 rfl rfl)
theorem dX7_overrides_1 : decode cX7_overrides 1 = .ok (.iload_n 1, 1) := dk_27 (dk_at dksX7_overrides_0 1 rfl rfl)
theorem dX7_overrides_2 : decode cX7_overrides 2 = .ok (.invokevirtual 185, 3) := dk_182 0 185 (dk_at dksX7_overrides_0 2 rfl rfl)
theorem dX7_overrides_5 : decode cX7_overrides 5 = .ok (.ifCond .eq 26, 3) := dk_153 0 26 (dk_at dksX7_overrides_0 5 rfl rfl)
theorem dX7_overrides_8 : decode cX7_overrides 8 = .ok (.aload_n 0, 1) := dk_42 (dk_at dksX7_overrides_0 8 rfl rfl)
theorem dX7_overrides_9 : decode cX7_overrides 9 = .ok (.iload_n 2, 1) := dk_28 (dk_at dksX7_overrides_0 9 rfl rfl)
theorem dX7_overrides_10 : decode cX7_overrides 10 = .ok (.invokevirtual 185, 3) := dk_182 0 185 (dk_at dksX7_overrides_0 10 rfl rfl)
theorem dX7_overrides_13 : decode cX7_overrides 13 = .ok (.ifCond .eq 18, 3) := dk_153 0 18 (dk_at dksX7_overrides_0 13 rfl rfl)
theorem dX7_overrides_16 : decode cX7_overrides 16 = .ok (.aload_n 0, 1) := dk_42 (dk_at dksX7_overrides_0 16 rfl rfl)
theorem dX7_overrides_17 : decode cX7_overrides 17 = .ok (.getfield 54, 3) := dk_180 0 54 (dk_at dksX7_overrides_0 17 rfl rfl)
theorem dX7_overrides_20 : decode cX7_overrides 20 = .ok (.iload_n 1, 1) := dk_27 (dk_at dksX7_overrides_0 20 rfl rfl)
theorem dX7_overrides_21 : decode cX7_overrides 21 = .ok (.baload, 1) := dk_51 (dk_at dksX7_overrides_0 21 rfl rfl)
theorem dX7_overrides_22 : decode cX7_overrides 22 = .ok (.aload_n 0, 1) := dk_42 (dk_at dksX7_overrides_0 22 rfl rfl)
theorem dX7_overrides_23 : decode cX7_overrides 23 = .ok (.getfield 54, 3) := dk_180 0 54 (dk_at dksX7_overrides_1 0 rfl rfl)
theorem dX7_overrides_26 : decode cX7_overrides 26 = .ok (.iload_n 2, 1) := dk_28 (dk_at dksX7_overrides_1 3 rfl rfl)
theorem dX7_overrides_27 : decode cX7_overrides 27 = .ok (.baload, 1) := dk_51 (dk_at dksX7_overrides_1 4 rfl rfl)
theorem dX7_overrides_28 : decode cX7_overrides 28 = .ok (.if_icmp .eq 5, 3) := dk_159 0 5 (dk_at dksX7_overrides_1 5 rfl rfl)
theorem dX7_overrides_31 : decode cX7_overrides 31 = .ok (.iconst (-1), 1) := dk_2 (dk_at dksX7_overrides_1 8 rfl rfl)
theorem dX7_overrides_32 : decode cX7_overrides 32 = .ok (.ireturn, 1) := dk_172 (dk_at dksX7_overrides_1 9 rfl rfl)
theorem dX7_overrides_33 : decode cX7_overrides 33 = .ok (.aload_n 0, 1) := dk_42 (dk_at dksX7_overrides_1 10 rfl rfl)
theorem dX7_overrides_34 : decode cX7_overrides 34 = .ok (.getfield 54, 3) := dk_180 0 54 (dk_at dksX7_overrides_1 11 rfl rfl)
theorem dX7_overrides_37 : decode cX7_overrides 37 = .ok (.iload_n 1, 1) := dk_27 (dk_at dksX7_overrides_1 14 rfl rfl)
theorem dX7_overrides_38 : decode cX7_overrides 38 = .ok (.baload, 1) := dk_51 (dk_at dksX7_overrides_1 15 rfl rfl)
theorem dX7_overrides_39 : decode cX7_overrides 39 = .ok (.ifCond .eq 58, 3) := dk_153 0 58 (dk_at dksX7_overrides_1 16 rfl rfl)
theorem dX7_overrides_42 : decode cX7_overrides 42 = .ok (.aload_n 0, 1) := dk_42 (dk_at dksX7_overrides_1 19 rfl rfl)
theorem dX7_overrides_43 : decode cX7_overrides 43 = .ok (.getfield 48, 3) := dk_180 0 48 (dk_at dksX7_overrides_1 20 rfl rfl)
theorem dX7_overrides_46 : decode cX7_overrides 46 = .ok (.iload_n 1, 1) := dk_27 (dk_at dksX7_overrides_1 23 rfl rfl)
theorem dX7_overrides_47 : decode cX7_overrides 47 = .ok (.iaload, 1) := dk_46 (dk_at dksX7_overrides_2 0 rfl rfl)
theorem dX7_overrides_48 : decode cX7_overrides 48 = .ok (.aload_n 0, 1) := dk_42 (dk_at dksX7_overrides_2 1 rfl rfl)
theorem dX7_overrides_49 : decode cX7_overrides 49 = .ok (.getfield 48, 3) := dk_180 0 48 (dk_at dksX7_overrides_2 2 rfl rfl)
theorem dX7_overrides_52 : decode cX7_overrides 52 = .ok (.iload_n 2, 1) := dk_28 (dk_at dksX7_overrides_2 5 rfl rfl)
theorem dX7_overrides_53 : decode cX7_overrides 53 = .ok (.iaload, 1) := dk_46 (dk_at dksX7_overrides_2 6 rfl rfl)
theorem dX7_overrides_54 : decode cX7_overrides 54 = .ok (.if_icmp .ne 41, 3) := dk_160 0 41 (dk_at dksX7_overrides_2 7 rfl rfl)
theorem dX7_overrides_57 : decode cX7_overrides 57 = .ok (.aload_n 0, 1) := dk_42 (dk_at dksX7_overrides_2 10 rfl rfl)
theorem dX7_overrides_58 : decode cX7_overrides 58 = .ok (.getfield 45, 3) := dk_180 0 45 (dk_at dksX7_overrides_2 11 rfl rfl)
theorem dX7_overrides_61 : decode cX7_overrides 61 = .ok (.iload_n 1, 1) := dk_27 (dk_at dksX7_overrides_2 14 rfl rfl)
theorem dX7_overrides_62 : decode cX7_overrides 62 = .ok (.iaload, 1) := dk_46 (dk_at dksX7_overrides_2 15 rfl rfl)
theorem dX7_overrides_63 : decode cX7_overrides 63 = .ok (.aload_n 0, 1) := dk_42 (dk_at dksX7_overrides_2 16 rfl rfl)
theorem dX7_overrides_64 : decode cX7_overrides 64 = .ok (.getfield 45, 3) := dk_180 0 45 (dk_at dksX7_overrides_2 17 rfl rfl)
theorem dX7_overrides_67 : decode cX7_overrides 67 = .ok (.iload_n 2, 1) := dk_28 (dk_at dksX7_overrides_2 20 rfl rfl)
theorem dX7_overrides_68 : decode cX7_overrides 68 = .ok (.iaload, 1) := dk_46 (dk_at dksX7_overrides_2 21 rfl rfl)
theorem dX7_overrides_69 : decode cX7_overrides 69 = .ok (.if_icmp .eq 26, 3) := dk_159 0 26 (dk_at dksX7_overrides_3 0 rfl rfl)
theorem dX7_overrides_72 : decode cX7_overrides 72 = .ok (.aload_n 0, 1) := dk_42 (dk_at dksX7_overrides_3 3 rfl rfl)
theorem dX7_overrides_73 : decode cX7_overrides 73 = .ok (.aload_n 0, 1) := dk_42 (dk_at dksX7_overrides_3 4 rfl rfl)
theorem dX7_overrides_74 : decode cX7_overrides 74 = .ok (.getfield 45, 3) := dk_180 0 45 (dk_at dksX7_overrides_3 5 rfl rfl)
theorem dX7_overrides_77 : decode cX7_overrides 77 = .ok (.iload_n 1, 1) := dk_27 (dk_at dksX7_overrides_3 8 rfl rfl)
theorem dX7_overrides_78 : decode cX7_overrides 78 = .ok (.iaload, 1) := dk_46 (dk_at dksX7_overrides_3 9 rfl rfl)
theorem dX7_overrides_79 : decode cX7_overrides 79 = .ok (.aload_n 0, 1) := dk_42 (dk_at dksX7_overrides_3 10 rfl rfl)
theorem dX7_overrides_80 : decode cX7_overrides 80 = .ok (.getfield 45, 3) := dk_180 0 45 (dk_at dksX7_overrides_3 11 rfl rfl)
theorem dX7_overrides_83 : decode cX7_overrides 83 = .ok (.iload_n 2, 1) := dk_28 (dk_at dksX7_overrides_3 14 rfl rfl)
theorem dX7_overrides_84 : decode cX7_overrides 84 = .ok (.iaload, 1) := dk_46 (dk_at dksX7_overrides_3 15 rfl rfl)
theorem dX7_overrides_85 : decode cX7_overrides 85 = .ok (.invokevirtual 156, 3) := dk_182 0 156 (dk_at dksX7_overrides_3 16 rfl rfl)
theorem dX7_overrides_88 : decode cX7_overrides 88 = .ok (.ifCond .eq 7, 3) := dk_153 0 7 (dk_at dksX7_overrides_3 19 rfl rfl)
theorem dX7_overrides_91 : decode cX7_overrides 91 = .ok (.iconst 1, 1) := dk_4 (dk_at dksX7_overrides_3 22 rfl rfl)
theorem dX7_overrides_92 : decode cX7_overrides 92 = .ok (.goto 4, 3) := dk_167 0 4 (dk_at dksX7_overrides_4 0 rfl rfl)
theorem dX7_overrides_95 : decode cX7_overrides 95 = .ok (.iconst 0, 1) := dk_3 (dk_at dksX7_overrides_4 3 rfl rfl)
theorem dX7_overrides_96 : decode cX7_overrides 96 = .ok (.ireturn, 1) := dk_172 (dk_at dksX7_overrides_4 4 rfl rfl)
theorem dX7_overrides_97 : decode cX7_overrides 97 = .ok (.aload_n 0, 1) := dk_42 (dk_at dksX7_overrides_4 5 rfl rfl)
theorem dX7_overrides_98 : decode cX7_overrides 98 = .ok (.iload_n 1, 1) := dk_27 (dk_at dksX7_overrides_4 6 rfl rfl)
theorem dX7_overrides_99 : decode cX7_overrides 99 = .ok (.iload_n 2, 1) := dk_28 (dk_at dksX7_overrides_4 7 rfl rfl)
theorem dX7_overrides_100 : decode cX7_overrides 100 = .ok (.invokevirtual 227, 3) := dk_182 0 227 (dk_at dksX7_overrides_4 8 rfl rfl)
theorem dX7_overrides_103 : decode cX7_overrides 103 = .ok (.ifCond .eq 7, 3) := dk_153 0 7 (dk_at dksX7_overrides_4 11 rfl rfl)
theorem dX7_overrides_106 : decode cX7_overrides 106 = .ok (.iconst 1, 1) := dk_4 (dk_at dksX7_overrides_4 14 rfl rfl)
theorem dX7_overrides_107 : decode cX7_overrides 107 = .ok (.goto 4, 3) := dk_167 0 4 (dk_at dksX7_overrides_4 15 rfl rfl)
theorem dX7_overrides_110 : decode cX7_overrides 110 = .ok (.iconst 0, 1) := dk_3 (dk_at dksX7_overrides_4 18 rfl rfl)
theorem dX7_overrides_111 : decode cX7_overrides 111 = .ok (.ireturn, 1) := dk_172 (dk_at dksX7_overrides_4 19 rfl rfl)
abbrev cX7_isMember : ByteArray := prog_30_method_27_code
def yX7_isMember : MethodName := ⟨RX7, "isMember", "(I)Z"⟩
def dkwX7_isMember_0 : List UInt8 := [27, 133, 9, 42, 180, 0, 182, 4, 100, 133, 184, 0, 127, 172]
abbrev dktX7_isMember_0 : List UInt8 := dkwX7_isMember_0 ++ []
theorem dksX7_isMember_0 : cX7_isMember.data.toList.drop 0 = dktX7_isMember_0 := by decide +kernel
theorem dX7_isMember_0 : decode cX7_isMember 0 = .ok (.iload_n 1, 1) := dk_27 (dk_at dksX7_isMember_0 0 rfl rfl)
theorem dX7_isMember_1 : decode cX7_isMember 1 = .ok (.i2l, 1) := dk_133 (dk_at dksX7_isMember_0 1 rfl rfl)
theorem dX7_isMember_2 : decode cX7_isMember 2 = .ok (.lconst 0, 1) := dk_9 (dk_at dksX7_isMember_0 2 rfl rfl)
theorem dX7_isMember_3 : decode cX7_isMember 3 = .ok (.aload_n 0, 1) := dk_42 (dk_at dksX7_isMember_0 3 rfl rfl)
theorem dX7_isMember_4 : decode cX7_isMember 4 = .ok (.getfield 182, 3) := dk_180 0 182 (dk_at dksX7_isMember_0 4 rfl rfl)
theorem dX7_isMember_7 : decode cX7_isMember 7 = .ok (.iconst 1, 1) := dk_4 (dk_at dksX7_isMember_0 7 rfl rfl)
theorem dX7_isMember_8 : decode cX7_isMember 8 = .ok (.isub, 1) := dk_100 (dk_at dksX7_isMember_0 8 rfl rfl)
theorem dX7_isMember_9 : decode cX7_isMember 9 = .ok (.i2l, 1) := dk_133 (dk_at dksX7_isMember_0 9 rfl rfl)
theorem dX7_isMember_10 : decode cX7_isMember 10 = .ok (.invokestatic 127, 3) := dk_184 0 127 (dk_at dksX7_isMember_0 10 rfl rfl)
theorem dX7_isMember_13 : decode cX7_isMember 13 = .ok (.ireturn, 1) := dk_172 (dk_at dksX7_isMember_0 13 rfl rfl)
abbrev cX7_overridesIt : ByteArray := prog_30_method_41_code
def yX7_overridesIt : MethodName := ⟨RX7, "overridesIt", "(II)Z"⟩
def dkwX7_overridesIt_4 : List UInt8 := [42, 180, 0, 20, 29, 46, 42, 180, 0, 20, 21, 4, 46, 160, 0, 7, 4, 167, 0, 4, 3, 172]
abbrev dktX7_overridesIt_4 : List UInt8 := dkwX7_overridesIt_4 ++ []
def dkwX7_overridesIt_3 : List UInt8 := [182, 0, 156, 153, 0, 41, 42, 28, 182, 0, 188, 4, 159, 0, 28, 42, 28, 182, 0, 188, 6, 159, 0, 19]
abbrev dktX7_overridesIt_3 : List UInt8 := dkwX7_overridesIt_3 ++ dktX7_overridesIt_4
def dkwX7_overridesIt_2 : List UInt8 := [180, 0, 45, 27, 46, 62, 42, 180, 0, 45, 28, 46, 54, 4, 29, 21, 4, 159, 0, 51, 42, 29, 21, 4]
abbrev dktX7_overridesIt_2 : List UInt8 := dkwX7_overridesIt_2 ++ dktX7_overridesIt_3
def dkwX7_overridesIt_1 : List UInt8 := [154, 0, 19, 42, 27, 182, 0, 224, 154, 0, 11, 42, 28, 182, 0, 224, 153, 0, 5, 3, 172, 42]
abbrev dktX7_overridesIt_1 : List UInt8 := dkwX7_overridesIt_1 ++ dktX7_overridesIt_2
def dkwX7_overridesIt_0 : List UInt8 := [42, 27, 28, 182, 0, 192, 153, 0, 37, 42, 27, 7, 182, 0, 221, 154, 0, 28, 42, 28, 7, 182, 0, 221]
abbrev dktX7_overridesIt_0 : List UInt8 := dkwX7_overridesIt_0 ++ dktX7_overridesIt_1
theorem dksX7_overridesIt_0 : cX7_overridesIt.data.toList.drop 0 = dktX7_overridesIt_0 := by decide +kernel
theorem dksX7_overridesIt_1 : cX7_overridesIt.data.toList.drop 24 = dktX7_overridesIt_1 := dk_seg dksX7_overridesIt_0 24 rfl rfl
theorem dksX7_overridesIt_2 : cX7_overridesIt.data.toList.drop 46 = dktX7_overridesIt_2 := dk_seg dksX7_overridesIt_1 22 rfl rfl
theorem dksX7_overridesIt_3 : cX7_overridesIt.data.toList.drop 70 = dktX7_overridesIt_3 := dk_seg dksX7_overridesIt_2 24 rfl rfl
theorem dksX7_overridesIt_4 : cX7_overridesIt.data.toList.drop 94 = dktX7_overridesIt_4 := dk_seg dksX7_overridesIt_3 24 rfl rfl
theorem dX7_overridesIt_0 : decode cX7_overridesIt 0 = .ok (.aload_n 0, 1) := dk_42 (dk_at dksX7_overridesIt_0 0 rfl rfl)
theorem dX7_overridesIt_1 : decode cX7_overridesIt 1 = .ok (.iload_n 1, 1) := dk_27 (dk_at dksX7_overridesIt_0 1 rfl rfl)
theorem dX7_overridesIt_2 : decode cX7_overridesIt 2 = .ok (.iload_n 2, 1) := dk_28 (dk_at dksX7_overridesIt_0 2 rfl rfl)
theorem dX7_overridesIt_3 : decode cX7_overridesIt 3 = .ok (.invokevirtual 192, 3) := dk_182 0 192 (dk_at dksX7_overridesIt_0 3 rfl rfl)
theorem dX7_overridesIt_6 : decode cX7_overridesIt 6 = .ok (.ifCond .eq 37, 3) := dk_153 0 37 (dk_at dksX7_overridesIt_0 6 rfl rfl)
theorem dX7_overridesIt_9 : decode cX7_overridesIt 9 = .ok (.aload_n 0, 1) := dk_42 (dk_at dksX7_overridesIt_0 9 rfl rfl)
theorem dX7_overridesIt_10 : decode cX7_overridesIt 10 = .ok (.iload_n 1, 1) := dk_27 (dk_at dksX7_overridesIt_0 10 rfl rfl)
theorem dX7_overridesIt_11 : decode cX7_overridesIt 11 = .ok (.iconst 4, 1) := dk_7 (dk_at dksX7_overridesIt_0 11 rfl rfl)
theorem dX7_overridesIt_12 : decode cX7_overridesIt 12 = .ok (.invokevirtual 221, 3) := dk_182 0 221 (dk_at dksX7_overridesIt_0 12 rfl rfl)
theorem dX7_overridesIt_15 : decode cX7_overridesIt 15 = .ok (.ifCond .ne 28, 3) := dk_154 0 28 (dk_at dksX7_overridesIt_0 15 rfl rfl)
theorem dX7_overridesIt_18 : decode cX7_overridesIt 18 = .ok (.aload_n 0, 1) := dk_42 (dk_at dksX7_overridesIt_0 18 rfl rfl)
theorem dX7_overridesIt_19 : decode cX7_overridesIt 19 = .ok (.iload_n 2, 1) := dk_28 (dk_at dksX7_overridesIt_0 19 rfl rfl)
theorem dX7_overridesIt_20 : decode cX7_overridesIt 20 = .ok (.iconst 4, 1) := dk_7 (dk_at dksX7_overridesIt_0 20 rfl rfl)
theorem dX7_overridesIt_21 : decode cX7_overridesIt 21 = .ok (.invokevirtual 221, 3) := dk_182 0 221 (dk_at dksX7_overridesIt_0 21 rfl rfl)
theorem dX7_overridesIt_24 : decode cX7_overridesIt 24 = .ok (.ifCond .ne 19, 3) := dk_154 0 19 (dk_at dksX7_overridesIt_1 0 rfl rfl)
theorem dX7_overridesIt_27 : decode cX7_overridesIt 27 = .ok (.aload_n 0, 1) := dk_42 (dk_at dksX7_overridesIt_1 3 rfl rfl)
theorem dX7_overridesIt_28 : decode cX7_overridesIt 28 = .ok (.iload_n 1, 1) := dk_27 (dk_at dksX7_overridesIt_1 4 rfl rfl)
theorem dX7_overridesIt_29 : decode cX7_overridesIt 29 = .ok (.invokevirtual 224, 3) := dk_182 0 224 (dk_at dksX7_overridesIt_1 5 rfl rfl)
theorem dX7_overridesIt_32 : decode cX7_overridesIt 32 = .ok (.ifCond .ne 11, 3) := dk_154 0 11 (dk_at dksX7_overridesIt_1 8 rfl rfl)
theorem dX7_overridesIt_35 : decode cX7_overridesIt 35 = .ok (.aload_n 0, 1) := dk_42 (dk_at dksX7_overridesIt_1 11 rfl rfl)
theorem dX7_overridesIt_36 : decode cX7_overridesIt 36 = .ok (.iload_n 2, 1) := dk_28 (dk_at dksX7_overridesIt_1 12 rfl rfl)
theorem dX7_overridesIt_37 : decode cX7_overridesIt 37 = .ok (.invokevirtual 224, 3) := dk_182 0 224 (dk_at dksX7_overridesIt_1 13 rfl rfl)
theorem dX7_overridesIt_40 : decode cX7_overridesIt 40 = .ok (.ifCond .eq 5, 3) := dk_153 0 5 (dk_at dksX7_overridesIt_1 16 rfl rfl)
theorem dX7_overridesIt_43 : decode cX7_overridesIt 43 = .ok (.iconst 0, 1) := dk_3 (dk_at dksX7_overridesIt_1 19 rfl rfl)
theorem dX7_overridesIt_44 : decode cX7_overridesIt 44 = .ok (.ireturn, 1) := dk_172 (dk_at dksX7_overridesIt_1 20 rfl rfl)
theorem dX7_overridesIt_45 : decode cX7_overridesIt 45 = .ok (.aload_n 0, 1) := dk_42 (dk_at dksX7_overridesIt_1 21 rfl rfl)
theorem dX7_overridesIt_46 : decode cX7_overridesIt 46 = .ok (.getfield 45, 3) := dk_180 0 45 (dk_at dksX7_overridesIt_2 0 rfl rfl)
theorem dX7_overridesIt_49 : decode cX7_overridesIt 49 = .ok (.iload_n 1, 1) := dk_27 (dk_at dksX7_overridesIt_2 3 rfl rfl)
theorem dX7_overridesIt_50 : decode cX7_overridesIt 50 = .ok (.iaload, 1) := dk_46 (dk_at dksX7_overridesIt_2 4 rfl rfl)
theorem dX7_overridesIt_51 : decode cX7_overridesIt 51 = .ok (.istore_n 3, 1) := dk_62 (dk_at dksX7_overridesIt_2 5 rfl rfl)
theorem dX7_overridesIt_52 : decode cX7_overridesIt 52 = .ok (.aload_n 0, 1) := dk_42 (dk_at dksX7_overridesIt_2 6 rfl rfl)
theorem dX7_overridesIt_53 : decode cX7_overridesIt 53 = .ok (.getfield 45, 3) := dk_180 0 45 (dk_at dksX7_overridesIt_2 7 rfl rfl)
theorem dX7_overridesIt_56 : decode cX7_overridesIt 56 = .ok (.iload_n 2, 1) := dk_28 (dk_at dksX7_overridesIt_2 10 rfl rfl)
theorem dX7_overridesIt_57 : decode cX7_overridesIt 57 = .ok (.iaload, 1) := dk_46 (dk_at dksX7_overridesIt_2 11 rfl rfl)
theorem dX7_overridesIt_58 : decode cX7_overridesIt 58 = .ok (.istore 4, 2) := dk_54 4 (dk_at dksX7_overridesIt_2 12 rfl rfl)
theorem dX7_overridesIt_60 : decode cX7_overridesIt 60 = .ok (.iload_n 3, 1) := dk_29 (dk_at dksX7_overridesIt_2 14 rfl rfl)
theorem dX7_overridesIt_61 : decode cX7_overridesIt 61 = .ok (.iload 4, 2) := dk_21 4 (dk_at dksX7_overridesIt_2 15 rfl rfl)
theorem dX7_overridesIt_63 : decode cX7_overridesIt 63 = .ok (.if_icmp .eq 51, 3) := dk_159 0 51 (dk_at dksX7_overridesIt_2 17 rfl rfl)
theorem dX7_overridesIt_66 : decode cX7_overridesIt 66 = .ok (.aload_n 0, 1) := dk_42 (dk_at dksX7_overridesIt_2 20 rfl rfl)
theorem dX7_overridesIt_67 : decode cX7_overridesIt 67 = .ok (.iload_n 3, 1) := dk_29 (dk_at dksX7_overridesIt_2 21 rfl rfl)
theorem dX7_overridesIt_68 : decode cX7_overridesIt 68 = .ok (.iload 4, 2) := dk_21 4 (dk_at dksX7_overridesIt_2 22 rfl rfl)
theorem dX7_overridesIt_70 : decode cX7_overridesIt 70 = .ok (.invokevirtual 156, 3) := dk_182 0 156 (dk_at dksX7_overridesIt_3 0 rfl rfl)
theorem dX7_overridesIt_73 : decode cX7_overridesIt 73 = .ok (.ifCond .eq 41, 3) := dk_153 0 41 (dk_at dksX7_overridesIt_3 3 rfl rfl)
theorem dX7_overridesIt_76 : decode cX7_overridesIt 76 = .ok (.aload_n 0, 1) := dk_42 (dk_at dksX7_overridesIt_3 6 rfl rfl)
theorem dX7_overridesIt_77 : decode cX7_overridesIt 77 = .ok (.iload_n 2, 1) := dk_28 (dk_at dksX7_overridesIt_3 7 rfl rfl)
theorem dX7_overridesIt_78 : decode cX7_overridesIt 78 = .ok (.invokevirtual 188, 3) := dk_182 0 188 (dk_at dksX7_overridesIt_3 8 rfl rfl)
theorem dX7_overridesIt_81 : decode cX7_overridesIt 81 = .ok (.iconst 1, 1) := dk_4 (dk_at dksX7_overridesIt_3 11 rfl rfl)
theorem dX7_overridesIt_82 : decode cX7_overridesIt 82 = .ok (.if_icmp .eq 28, 3) := dk_159 0 28 (dk_at dksX7_overridesIt_3 12 rfl rfl)
theorem dX7_overridesIt_85 : decode cX7_overridesIt 85 = .ok (.aload_n 0, 1) := dk_42 (dk_at dksX7_overridesIt_3 15 rfl rfl)
theorem dX7_overridesIt_86 : decode cX7_overridesIt 86 = .ok (.iload_n 2, 1) := dk_28 (dk_at dksX7_overridesIt_3 16 rfl rfl)
theorem dX7_overridesIt_87 : decode cX7_overridesIt 87 = .ok (.invokevirtual 188, 3) := dk_182 0 188 (dk_at dksX7_overridesIt_3 17 rfl rfl)
theorem dX7_overridesIt_90 : decode cX7_overridesIt 90 = .ok (.iconst 3, 1) := dk_6 (dk_at dksX7_overridesIt_3 20 rfl rfl)
theorem dX7_overridesIt_91 : decode cX7_overridesIt 91 = .ok (.if_icmp .eq 19, 3) := dk_159 0 19 (dk_at dksX7_overridesIt_3 21 rfl rfl)
theorem dX7_overridesIt_94 : decode cX7_overridesIt 94 = .ok (.aload_n 0, 1) := dk_42 (dk_at dksX7_overridesIt_4 0 rfl rfl)
theorem dX7_overridesIt_95 : decode cX7_overridesIt 95 = .ok (.getfield 20, 3) := dk_180 0 20 (dk_at dksX7_overridesIt_4 1 rfl rfl)
theorem dX7_overridesIt_98 : decode cX7_overridesIt 98 = .ok (.iload_n 3, 1) := dk_29 (dk_at dksX7_overridesIt_4 4 rfl rfl)
theorem dX7_overridesIt_99 : decode cX7_overridesIt 99 = .ok (.iaload, 1) := dk_46 (dk_at dksX7_overridesIt_4 5 rfl rfl)
theorem dX7_overridesIt_100 : decode cX7_overridesIt 100 = .ok (.aload_n 0, 1) := dk_42 (dk_at dksX7_overridesIt_4 6 rfl rfl)
theorem dX7_overridesIt_101 : decode cX7_overridesIt 101 = .ok (.getfield 20, 3) := dk_180 0 20 (dk_at dksX7_overridesIt_4 7 rfl rfl)
theorem dX7_overridesIt_104 : decode cX7_overridesIt 104 = .ok (.iload 4, 2) := dk_21 4 (dk_at dksX7_overridesIt_4 10 rfl rfl)
theorem dX7_overridesIt_106 : decode cX7_overridesIt 106 = .ok (.iaload, 1) := dk_46 (dk_at dksX7_overridesIt_4 12 rfl rfl)
theorem dX7_overridesIt_107 : decode cX7_overridesIt 107 = .ok (.if_icmp .ne 7, 3) := dk_160 0 7 (dk_at dksX7_overridesIt_4 13 rfl rfl)
theorem dX7_overridesIt_110 : decode cX7_overridesIt 110 = .ok (.iconst 1, 1) := dk_4 (dk_at dksX7_overridesIt_4 16 rfl rfl)
theorem dX7_overridesIt_111 : decode cX7_overridesIt 111 = .ok (.goto 4, 3) := dk_167 0 4 (dk_at dksX7_overridesIt_4 17 rfl rfl)
theorem dX7_overridesIt_114 : decode cX7_overridesIt 114 = .ok (.iconst 0, 1) := dk_3 (dk_at dksX7_overridesIt_4 20 rfl rfl)
theorem dX7_overridesIt_115 : decode cX7_overridesIt 115 = .ok (.ireturn, 1) := dk_172 (dk_at dksX7_overridesIt_4 21 rfl rfl)
abbrev cX7_areLike : ByteArray := prog_30_method_34_code
def yX7_areLike : MethodName := ⟨RX7, "areLike", "(II)Z"⟩
def dkwX7_areLike_4 : List UInt8 := [4, 167, 0, 4, 3, 62, 132, 4, 1, 167, 255, 207, 29, 172]
abbrev dktX7_areLike_4 : List UInt8 := dkwX7_areLike_4 ++ []
def dkwX7_areLike_3 : List UInt8 := [180, 0, 63, 6, 27, 104, 21, 4, 96, 46, 42, 180, 0, 63, 6, 28, 104, 21, 4, 96, 46, 160, 0, 7]
abbrev dktX7_areLike_3 : List UInt8 := dkwX7_areLike_3 ++ dktX7_areLike_4
def dkwX7_areLike_2 : List UInt8 := [167, 0, 4, 3, 62, 3, 54, 4, 21, 4, 42, 180, 0, 60, 27, 46, 162, 0, 44, 29, 153, 0, 40, 42]
abbrev dktX7_areLike_2 : List UInt8 := dkwX7_areLike_2 ++ dktX7_areLike_3
def dkwX7_areLike_1 : List UInt8 := [180, 0, 57, 28, 46, 160, 0, 22, 42, 180, 0, 60, 27, 46, 42, 180, 0, 60, 28, 46, 160, 0, 7, 4]
abbrev dktX7_areLike_1 : List UInt8 := dkwX7_areLike_1 ++ dktX7_areLike_2
def dkwX7_areLike_0 : List UInt8 := [42, 180, 0, 48, 27, 46, 42, 180, 0, 48, 28, 46, 160, 0, 37, 42, 180, 0, 57, 27, 46, 42]
abbrev dktX7_areLike_0 : List UInt8 := dkwX7_areLike_0 ++ dktX7_areLike_1
theorem dksX7_areLike_0 : cX7_areLike.data.toList.drop 0 = dktX7_areLike_0 := by decide +kernel
theorem dksX7_areLike_1 : cX7_areLike.data.toList.drop 22 = dktX7_areLike_1 := dk_seg dksX7_areLike_0 22 rfl rfl
theorem dksX7_areLike_2 : cX7_areLike.data.toList.drop 46 = dktX7_areLike_2 := dk_seg dksX7_areLike_1 24 rfl rfl
theorem dksX7_areLike_3 : cX7_areLike.data.toList.drop 70 = dktX7_areLike_3 := dk_seg dksX7_areLike_2 24 rfl rfl
theorem dksX7_areLike_4 : cX7_areLike.data.toList.drop 94 = dktX7_areLike_4 := dk_seg dksX7_areLike_3 24 rfl rfl
theorem dX7_areLike_0 : decode cX7_areLike 0 = .ok (.aload_n 0, 1) := dk_42 (dk_at dksX7_areLike_0 0 rfl rfl)
theorem dX7_areLike_1 : decode cX7_areLike 1 = .ok (.getfield 48, 3) := dk_180 0 48 (dk_at dksX7_areLike_0 1 rfl rfl)
theorem dX7_areLike_4 : decode cX7_areLike 4 = .ok (.iload_n 1, 1) := dk_27 (dk_at dksX7_areLike_0 4 rfl rfl)
theorem dX7_areLike_5 : decode cX7_areLike 5 = .ok (.iaload, 1) := dk_46 (dk_at dksX7_areLike_0 5 rfl rfl)
theorem dX7_areLike_6 : decode cX7_areLike 6 = .ok (.aload_n 0, 1) := dk_42 (dk_at dksX7_areLike_0 6 rfl rfl)
theorem dX7_areLike_7 : decode cX7_areLike 7 = .ok (.getfield 48, 3) := dk_180 0 48 (dk_at dksX7_areLike_0 7 rfl rfl)
theorem dX7_areLike_10 : decode cX7_areLike 10 = .ok (.iload_n 2, 1) := dk_28 (dk_at dksX7_areLike_0 10 rfl rfl)
theorem dX7_areLike_11 : decode cX7_areLike 11 = .ok (.iaload, 1) := dk_46 (dk_at dksX7_areLike_0 11 rfl rfl)
theorem dX7_areLike_12 : decode cX7_areLike 12 = .ok (.if_icmp .ne 37, 3) := dk_160 0 37 (dk_at dksX7_areLike_0 12 rfl rfl)
theorem dX7_areLike_15 : decode cX7_areLike 15 = .ok (.aload_n 0, 1) := dk_42 (dk_at dksX7_areLike_0 15 rfl rfl)
theorem dX7_areLike_16 : decode cX7_areLike 16 = .ok (.getfield 57, 3) := dk_180 0 57 (dk_at dksX7_areLike_0 16 rfl rfl)
theorem dX7_areLike_19 : decode cX7_areLike 19 = .ok (.iload_n 1, 1) := dk_27 (dk_at dksX7_areLike_0 19 rfl rfl)
theorem dX7_areLike_20 : decode cX7_areLike 20 = .ok (.iaload, 1) := dk_46 (dk_at dksX7_areLike_0 20 rfl rfl)
theorem dX7_areLike_21 : decode cX7_areLike 21 = .ok (.aload_n 0, 1) := dk_42 (dk_at dksX7_areLike_0 21 rfl rfl)
theorem dX7_areLike_22 : decode cX7_areLike 22 = .ok (.getfield 57, 3) := dk_180 0 57 (dk_at dksX7_areLike_1 0 rfl rfl)
theorem dX7_areLike_25 : decode cX7_areLike 25 = .ok (.iload_n 2, 1) := dk_28 (dk_at dksX7_areLike_1 3 rfl rfl)
theorem dX7_areLike_26 : decode cX7_areLike 26 = .ok (.iaload, 1) := dk_46 (dk_at dksX7_areLike_1 4 rfl rfl)
theorem dX7_areLike_27 : decode cX7_areLike 27 = .ok (.if_icmp .ne 22, 3) := dk_160 0 22 (dk_at dksX7_areLike_1 5 rfl rfl)
theorem dX7_areLike_30 : decode cX7_areLike 30 = .ok (.aload_n 0, 1) := dk_42 (dk_at dksX7_areLike_1 8 rfl rfl)
theorem dX7_areLike_31 : decode cX7_areLike 31 = .ok (.getfield 60, 3) := dk_180 0 60 (dk_at dksX7_areLike_1 9 rfl rfl)
theorem dX7_areLike_34 : decode cX7_areLike 34 = .ok (.iload_n 1, 1) := dk_27 (dk_at dksX7_areLike_1 12 rfl rfl)
theorem dX7_areLike_35 : decode cX7_areLike 35 = .ok (.iaload, 1) := dk_46 (dk_at dksX7_areLike_1 13 rfl rfl)
theorem dX7_areLike_36 : decode cX7_areLike 36 = .ok (.aload_n 0, 1) := dk_42 (dk_at dksX7_areLike_1 14 rfl rfl)
theorem dX7_areLike_37 : decode cX7_areLike 37 = .ok (.getfield 60, 3) := dk_180 0 60 (dk_at dksX7_areLike_1 15 rfl rfl)
theorem dX7_areLike_40 : decode cX7_areLike 40 = .ok (.iload_n 2, 1) := dk_28 (dk_at dksX7_areLike_1 18 rfl rfl)
theorem dX7_areLike_41 : decode cX7_areLike 41 = .ok (.iaload, 1) := dk_46 (dk_at dksX7_areLike_1 19 rfl rfl)
theorem dX7_areLike_42 : decode cX7_areLike 42 = .ok (.if_icmp .ne 7, 3) := dk_160 0 7 (dk_at dksX7_areLike_1 20 rfl rfl)
theorem dX7_areLike_45 : decode cX7_areLike 45 = .ok (.iconst 1, 1) := dk_4 (dk_at dksX7_areLike_1 23 rfl rfl)
theorem dX7_areLike_46 : decode cX7_areLike 46 = .ok (.goto 4, 3) := dk_167 0 4 (dk_at dksX7_areLike_2 0 rfl rfl)
theorem dX7_areLike_49 : decode cX7_areLike 49 = .ok (.iconst 0, 1) := dk_3 (dk_at dksX7_areLike_2 3 rfl rfl)
theorem dX7_areLike_50 : decode cX7_areLike 50 = .ok (.istore_n 3, 1) := dk_62 (dk_at dksX7_areLike_2 4 rfl rfl)
theorem dX7_areLike_51 : decode cX7_areLike 51 = .ok (.iconst 0, 1) := dk_3 (dk_at dksX7_areLike_2 5 rfl rfl)
theorem dX7_areLike_52 : decode cX7_areLike 52 = .ok (.istore 4, 2) := dk_54 4 (dk_at dksX7_areLike_2 6 rfl rfl)
theorem dX7_areLike_54 : decode cX7_areLike 54 = .ok (.iload 4, 2) := dk_21 4 (dk_at dksX7_areLike_2 8 rfl rfl)
theorem dX7_areLike_56 : decode cX7_areLike 56 = .ok (.aload_n 0, 1) := dk_42 (dk_at dksX7_areLike_2 10 rfl rfl)
theorem dX7_areLike_57 : decode cX7_areLike 57 = .ok (.getfield 60, 3) := dk_180 0 60 (dk_at dksX7_areLike_2 11 rfl rfl)
theorem dX7_areLike_60 : decode cX7_areLike 60 = .ok (.iload_n 1, 1) := dk_27 (dk_at dksX7_areLike_2 14 rfl rfl)
theorem dX7_areLike_61 : decode cX7_areLike 61 = .ok (.iaload, 1) := dk_46 (dk_at dksX7_areLike_2 15 rfl rfl)
theorem dX7_areLike_62 : decode cX7_areLike 62 = .ok (.if_icmp .ge 44, 3) := dk_162 0 44 (dk_at dksX7_areLike_2 16 rfl rfl)
theorem dX7_areLike_65 : decode cX7_areLike 65 = .ok (.iload_n 3, 1) := dk_29 (dk_at dksX7_areLike_2 19 rfl rfl)
theorem dX7_areLike_66 : decode cX7_areLike 66 = .ok (.ifCond .eq 40, 3) := dk_153 0 40 (dk_at dksX7_areLike_2 20 rfl rfl)
theorem dX7_areLike_69 : decode cX7_areLike 69 = .ok (.aload_n 0, 1) := dk_42 (dk_at dksX7_areLike_2 23 rfl rfl)
theorem dX7_areLike_70 : decode cX7_areLike 70 = .ok (.getfield 63, 3) := dk_180 0 63 (dk_at dksX7_areLike_3 0 rfl rfl)
theorem dX7_areLike_73 : decode cX7_areLike 73 = .ok (.iconst 3, 1) := dk_6 (dk_at dksX7_areLike_3 3 rfl rfl)
theorem dX7_areLike_74 : decode cX7_areLike 74 = .ok (.iload_n 1, 1) := dk_27 (dk_at dksX7_areLike_3 4 rfl rfl)
theorem dX7_areLike_75 : decode cX7_areLike 75 = .ok (.imul, 1) := dk_104 (dk_at dksX7_areLike_3 5 rfl rfl)
theorem dX7_areLike_76 : decode cX7_areLike 76 = .ok (.iload 4, 2) := dk_21 4 (dk_at dksX7_areLike_3 6 rfl rfl)
theorem dX7_areLike_78 : decode cX7_areLike 78 = .ok (.iadd, 1) := dk_96 (dk_at dksX7_areLike_3 8 rfl rfl)
theorem dX7_areLike_79 : decode cX7_areLike 79 = .ok (.iaload, 1) := dk_46 (dk_at dksX7_areLike_3 9 rfl rfl)
theorem dX7_areLike_80 : decode cX7_areLike 80 = .ok (.aload_n 0, 1) := dk_42 (dk_at dksX7_areLike_3 10 rfl rfl)
theorem dX7_areLike_81 : decode cX7_areLike 81 = .ok (.getfield 63, 3) := dk_180 0 63 (dk_at dksX7_areLike_3 11 rfl rfl)
theorem dX7_areLike_84 : decode cX7_areLike 84 = .ok (.iconst 3, 1) := dk_6 (dk_at dksX7_areLike_3 14 rfl rfl)
theorem dX7_areLike_85 : decode cX7_areLike 85 = .ok (.iload_n 2, 1) := dk_28 (dk_at dksX7_areLike_3 15 rfl rfl)
theorem dX7_areLike_86 : decode cX7_areLike 86 = .ok (.imul, 1) := dk_104 (dk_at dksX7_areLike_3 16 rfl rfl)
theorem dX7_areLike_87 : decode cX7_areLike 87 = .ok (.iload 4, 2) := dk_21 4 (dk_at dksX7_areLike_3 17 rfl rfl)
theorem dX7_areLike_89 : decode cX7_areLike 89 = .ok (.iadd, 1) := dk_96 (dk_at dksX7_areLike_3 19 rfl rfl)
theorem dX7_areLike_90 : decode cX7_areLike 90 = .ok (.iaload, 1) := dk_46 (dk_at dksX7_areLike_3 20 rfl rfl)
theorem dX7_areLike_91 : decode cX7_areLike 91 = .ok (.if_icmp .ne 7, 3) := dk_160 0 7 (dk_at dksX7_areLike_3 21 rfl rfl)
theorem dX7_areLike_94 : decode cX7_areLike 94 = .ok (.iconst 1, 1) := dk_4 (dk_at dksX7_areLike_4 0 rfl rfl)
theorem dX7_areLike_95 : decode cX7_areLike 95 = .ok (.goto 4, 3) := dk_167 0 4 (dk_at dksX7_areLike_4 1 rfl rfl)
theorem dX7_areLike_98 : decode cX7_areLike 98 = .ok (.iconst 0, 1) := dk_3 (dk_at dksX7_areLike_4 4 rfl rfl)
theorem dX7_areLike_99 : decode cX7_areLike 99 = .ok (.istore_n 3, 1) := dk_62 (dk_at dksX7_areLike_4 5 rfl rfl)
theorem dX7_areLike_100 : decode cX7_areLike 100 = .ok (.iinc 4 1, 3) := dk_132 4 1 (dk_at dksX7_areLike_4 6 rfl rfl)
theorem dX7_areLike_103 : decode cX7_areLike 103 = .ok (.goto (-49), 3) := dk_167 255 207 (dk_at dksX7_areLike_4 9 rfl rfl)
theorem dX7_areLike_106 : decode cX7_areLike 106 = .ok (.iload_n 3, 1) := dk_29 (dk_at dksX7_areLike_4 12 rfl rfl)
theorem dX7_areLike_107 : decode cX7_areLike 107 = .ok (.ireturn, 1) := dk_172 (dk_at dksX7_areLike_4 13 rfl rfl)
abbrev cX7_has : ByteArray := prog_30_method_30_code
def yX7_has : MethodName := ⟨RX7, "has", "(II)Z"⟩
def dkwX7_has_0 : List UInt8 := [42, 180, 0, 51, 27, 46, 28, 126, 153, 0, 7, 4, 167, 0, 4, 3, 172]
abbrev dktX7_has_0 : List UInt8 := dkwX7_has_0 ++ []
theorem dksX7_has_0 : cX7_has.data.toList.drop 0 = dktX7_has_0 := by decide +kernel
theorem dX7_has_0 : decode cX7_has 0 = .ok (.aload_n 0, 1) := dk_42 (dk_at dksX7_has_0 0 rfl rfl)
theorem dX7_has_1 : decode cX7_has 1 = .ok (.getfield 51, 3) := dk_180 0 51 (dk_at dksX7_has_0 1 rfl rfl)
theorem dX7_has_4 : decode cX7_has 4 = .ok (.iload_n 1, 1) := dk_27 (dk_at dksX7_has_0 4 rfl rfl)
theorem dX7_has_5 : decode cX7_has 5 = .ok (.iaload, 1) := dk_46 (dk_at dksX7_has_0 5 rfl rfl)
theorem dX7_has_6 : decode cX7_has 6 = .ok (.iload_n 2, 1) := dk_28 (dk_at dksX7_has_0 6 rfl rfl)
theorem dX7_has_7 : decode cX7_has 7 = .ok (.iand, 1) := dk_126 (dk_at dksX7_has_0 7 rfl rfl)
theorem dX7_has_8 : decode cX7_has 8 = .ok (.ifCond .eq 7, 3) := dk_153 0 7 (dk_at dksX7_has_0 8 rfl rfl)
theorem dX7_has_11 : decode cX7_has 11 = .ok (.iconst 1, 1) := dk_4 (dk_at dksX7_has_0 11 rfl rfl)
theorem dX7_has_12 : decode cX7_has 12 = .ok (.goto 4, 3) := dk_167 0 4 (dk_at dksX7_has_0 12 rfl rfl)
theorem dX7_has_15 : decode cX7_has 15 = .ok (.iconst 0, 1) := dk_3 (dk_at dksX7_has_0 15 rfl rfl)
theorem dX7_has_16 : decode cX7_has 16 = .ok (.ireturn, 1) := dk_172 (dk_at dksX7_has_0 16 rfl rfl)
abbrev cX7_isPrivate : ByteArray := prog_30_method_32_code
def yX7_isPrivate : MethodName := ⟨RX7, "isPrivate", "(I)Z"⟩
def dkwX7_isPrivate_0 : List UInt8 := [42, 27, 182, 0, 188, 5, 160, 0, 7, 4, 167, 0, 4, 3, 172]
abbrev dktX7_isPrivate_0 : List UInt8 := dkwX7_isPrivate_0 ++ []
theorem dksX7_isPrivate_0 : cX7_isPrivate.data.toList.drop 0 = dktX7_isPrivate_0 := by decide +kernel
theorem dX7_isPrivate_0 : decode cX7_isPrivate 0 = .ok (.aload_n 0, 1) := dk_42 (dk_at dksX7_isPrivate_0 0 rfl rfl)
theorem dX7_isPrivate_1 : decode cX7_isPrivate 1 = .ok (.iload_n 1, 1) := dk_27 (dk_at dksX7_isPrivate_0 1 rfl rfl)
theorem dX7_isPrivate_2 : decode cX7_isPrivate 2 = .ok (.invokevirtual 188, 3) := dk_182 0 188 (dk_at dksX7_isPrivate_0 2 rfl rfl)
theorem dX7_isPrivate_5 : decode cX7_isPrivate 5 = .ok (.iconst 2, 1) := dk_5 (dk_at dksX7_isPrivate_0 5 rfl rfl)
theorem dX7_isPrivate_6 : decode cX7_isPrivate 6 = .ok (.if_icmp .ne 7, 3) := dk_160 0 7 (dk_at dksX7_isPrivate_0 6 rfl rfl)
theorem dX7_isPrivate_9 : decode cX7_isPrivate 9 = .ok (.iconst 1, 1) := dk_4 (dk_at dksX7_isPrivate_0 9 rfl rfl)
theorem dX7_isPrivate_10 : decode cX7_isPrivate 10 = .ok (.goto 4, 3) := dk_167 0 4 (dk_at dksX7_isPrivate_0 10 rfl rfl)
theorem dX7_isPrivate_13 : decode cX7_isPrivate 13 = .ok (.iconst 0, 1) := dk_3 (dk_at dksX7_isPrivate_0 13 rfl rfl)
theorem dX7_isPrivate_14 : decode cX7_isPrivate 14 = .ok (.ireturn, 1) := dk_172 (dk_at dksX7_isPrivate_0 14 rfl rfl)
abbrev cX7_who : ByteArray := prog_30_method_31_code
def yX7_who : MethodName := ⟨RX7, "who", "(I)I"⟩
def dkwX7_who_0 : List UInt8 := [42, 180, 0, 51, 27, 46, 6, 126, 172]
abbrev dktX7_who_0 : List UInt8 := dkwX7_who_0 ++ []
theorem dksX7_who_0 : cX7_who.data.toList.drop 0 = dktX7_who_0 := by decide +kernel
theorem dX7_who_0 : decode cX7_who 0 = .ok (.aload_n 0, 1) := dk_42 (dk_at dksX7_who_0 0 rfl rfl)
theorem dX7_who_1 : decode cX7_who 1 = .ok (.getfield 51, 3) := dk_180 0 51 (dk_at dksX7_who_0 1 rfl rfl)
theorem dX7_who_4 : decode cX7_who 4 = .ok (.iload_n 1, 1) := dk_27 (dk_at dksX7_who_0 4 rfl rfl)
theorem dX7_who_5 : decode cX7_who 5 = .ok (.iaload, 1) := dk_46 (dk_at dksX7_who_0 5 rfl rfl)
theorem dX7_who_6 : decode cX7_who 6 = .ok (.iconst 3, 1) := dk_6 (dk_at dksX7_who_0 6 rfl rfl)
theorem dX7_who_7 : decode cX7_who 7 = .ok (.iand, 1) := dk_126 (dk_at dksX7_who_0 7 rfl rfl)
theorem dX7_who_8 : decode cX7_who 8 = .ok (.ireturn, 1) := dk_172 (dk_at dksX7_who_0 8 rfl rfl)
abbrev cX7_findField : ByteArray := prog_30_method_46_code
def yX7_findField : MethodName := ⟨RX7, "findField", "(III)I"⟩
def dkwX7_findField_5 : List UInt8 := [3, 182, 0, 243, 167, 255, 185, 2, 172]
abbrev dktX7_findField_5 : List UInt8 := dkwX7_findField_5 ++ []
def dkwX7_findField_4 : List UInt8 := [21, 5, 182, 0, 188, 4, 160, 0, 6, 21, 5, 172, 42, 21, 4, 29, 5, 160, 0, 7, 4, 167, 0, 4]
abbrev dktX7_findField_4 : List UInt8 := dkwX7_findField_4 ++ dktX7_findField_5
def dkwX7_findField_3 : List UInt8 := [167, 255, 237, 42, 21, 4, 28, 182, 0, 205, 54, 5, 21, 5, 2, 159, 0, 21, 29, 5, 159, 0, 13, 42]
abbrev dktX7_findField_3 : List UInt8 := dkwX7_findField_3 ++ dktX7_findField_4
def dkwX7_findField_2 : List UInt8 := [27, 182, 0, 235, 42, 180, 0, 230, 158, 0, 70, 42, 182, 0, 239, 54, 4, 21, 4, 2, 160, 0, 6]
abbrev dktX7_findField_2 : List UInt8 := dkwX7_findField_2 ++ dktX7_findField_3
def dkwX7_findField_1 : List UInt8 := [20, 0, 233, 184, 0, 127, 154, 0, 6, 16, 254, 172, 29, 154, 0, 10, 42, 27, 28, 182, 0, 205, 172, 42]
abbrev dktX7_findField_1 : List UInt8 := dkwX7_findField_1 ++ dktX7_findField_2
def dkwX7_findField_0 : List UInt8 := [42, 27, 182, 0, 131, 153, 0, 27, 28, 133, 9, 20, 0, 201, 184, 0, 127, 153, 0, 15, 29, 133, 9]
abbrev dktX7_findField_0 : List UInt8 := dkwX7_findField_0 ++ dktX7_findField_1
theorem dksX7_findField_0 : cX7_findField.data.toList.drop 0 = dktX7_findField_0 := by decide +kernel
theorem dksX7_findField_1 : cX7_findField.data.toList.drop 23 = dktX7_findField_1 := dk_seg dksX7_findField_0 23 rfl rfl
theorem dksX7_findField_2 : cX7_findField.data.toList.drop 47 = dktX7_findField_2 := dk_seg dksX7_findField_1 24 rfl rfl
theorem dksX7_findField_3 : cX7_findField.data.toList.drop 70 = dktX7_findField_3 := dk_seg dksX7_findField_2 23 rfl rfl
theorem dksX7_findField_4 : cX7_findField.data.toList.drop 94 = dktX7_findField_4 := dk_seg dksX7_findField_3 24 rfl rfl
theorem dksX7_findField_5 : cX7_findField.data.toList.drop 118 = dktX7_findField_5 := dk_seg dksX7_findField_4 24 rfl rfl
theorem dX7_findField_0 : decode cX7_findField 0 = .ok (.aload_n 0, 1) := dk_42 (dk_at dksX7_findField_0 0 rfl rfl)
theorem dX7_findField_1 : decode cX7_findField 1 = .ok (.iload_n 1, 1) := dk_27 (dk_at dksX7_findField_0 1 rfl rfl)
theorem dX7_findField_2 : decode cX7_findField 2 = .ok (.invokevirtual 131, 3) := dk_182 0 131 (dk_at dksX7_findField_0 2 rfl rfl)
theorem dX7_findField_5 : decode cX7_findField 5 = .ok (.ifCond .eq 27, 3) := dk_153 0 27 (dk_at dksX7_findField_0 5 rfl rfl)
theorem dX7_findField_8 : decode cX7_findField 8 = .ok (.iload_n 2, 1) := dk_28 (dk_at dksX7_findField_0 8 rfl rfl)
theorem dX7_findField_9 : decode cX7_findField 9 = .ok (.i2l, 1) := dk_133 (dk_at dksX7_findField_0 9 rfl rfl)
theorem dX7_findField_10 : decode cX7_findField 10 = .ok (.lconst 0, 1) := dk_9 (dk_at dksX7_findField_0 10 rfl rfl)
theorem dX7_findField_11 : decode cX7_findField 11 = .ok (.ldc2_w 201, 3) := dk_20 0 201 (dk_at dksX7_findField_0 11 rfl rfl)
theorem dX7_findField_14 : decode cX7_findField 14 = .ok (.invokestatic 127, 3) := dk_184 0 127 (dk_at dksX7_findField_0 14 rfl rfl)
theorem dX7_findField_17 : decode cX7_findField 17 = .ok (.ifCond .eq 15, 3) := dk_153 0 15 (dk_at dksX7_findField_0 17 rfl rfl)
theorem dX7_findField_20 : decode cX7_findField 20 = .ok (.iload_n 3, 1) := dk_29 (dk_at dksX7_findField_0 20 rfl rfl)
theorem dX7_findField_21 : decode cX7_findField 21 = .ok (.i2l, 1) := dk_133 (dk_at dksX7_findField_0 21 rfl rfl)
theorem dX7_findField_22 : decode cX7_findField 22 = .ok (.lconst 0, 1) := dk_9 (dk_at dksX7_findField_0 22 rfl rfl)
theorem dX7_findField_23 : decode cX7_findField 23 = .ok (.ldc2_w 233, 3) := dk_20 0 233 (dk_at dksX7_findField_1 0 rfl rfl)
theorem dX7_findField_26 : decode cX7_findField 26 = .ok (.invokestatic 127, 3) := dk_184 0 127 (dk_at dksX7_findField_1 3 rfl rfl)
theorem dX7_findField_29 : decode cX7_findField 29 = .ok (.ifCond .ne 6, 3) := dk_154 0 6 (dk_at dksX7_findField_1 6 rfl rfl)
theorem dX7_findField_32 : decode cX7_findField 32 = .ok (.bipush (-2), 2) := dk_16 254 (dk_at dksX7_findField_1 9 rfl rfl)
theorem dX7_findField_34 : decode cX7_findField 34 = .ok (.ireturn, 1) := dk_172 (dk_at dksX7_findField_1 11 rfl rfl)
theorem dX7_findField_35 : decode cX7_findField 35 = .ok (.iload_n 3, 1) := dk_29 (dk_at dksX7_findField_1 12 rfl rfl)
theorem dX7_findField_36 : decode cX7_findField 36 = .ok (.ifCond .ne 10, 3) := dk_154 0 10 (dk_at dksX7_findField_1 13 rfl rfl)
theorem dX7_findField_39 : decode cX7_findField 39 = .ok (.aload_n 0, 1) := dk_42 (dk_at dksX7_findField_1 16 rfl rfl)
theorem dX7_findField_40 : decode cX7_findField 40 = .ok (.iload_n 1, 1) := dk_27 (dk_at dksX7_findField_1 17 rfl rfl)
theorem dX7_findField_41 : decode cX7_findField 41 = .ok (.iload_n 2, 1) := dk_28 (dk_at dksX7_findField_1 18 rfl rfl)
theorem dX7_findField_42 : decode cX7_findField 42 = .ok (.invokevirtual 205, 3) := dk_182 0 205 (dk_at dksX7_findField_1 19 rfl rfl)
theorem dX7_findField_45 : decode cX7_findField 45 = .ok (.ireturn, 1) := dk_172 (dk_at dksX7_findField_1 22 rfl rfl)
theorem dX7_findField_46 : decode cX7_findField 46 = .ok (.aload_n 0, 1) := dk_42 (dk_at dksX7_findField_1 23 rfl rfl)
theorem dX7_findField_47 : decode cX7_findField 47 = .ok (.iload_n 1, 1) := dk_27 (dk_at dksX7_findField_2 0 rfl rfl)
theorem dX7_findField_48 : decode cX7_findField 48 = .ok (.invokevirtual 235, 3) := dk_182 0 235 (dk_at dksX7_findField_2 1 rfl rfl)
theorem dX7_findField_51 : decode cX7_findField 51 = .ok (.aload_n 0, 1) := dk_42 (dk_at dksX7_findField_2 4 rfl rfl)
theorem dX7_findField_52 : decode cX7_findField 52 = .ok (.getfield 230, 3) := dk_180 0 230 (dk_at dksX7_findField_2 5 rfl rfl)
theorem dX7_findField_55 : decode cX7_findField 55 = .ok (.ifCond .le 70, 3) := dk_158 0 70 (dk_at dksX7_findField_2 8 rfl rfl)
theorem dX7_findField_58 : decode cX7_findField 58 = .ok (.aload_n 0, 1) := dk_42 (dk_at dksX7_findField_2 11 rfl rfl)
theorem dX7_findField_59 : decode cX7_findField 59 = .ok (.invokevirtual 239, 3) := dk_182 0 239 (dk_at dksX7_findField_2 12 rfl rfl)
theorem dX7_findField_62 : decode cX7_findField 62 = .ok (.istore 4, 2) := dk_54 4 (dk_at dksX7_findField_2 15 rfl rfl)
theorem dX7_findField_64 : decode cX7_findField 64 = .ok (.iload 4, 2) := dk_21 4 (dk_at dksX7_findField_2 17 rfl rfl)
theorem dX7_findField_66 : decode cX7_findField 66 = .ok (.iconst (-1), 1) := dk_2 (dk_at dksX7_findField_2 19 rfl rfl)
theorem dX7_findField_67 : decode cX7_findField 67 = .ok (.if_icmp .ne 6, 3) := dk_160 0 6 (dk_at dksX7_findField_2 20 rfl rfl)
theorem dX7_findField_70 : decode cX7_findField 70 = .ok (.goto (-19), 3) := dk_167 255 237 (dk_at dksX7_findField_3 0 rfl rfl)
theorem dX7_findField_73 : decode cX7_findField 73 = .ok (.aload_n 0, 1) := dk_42 (dk_at dksX7_findField_3 3 rfl rfl)
theorem dX7_findField_74 : decode cX7_findField 74 = .ok (.iload 4, 2) := dk_21 4 (dk_at dksX7_findField_3 4 rfl rfl)
theorem dX7_findField_76 : decode cX7_findField 76 = .ok (.iload_n 2, 1) := dk_28 (dk_at dksX7_findField_3 6 rfl rfl)
theorem dX7_findField_77 : decode cX7_findField 77 = .ok (.invokevirtual 205, 3) := dk_182 0 205 (dk_at dksX7_findField_3 7 rfl rfl)
theorem dX7_findField_80 : decode cX7_findField 80 = .ok (.istore 5, 2) := dk_54 5 (dk_at dksX7_findField_3 10 rfl rfl)
theorem dX7_findField_82 : decode cX7_findField 82 = .ok (.iload 5, 2) := dk_21 5 (dk_at dksX7_findField_3 12 rfl rfl)
theorem dX7_findField_84 : decode cX7_findField 84 = .ok (.iconst (-1), 1) := dk_2 (dk_at dksX7_findField_3 14 rfl rfl)
theorem dX7_findField_85 : decode cX7_findField 85 = .ok (.if_icmp .eq 21, 3) := dk_159 0 21 (dk_at dksX7_findField_3 15 rfl rfl)
theorem dX7_findField_88 : decode cX7_findField 88 = .ok (.iload_n 3, 1) := dk_29 (dk_at dksX7_findField_3 18 rfl rfl)
theorem dX7_findField_89 : decode cX7_findField 89 = .ok (.iconst 2, 1) := dk_5 (dk_at dksX7_findField_3 19 rfl rfl)
theorem dX7_findField_90 : decode cX7_findField 90 = .ok (.if_icmp .eq 13, 3) := dk_159 0 13 (dk_at dksX7_findField_3 20 rfl rfl)
theorem dX7_findField_93 : decode cX7_findField 93 = .ok (.aload_n 0, 1) := dk_42 (dk_at dksX7_findField_3 23 rfl rfl)
theorem dX7_findField_94 : decode cX7_findField 94 = .ok (.iload 5, 2) := dk_21 5 (dk_at dksX7_findField_4 0 rfl rfl)
theorem dX7_findField_96 : decode cX7_findField 96 = .ok (.invokevirtual 188, 3) := dk_182 0 188 (dk_at dksX7_findField_4 2 rfl rfl)
theorem dX7_findField_99 : decode cX7_findField 99 = .ok (.iconst 1, 1) := dk_4 (dk_at dksX7_findField_4 5 rfl rfl)
theorem dX7_findField_100 : decode cX7_findField 100 = .ok (.if_icmp .ne 6, 3) := dk_160 0 6 (dk_at dksX7_findField_4 6 rfl rfl)
theorem dX7_findField_103 : decode cX7_findField 103 = .ok (.iload 5, 2) := dk_21 5 (dk_at dksX7_findField_4 9 rfl rfl)
theorem dX7_findField_105 : decode cX7_findField 105 = .ok (.ireturn, 1) := dk_172 (dk_at dksX7_findField_4 11 rfl rfl)
theorem dX7_findField_106 : decode cX7_findField 106 = .ok (.aload_n 0, 1) := dk_42 (dk_at dksX7_findField_4 12 rfl rfl)
theorem dX7_findField_107 : decode cX7_findField 107 = .ok (.iload 4, 2) := dk_21 4 (dk_at dksX7_findField_4 13 rfl rfl)
theorem dX7_findField_109 : decode cX7_findField 109 = .ok (.iload_n 3, 1) := dk_29 (dk_at dksX7_findField_4 15 rfl rfl)
theorem dX7_findField_110 : decode cX7_findField 110 = .ok (.iconst 2, 1) := dk_5 (dk_at dksX7_findField_4 16 rfl rfl)
theorem dX7_findField_111 : decode cX7_findField 111 = .ok (.if_icmp .ne 7, 3) := dk_160 0 7 (dk_at dksX7_findField_4 17 rfl rfl)
theorem dX7_findField_114 : decode cX7_findField 114 = .ok (.iconst 1, 1) := dk_4 (dk_at dksX7_findField_4 20 rfl rfl)
theorem dX7_findField_115 : decode cX7_findField 115 = .ok (.goto 4, 3) := dk_167 0 4 (dk_at dksX7_findField_4 21 rfl rfl)
theorem dX7_findField_118 : decode cX7_findField 118 = .ok (.iconst 0, 1) := dk_3 (dk_at dksX7_findField_5 0 rfl rfl)
theorem dX7_findField_119 : decode cX7_findField 119 = .ok (.invokevirtual 243, 3) := dk_182 0 243 (dk_at dksX7_findField_5 1 rfl rfl)
theorem dX7_findField_122 : decode cX7_findField 122 = .ok (.goto (-71), 3) := dk_167 255 185 (dk_at dksX7_findField_5 4 rfl rfl)
theorem dX7_findField_125 : decode cX7_findField 125 = .ok (.iconst (-1), 1) := dk_2 (dk_at dksX7_findField_5 7 rfl rfl)
theorem dX7_findField_126 : decode cX7_findField 126 = .ok (.ireturn, 1) := dk_172 (dk_at dksX7_findField_5 8 rfl rfl)
abbrev cX7_beginAt : ByteArray := prog_30_method_43_code
def yX7_beginAt : MethodName := ⟨RX7, "beginAt", "(I)V"⟩
def dkwX7_beginAt_1 : List UInt8 := [180, 0, 109, 3, 27, 79, 42, 4, 181, 0, 230, 177]
abbrev dktX7_beginAt_1 : List UInt8 := dkwX7_beginAt_1 ++ []
def dkwX7_beginAt_0 : List UInt8 := [3, 61, 28, 16, 60, 162, 0, 16, 42, 180, 0, 112, 28, 3, 84, 132, 2, 1, 167, 255, 240, 42]
abbrev dktX7_beginAt_0 : List UInt8 := dkwX7_beginAt_0 ++ dktX7_beginAt_1
theorem dksX7_beginAt_0 : cX7_beginAt.data.toList.drop 0 = dktX7_beginAt_0 := by decide +kernel
theorem dksX7_beginAt_1 : cX7_beginAt.data.toList.drop 22 = dktX7_beginAt_1 := dk_seg dksX7_beginAt_0 22 rfl rfl
theorem dX7_beginAt_0 : decode cX7_beginAt 0 = .ok (.iconst 0, 1) := dk_3 (dk_at dksX7_beginAt_0 0 rfl rfl)
theorem dX7_beginAt_1 : decode cX7_beginAt 1 = .ok (.istore_n 2, 1) := dk_61 (dk_at dksX7_beginAt_0 1 rfl rfl)
theorem dX7_beginAt_2 : decode cX7_beginAt 2 = .ok (.iload_n 2, 1) := dk_28 (dk_at dksX7_beginAt_0 2 rfl rfl)
theorem dX7_beginAt_3 : decode cX7_beginAt 3 = .ok (.bipush 60, 2) := dk_16 60 (dk_at dksX7_beginAt_0 3 rfl rfl)
theorem dX7_beginAt_5 : decode cX7_beginAt 5 = .ok (.if_icmp .ge 16, 3) := dk_162 0 16 (dk_at dksX7_beginAt_0 5 rfl rfl)
theorem dX7_beginAt_8 : decode cX7_beginAt 8 = .ok (.aload_n 0, 1) := dk_42 (dk_at dksX7_beginAt_0 8 rfl rfl)
theorem dX7_beginAt_9 : decode cX7_beginAt 9 = .ok (.getfield 112, 3) := dk_180 0 112 (dk_at dksX7_beginAt_0 9 rfl rfl)
theorem dX7_beginAt_12 : decode cX7_beginAt 12 = .ok (.iload_n 2, 1) := dk_28 (dk_at dksX7_beginAt_0 12 rfl rfl)
theorem dX7_beginAt_13 : decode cX7_beginAt 13 = .ok (.iconst 0, 1) := dk_3 (dk_at dksX7_beginAt_0 13 rfl rfl)
theorem dX7_beginAt_14 : decode cX7_beginAt 14 = .ok (.bastore, 1) := dk_84 (dk_at dksX7_beginAt_0 14 rfl rfl)
theorem dX7_beginAt_15 : decode cX7_beginAt 15 = .ok (.iinc 2 1, 3) := dk_132 2 1 (dk_at dksX7_beginAt_0 15 rfl rfl)
theorem dX7_beginAt_18 : decode cX7_beginAt 18 = .ok (.goto (-16), 3) := dk_167 255 240 (dk_at dksX7_beginAt_0 18 rfl rfl)
theorem dX7_beginAt_21 : decode cX7_beginAt 21 = .ok (.aload_n 0, 1) := dk_42 (dk_at dksX7_beginAt_0 21 rfl rfl)
theorem dX7_beginAt_22 : decode cX7_beginAt 22 = .ok (.getfield 109, 3) := dk_180 0 109 (dk_at dksX7_beginAt_1 0 rfl rfl)
theorem dX7_beginAt_25 : decode cX7_beginAt 25 = .ok (.iconst 0, 1) := dk_3 (dk_at dksX7_beginAt_1 3 rfl rfl)
theorem dX7_beginAt_26 : decode cX7_beginAt 26 = .ok (.iload_n 1, 1) := dk_27 (dk_at dksX7_beginAt_1 4 rfl rfl)
theorem dX7_beginAt_27 : decode cX7_beginAt 27 = .ok (.iastore, 1) := dk_79 (dk_at dksX7_beginAt_1 5 rfl rfl)
theorem dX7_beginAt_28 : decode cX7_beginAt 28 = .ok (.aload_n 0, 1) := dk_42 (dk_at dksX7_beginAt_1 6 rfl rfl)
theorem dX7_beginAt_29 : decode cX7_beginAt 29 = .ok (.iconst 1, 1) := dk_4 (dk_at dksX7_beginAt_1 7 rfl rfl)
theorem dX7_beginAt_30 : decode cX7_beginAt 30 = .ok (.putfield 230, 3) := dk_181 0 230 (dk_at dksX7_beginAt_1 8 rfl rfl)
theorem dX7_beginAt_33 : decode cX7_beginAt 33 = .ok (.return_, 1) := dk_177 (dk_at dksX7_beginAt_1 11 rfl rfl)
abbrev cX7_nextType : ByteArray := prog_30_method_44_code
def yX7_nextType : MethodName := ⟨RX7, "nextType", "()I"⟩
def dkwX7_nextType_1 : List UInt8 := [27, 51, 61, 42, 180, 0, 112, 27, 4, 84, 28, 153, 0, 7, 2, 167, 0, 4, 27, 172]
abbrev dktX7_nextType_1 : List UInt8 := dkwX7_nextType_1 ++ []
def dkwX7_nextType_0 : List UInt8 := [42, 89, 180, 0, 230, 4, 100, 181, 0, 230, 42, 180, 0, 109, 42, 180, 0, 230, 46, 60, 42, 180, 0, 112]
abbrev dktX7_nextType_0 : List UInt8 := dkwX7_nextType_0 ++ dktX7_nextType_1
theorem dksX7_nextType_0 : cX7_nextType.data.toList.drop 0 = dktX7_nextType_0 := by decide +kernel
theorem dksX7_nextType_1 : cX7_nextType.data.toList.drop 24 = dktX7_nextType_1 := dk_seg dksX7_nextType_0 24 rfl rfl
theorem dX7_nextType_0 : decode cX7_nextType 0 = .ok (.aload_n 0, 1) := dk_42 (dk_at dksX7_nextType_0 0 rfl rfl)
theorem dX7_nextType_1 : decode cX7_nextType 1 = .ok (.dup, 1) := dk_89 (dk_at dksX7_nextType_0 1 rfl rfl)
theorem dX7_nextType_2 : decode cX7_nextType 2 = .ok (.getfield 230, 3) := dk_180 0 230 (dk_at dksX7_nextType_0 2 rfl rfl)
theorem dX7_nextType_5 : decode cX7_nextType 5 = .ok (.iconst 1, 1) := dk_4 (dk_at dksX7_nextType_0 5 rfl rfl)
theorem dX7_nextType_6 : decode cX7_nextType 6 = .ok (.isub, 1) := dk_100 (dk_at dksX7_nextType_0 6 rfl rfl)
theorem dX7_nextType_7 : decode cX7_nextType 7 = .ok (.putfield 230, 3) := dk_181 0 230 (dk_at dksX7_nextType_0 7 rfl rfl)
theorem dX7_nextType_10 : decode cX7_nextType 10 = .ok (.aload_n 0, 1) := dk_42 (dk_at dksX7_nextType_0 10 rfl rfl)
theorem dX7_nextType_11 : decode cX7_nextType 11 = .ok (.getfield 109, 3) := dk_180 0 109 (dk_at dksX7_nextType_0 11 rfl rfl)
theorem dX7_nextType_14 : decode cX7_nextType 14 = .ok (.aload_n 0, 1) := dk_42 (dk_at dksX7_nextType_0 14 rfl rfl)
theorem dX7_nextType_15 : decode cX7_nextType 15 = .ok (.getfield 230, 3) := dk_180 0 230 (dk_at dksX7_nextType_0 15 rfl rfl)
theorem dX7_nextType_18 : decode cX7_nextType 18 = .ok (.iaload, 1) := dk_46 (dk_at dksX7_nextType_0 18 rfl rfl)
theorem dX7_nextType_19 : decode cX7_nextType 19 = .ok (.istore_n 1, 1) := dk_60 (dk_at dksX7_nextType_0 19 rfl rfl)
theorem dX7_nextType_20 : decode cX7_nextType 20 = .ok (.aload_n 0, 1) := dk_42 (dk_at dksX7_nextType_0 20 rfl rfl)
theorem dX7_nextType_21 : decode cX7_nextType 21 = .ok (.getfield 112, 3) := dk_180 0 112 (dk_at dksX7_nextType_0 21 rfl rfl)
theorem dX7_nextType_24 : decode cX7_nextType 24 = .ok (.iload_n 1, 1) := dk_27 (dk_at dksX7_nextType_1 0 rfl rfl)
theorem dX7_nextType_25 : decode cX7_nextType 25 = .ok (.baload, 1) := dk_51 (dk_at dksX7_nextType_1 1 rfl rfl)
theorem dX7_nextType_26 : decode cX7_nextType 26 = .ok (.istore_n 2, 1) := dk_61 (dk_at dksX7_nextType_1 2 rfl rfl)
theorem dX7_nextType_27 : decode cX7_nextType 27 = .ok (.aload_n 0, 1) := dk_42 (dk_at dksX7_nextType_1 3 rfl rfl)
theorem dX7_nextType_28 : decode cX7_nextType 28 = .ok (.getfield 112, 3) := dk_180 0 112 (dk_at dksX7_nextType_1 4 rfl rfl)
theorem dX7_nextType_31 : decode cX7_nextType 31 = .ok (.iload_n 1, 1) := dk_27 (dk_at dksX7_nextType_1 7 rfl rfl)
theorem dX7_nextType_32 : decode cX7_nextType 32 = .ok (.iconst 1, 1) := dk_4 (dk_at dksX7_nextType_1 8 rfl rfl)
theorem dX7_nextType_33 : decode cX7_nextType 33 = .ok (.bastore, 1) := dk_84 (dk_at dksX7_nextType_1 9 rfl rfl)
theorem dX7_nextType_34 : decode cX7_nextType 34 = .ok (.iload_n 2, 1) := dk_28 (dk_at dksX7_nextType_1 10 rfl rfl)
theorem dX7_nextType_35 : decode cX7_nextType 35 = .ok (.ifCond .eq 7, 3) := dk_153 0 7 (dk_at dksX7_nextType_1 11 rfl rfl)
theorem dX7_nextType_38 : decode cX7_nextType 38 = .ok (.iconst (-1), 1) := dk_2 (dk_at dksX7_nextType_1 14 rfl rfl)
theorem dX7_nextType_39 : decode cX7_nextType 39 = .ok (.goto 4, 3) := dk_167 0 4 (dk_at dksX7_nextType_1 15 rfl rfl)
theorem dX7_nextType_42 : decode cX7_nextType 42 = .ok (.iload_n 1, 1) := dk_27 (dk_at dksX7_nextType_1 18 rfl rfl)
theorem dX7_nextType_43 : decode cX7_nextType 43 = .ok (.ireturn, 1) := dk_172 (dk_at dksX7_nextType_1 19 rfl rfl)
abbrev cX7_layAhead : ByteArray := prog_30_method_45_code
def yX7_layAhead : MethodName := ⟨RX7, "layAhead", "(IZ)V"⟩
def dkwX7_layAhead_5 : List UInt8 := [180, 0, 230, 42, 180, 0, 17, 27, 46, 79, 42, 89, 180, 0, 230, 4, 96, 181, 0, 230, 177]
abbrev dktX7_layAhead_5 : List UInt8 := dkwX7_layAhead_5 ++ []
def dkwX7_layAhead_4 : List UInt8 := [181, 0, 230, 132, 4, 255, 167, 255, 218, 29, 153, 0, 32, 28, 153, 0, 28, 42, 180, 0, 109, 42]
abbrev dktX7_layAhead_4 : List UInt8 := dkwX7_layAhead_4 ++ dktX7_layAhead_5
def dkwX7_layAhead_3 : List UInt8 := [180, 0, 230, 42, 180, 0, 32, 6, 27, 104, 21, 4, 96, 46, 79, 42, 89, 180, 0, 230, 4, 96]
abbrev dktX7_layAhead_3 : List UInt8 := dkwX7_layAhead_3 ++ dktX7_layAhead_4
def dkwX7_layAhead_2 : List UInt8 := [181, 0, 230, 42, 180, 0, 29, 27, 46, 4, 100, 54, 4, 21, 4, 155, 0, 39, 42, 180, 0, 109, 42]
abbrev dktX7_layAhead_2 : List UInt8 := dkwX7_layAhead_2 ++ dktX7_layAhead_3
def dkwX7_layAhead_1 : List UInt8 := [42, 180, 0, 109, 42, 180, 0, 230, 42, 180, 0, 17, 27, 46, 79, 42, 89, 180, 0, 230, 4, 96]
abbrev dktX7_layAhead_1 : List UInt8 := dkwX7_layAhead_1 ++ dktX7_layAhead_2
def dkwX7_layAhead_0 : List UInt8 := [42, 180, 0, 17, 27, 46, 2, 159, 0, 7, 4, 167, 0, 4, 3, 62, 29, 153, 0, 32, 28, 154, 0, 28]
abbrev dktX7_layAhead_0 : List UInt8 := dkwX7_layAhead_0 ++ dktX7_layAhead_1
theorem dksX7_layAhead_0 : cX7_layAhead.data.toList.drop 0 = dktX7_layAhead_0 := by decide +kernel
theorem dksX7_layAhead_1 : cX7_layAhead.data.toList.drop 24 = dktX7_layAhead_1 := dk_seg dksX7_layAhead_0 24 rfl rfl
theorem dksX7_layAhead_2 : cX7_layAhead.data.toList.drop 46 = dktX7_layAhead_2 := dk_seg dksX7_layAhead_1 22 rfl rfl
theorem dksX7_layAhead_3 : cX7_layAhead.data.toList.drop 69 = dktX7_layAhead_3 := dk_seg dksX7_layAhead_2 23 rfl rfl
theorem dksX7_layAhead_4 : cX7_layAhead.data.toList.drop 91 = dktX7_layAhead_4 := dk_seg dksX7_layAhead_3 22 rfl rfl
theorem dksX7_layAhead_5 : cX7_layAhead.data.toList.drop 113 = dktX7_layAhead_5 := dk_seg dksX7_layAhead_4 22 rfl rfl
theorem dX7_layAhead_0 : decode cX7_layAhead 0 = .ok (.aload_n 0, 1) := dk_42 (dk_at dksX7_layAhead_0 0 rfl rfl)
theorem dX7_layAhead_1 : decode cX7_layAhead 1 = .ok (.getfield 17, 3) := dk_180 0 17 (dk_at dksX7_layAhead_0 1 rfl rfl)
theorem dX7_layAhead_4 : decode cX7_layAhead 4 = .ok (.iload_n 1, 1) := dk_27 (dk_at dksX7_layAhead_0 4 rfl rfl)
theorem dX7_layAhead_5 : decode cX7_layAhead 5 = .ok (.iaload, 1) := dk_46 (dk_at dksX7_layAhead_0 5 rfl rfl)
theorem dX7_layAhead_6 : decode cX7_layAhead 6 = .ok (.iconst (-1), 1) := dk_2 (dk_at dksX7_layAhead_0 6 rfl rfl)
theorem dX7_layAhead_7 : decode cX7_layAhead 7 = .ok (.if_icmp .eq 7, 3) := dk_159 0 7 (dk_at dksX7_layAhead_0 7 rfl rfl)
theorem dX7_layAhead_10 : decode cX7_layAhead 10 = .ok (.iconst 1, 1) := dk_4 (dk_at dksX7_layAhead_0 10 rfl rfl)
theorem dX7_layAhead_11 : decode cX7_layAhead 11 = .ok (.goto 4, 3) := dk_167 0 4 (dk_at dksX7_layAhead_0 11 rfl rfl)
theorem dX7_layAhead_14 : decode cX7_layAhead 14 = .ok (.iconst 0, 1) := dk_3 (dk_at dksX7_layAhead_0 14 rfl rfl)
theorem dX7_layAhead_15 : decode cX7_layAhead 15 = .ok (.istore_n 3, 1) := dk_62 (dk_at dksX7_layAhead_0 15 rfl rfl)
theorem dX7_layAhead_16 : decode cX7_layAhead 16 = .ok (.iload_n 3, 1) := dk_29 (dk_at dksX7_layAhead_0 16 rfl rfl)
theorem dX7_layAhead_17 : decode cX7_layAhead 17 = .ok (.ifCond .eq 32, 3) := dk_153 0 32 (dk_at dksX7_layAhead_0 17 rfl rfl)
theorem dX7_layAhead_20 : decode cX7_layAhead 20 = .ok (.iload_n 2, 1) := dk_28 (dk_at dksX7_layAhead_0 20 rfl rfl)
theorem dX7_layAhead_21 : decode cX7_layAhead 21 = .ok (.ifCond .ne 28, 3) := dk_154 0 28 (dk_at dksX7_layAhead_0 21 rfl rfl)
theorem dX7_layAhead_24 : decode cX7_layAhead 24 = .ok (.aload_n 0, 1) := dk_42 (dk_at dksX7_layAhead_1 0 rfl rfl)
theorem dX7_layAhead_25 : decode cX7_layAhead 25 = .ok (.getfield 109, 3) := dk_180 0 109 (dk_at dksX7_layAhead_1 1 rfl rfl)
theorem dX7_layAhead_28 : decode cX7_layAhead 28 = .ok (.aload_n 0, 1) := dk_42 (dk_at dksX7_layAhead_1 4 rfl rfl)
theorem dX7_layAhead_29 : decode cX7_layAhead 29 = .ok (.getfield 230, 3) := dk_180 0 230 (dk_at dksX7_layAhead_1 5 rfl rfl)
theorem dX7_layAhead_32 : decode cX7_layAhead 32 = .ok (.aload_n 0, 1) := dk_42 (dk_at dksX7_layAhead_1 8 rfl rfl)
theorem dX7_layAhead_33 : decode cX7_layAhead 33 = .ok (.getfield 17, 3) := dk_180 0 17 (dk_at dksX7_layAhead_1 9 rfl rfl)
theorem dX7_layAhead_36 : decode cX7_layAhead 36 = .ok (.iload_n 1, 1) := dk_27 (dk_at dksX7_layAhead_1 12 rfl rfl)
theorem dX7_layAhead_37 : decode cX7_layAhead 37 = .ok (.iaload, 1) := dk_46 (dk_at dksX7_layAhead_1 13 rfl rfl)
theorem dX7_layAhead_38 : decode cX7_layAhead 38 = .ok (.iastore, 1) := dk_79 (dk_at dksX7_layAhead_1 14 rfl rfl)
theorem dX7_layAhead_39 : decode cX7_layAhead 39 = .ok (.aload_n 0, 1) := dk_42 (dk_at dksX7_layAhead_1 15 rfl rfl)
theorem dX7_layAhead_40 : decode cX7_layAhead 40 = .ok (.dup, 1) := dk_89 (dk_at dksX7_layAhead_1 16 rfl rfl)
theorem dX7_layAhead_41 : decode cX7_layAhead 41 = .ok (.getfield 230, 3) := dk_180 0 230 (dk_at dksX7_layAhead_1 17 rfl rfl)
theorem dX7_layAhead_44 : decode cX7_layAhead 44 = .ok (.iconst 1, 1) := dk_4 (dk_at dksX7_layAhead_1 20 rfl rfl)
theorem dX7_layAhead_45 : decode cX7_layAhead 45 = .ok (.iadd, 1) := dk_96 (dk_at dksX7_layAhead_1 21 rfl rfl)
theorem dX7_layAhead_46 : decode cX7_layAhead 46 = .ok (.putfield 230, 3) := dk_181 0 230 (dk_at dksX7_layAhead_2 0 rfl rfl)
theorem dX7_layAhead_49 : decode cX7_layAhead 49 = .ok (.aload_n 0, 1) := dk_42 (dk_at dksX7_layAhead_2 3 rfl rfl)
theorem dX7_layAhead_50 : decode cX7_layAhead 50 = .ok (.getfield 29, 3) := dk_180 0 29 (dk_at dksX7_layAhead_2 4 rfl rfl)
theorem dX7_layAhead_53 : decode cX7_layAhead 53 = .ok (.iload_n 1, 1) := dk_27 (dk_at dksX7_layAhead_2 7 rfl rfl)
theorem dX7_layAhead_54 : decode cX7_layAhead 54 = .ok (.iaload, 1) := dk_46 (dk_at dksX7_layAhead_2 8 rfl rfl)
theorem dX7_layAhead_55 : decode cX7_layAhead 55 = .ok (.iconst 1, 1) := dk_4 (dk_at dksX7_layAhead_2 9 rfl rfl)
theorem dX7_layAhead_56 : decode cX7_layAhead 56 = .ok (.isub, 1) := dk_100 (dk_at dksX7_layAhead_2 10 rfl rfl)
theorem dX7_layAhead_57 : decode cX7_layAhead 57 = .ok (.istore 4, 2) := dk_54 4 (dk_at dksX7_layAhead_2 11 rfl rfl)
theorem dX7_layAhead_59 : decode cX7_layAhead 59 = .ok (.iload 4, 2) := dk_21 4 (dk_at dksX7_layAhead_2 13 rfl rfl)
theorem dX7_layAhead_61 : decode cX7_layAhead 61 = .ok (.ifCond .lt 39, 3) := dk_155 0 39 (dk_at dksX7_layAhead_2 15 rfl rfl)
theorem dX7_layAhead_64 : decode cX7_layAhead 64 = .ok (.aload_n 0, 1) := dk_42 (dk_at dksX7_layAhead_2 18 rfl rfl)
theorem dX7_layAhead_65 : decode cX7_layAhead 65 = .ok (.getfield 109, 3) := dk_180 0 109 (dk_at dksX7_layAhead_2 19 rfl rfl)
theorem dX7_layAhead_68 : decode cX7_layAhead 68 = .ok (.aload_n 0, 1) := dk_42 (dk_at dksX7_layAhead_2 22 rfl rfl)
theorem dX7_layAhead_69 : decode cX7_layAhead 69 = .ok (.getfield 230, 3) := dk_180 0 230 (dk_at dksX7_layAhead_3 0 rfl rfl)
theorem dX7_layAhead_72 : decode cX7_layAhead 72 = .ok (.aload_n 0, 1) := dk_42 (dk_at dksX7_layAhead_3 3 rfl rfl)
theorem dX7_layAhead_73 : decode cX7_layAhead 73 = .ok (.getfield 32, 3) := dk_180 0 32 (dk_at dksX7_layAhead_3 4 rfl rfl)
theorem dX7_layAhead_76 : decode cX7_layAhead 76 = .ok (.iconst 3, 1) := dk_6 (dk_at dksX7_layAhead_3 7 rfl rfl)
theorem dX7_layAhead_77 : decode cX7_layAhead 77 = .ok (.iload_n 1, 1) := dk_27 (dk_at dksX7_layAhead_3 8 rfl rfl)
theorem dX7_layAhead_78 : decode cX7_layAhead 78 = .ok (.imul, 1) := dk_104 (dk_at dksX7_layAhead_3 9 rfl rfl)
theorem dX7_layAhead_79 : decode cX7_layAhead 79 = .ok (.iload 4, 2) := dk_21 4 (dk_at dksX7_layAhead_3 10 rfl rfl)
theorem dX7_layAhead_81 : decode cX7_layAhead 81 = .ok (.iadd, 1) := dk_96 (dk_at dksX7_layAhead_3 12 rfl rfl)
theorem dX7_layAhead_82 : decode cX7_layAhead 82 = .ok (.iaload, 1) := dk_46 (dk_at dksX7_layAhead_3 13 rfl rfl)
theorem dX7_layAhead_83 : decode cX7_layAhead 83 = .ok (.iastore, 1) := dk_79 (dk_at dksX7_layAhead_3 14 rfl rfl)
theorem dX7_layAhead_84 : decode cX7_layAhead 84 = .ok (.aload_n 0, 1) := dk_42 (dk_at dksX7_layAhead_3 15 rfl rfl)
theorem dX7_layAhead_85 : decode cX7_layAhead 85 = .ok (.dup, 1) := dk_89 (dk_at dksX7_layAhead_3 16 rfl rfl)
theorem dX7_layAhead_86 : decode cX7_layAhead 86 = .ok (.getfield 230, 3) := dk_180 0 230 (dk_at dksX7_layAhead_3 17 rfl rfl)
theorem dX7_layAhead_89 : decode cX7_layAhead 89 = .ok (.iconst 1, 1) := dk_4 (dk_at dksX7_layAhead_3 20 rfl rfl)
theorem dX7_layAhead_90 : decode cX7_layAhead 90 = .ok (.iadd, 1) := dk_96 (dk_at dksX7_layAhead_3 21 rfl rfl)
theorem dX7_layAhead_91 : decode cX7_layAhead 91 = .ok (.putfield 230, 3) := dk_181 0 230 (dk_at dksX7_layAhead_4 0 rfl rfl)
theorem dX7_layAhead_94 : decode cX7_layAhead 94 = .ok (.iinc 4 (-1), 3) := dk_132 4 255 (dk_at dksX7_layAhead_4 3 rfl rfl)
theorem dX7_layAhead_97 : decode cX7_layAhead 97 = .ok (.goto (-38), 3) := dk_167 255 218 (dk_at dksX7_layAhead_4 6 rfl rfl)
theorem dX7_layAhead_100 : decode cX7_layAhead 100 = .ok (.iload_n 3, 1) := dk_29 (dk_at dksX7_layAhead_4 9 rfl rfl)
theorem dX7_layAhead_101 : decode cX7_layAhead 101 = .ok (.ifCond .eq 32, 3) := dk_153 0 32 (dk_at dksX7_layAhead_4 10 rfl rfl)
theorem dX7_layAhead_104 : decode cX7_layAhead 104 = .ok (.iload_n 2, 1) := dk_28 (dk_at dksX7_layAhead_4 13 rfl rfl)
theorem dX7_layAhead_105 : decode cX7_layAhead 105 = .ok (.ifCond .eq 28, 3) := dk_153 0 28 (dk_at dksX7_layAhead_4 14 rfl rfl)
theorem dX7_layAhead_108 : decode cX7_layAhead 108 = .ok (.aload_n 0, 1) := dk_42 (dk_at dksX7_layAhead_4 17 rfl rfl)
theorem dX7_layAhead_109 : decode cX7_layAhead 109 = .ok (.getfield 109, 3) := dk_180 0 109 (dk_at dksX7_layAhead_4 18 rfl rfl)
theorem dX7_layAhead_112 : decode cX7_layAhead 112 = .ok (.aload_n 0, 1) := dk_42 (dk_at dksX7_layAhead_4 21 rfl rfl)
theorem dX7_layAhead_113 : decode cX7_layAhead 113 = .ok (.getfield 230, 3) := dk_180 0 230 (dk_at dksX7_layAhead_5 0 rfl rfl)
theorem dX7_layAhead_116 : decode cX7_layAhead 116 = .ok (.aload_n 0, 1) := dk_42 (dk_at dksX7_layAhead_5 3 rfl rfl)
theorem dX7_layAhead_117 : decode cX7_layAhead 117 = .ok (.getfield 17, 3) := dk_180 0 17 (dk_at dksX7_layAhead_5 4 rfl rfl)
theorem dX7_layAhead_120 : decode cX7_layAhead 120 = .ok (.iload_n 1, 1) := dk_27 (dk_at dksX7_layAhead_5 7 rfl rfl)
theorem dX7_layAhead_121 : decode cX7_layAhead 121 = .ok (.iaload, 1) := dk_46 (dk_at dksX7_layAhead_5 8 rfl rfl)
theorem dX7_layAhead_122 : decode cX7_layAhead 122 = .ok (.iastore, 1) := dk_79 (dk_at dksX7_layAhead_5 9 rfl rfl)
theorem dX7_layAhead_123 : decode cX7_layAhead 123 = .ok (.aload_n 0, 1) := dk_42 (dk_at dksX7_layAhead_5 10 rfl rfl)
theorem dX7_layAhead_124 : decode cX7_layAhead 124 = .ok (.dup, 1) := dk_89 (dk_at dksX7_layAhead_5 11 rfl rfl)
theorem dX7_layAhead_125 : decode cX7_layAhead 125 = .ok (.getfield 230, 3) := dk_180 0 230 (dk_at dksX7_layAhead_5 12 rfl rfl)
theorem dX7_layAhead_128 : decode cX7_layAhead 128 = .ok (.iconst 1, 1) := dk_4 (dk_at dksX7_layAhead_5 15 rfl rfl)
theorem dX7_layAhead_129 : decode cX7_layAhead 129 = .ok (.iadd, 1) := dk_96 (dk_at dksX7_layAhead_5 16 rfl rfl)
theorem dX7_layAhead_130 : decode cX7_layAhead 130 = .ok (.putfield 230, 3) := dk_181 0 230 (dk_at dksX7_layAhead_5 17 rfl rfl)
theorem dX7_layAhead_133 : decode cX7_layAhead 133 = .ok (.return_, 1) := dk_177 (dk_at dksX7_layAhead_5 20 rfl rfl)
abbrev cX7_findMethod : ByteArray := prog_30_method_48_code
def yX7_findMethod : MethodName := ⟨RX7, "findMethod", "(III)I"⟩
def dkwX7_findMethod_1 : List UInt8 := [184, 0, 127, 154, 0, 6, 16, 254, 172, 42, 27, 28, 29, 182, 0, 253, 172]
abbrev dktX7_findMethod_1 : List UInt8 := dkwX7_findMethod_1 ++ []
def dkwX7_findMethod_0 : List UInt8 := [42, 27, 182, 0, 131, 153, 0, 23, 42, 28, 182, 0, 250, 153, 0, 15, 29, 133, 9, 20, 0, 233]
abbrev dktX7_findMethod_0 : List UInt8 := dkwX7_findMethod_0 ++ dktX7_findMethod_1
theorem dksX7_findMethod_0 : cX7_findMethod.data.toList.drop 0 = dktX7_findMethod_0 := by decide +kernel
theorem dksX7_findMethod_1 : cX7_findMethod.data.toList.drop 22 = dktX7_findMethod_1 := dk_seg dksX7_findMethod_0 22 rfl rfl
theorem dX7_findMethod_0 : decode cX7_findMethod 0 = .ok (.aload_n 0, 1) := dk_42 (dk_at dksX7_findMethod_0 0 rfl rfl)
theorem dX7_findMethod_1 : decode cX7_findMethod 1 = .ok (.iload_n 1, 1) := dk_27 (dk_at dksX7_findMethod_0 1 rfl rfl)
theorem dX7_findMethod_2 : decode cX7_findMethod 2 = .ok (.invokevirtual 131, 3) := dk_182 0 131 (dk_at dksX7_findMethod_0 2 rfl rfl)
theorem dX7_findMethod_5 : decode cX7_findMethod 5 = .ok (.ifCond .eq 23, 3) := dk_153 0 23 (dk_at dksX7_findMethod_0 5 rfl rfl)
theorem dX7_findMethod_8 : decode cX7_findMethod 8 = .ok (.aload_n 0, 1) := dk_42 (dk_at dksX7_findMethod_0 8 rfl rfl)
theorem dX7_findMethod_9 : decode cX7_findMethod 9 = .ok (.iload_n 2, 1) := dk_28 (dk_at dksX7_findMethod_0 9 rfl rfl)
theorem dX7_findMethod_10 : decode cX7_findMethod 10 = .ok (.invokevirtual 250, 3) := dk_182 0 250 (dk_at dksX7_findMethod_0 10 rfl rfl)
theorem dX7_findMethod_13 : decode cX7_findMethod 13 = .ok (.ifCond .eq 15, 3) := dk_153 0 15 (dk_at dksX7_findMethod_0 13 rfl rfl)
theorem dX7_findMethod_16 : decode cX7_findMethod 16 = .ok (.iload_n 3, 1) := dk_29 (dk_at dksX7_findMethod_0 16 rfl rfl)
theorem dX7_findMethod_17 : decode cX7_findMethod 17 = .ok (.i2l, 1) := dk_133 (dk_at dksX7_findMethod_0 17 rfl rfl)
theorem dX7_findMethod_18 : decode cX7_findMethod 18 = .ok (.lconst 0, 1) := dk_9 (dk_at dksX7_findMethod_0 18 rfl rfl)
theorem dX7_findMethod_19 : decode cX7_findMethod 19 = .ok (.ldc2_w 233, 3) := dk_20 0 233 (dk_at dksX7_findMethod_0 19 rfl rfl)
theorem dX7_findMethod_22 : decode cX7_findMethod 22 = .ok (.invokestatic 127, 3) := dk_184 0 127 (dk_at dksX7_findMethod_1 0 rfl rfl)
theorem dX7_findMethod_25 : decode cX7_findMethod 25 = .ok (.ifCond .ne 6, 3) := dk_154 0 6 (dk_at dksX7_findMethod_1 3 rfl rfl)
theorem dX7_findMethod_28 : decode cX7_findMethod 28 = .ok (.bipush (-2), 2) := dk_16 254 (dk_at dksX7_findMethod_1 6 rfl rfl)
theorem dX7_findMethod_30 : decode cX7_findMethod 30 = .ok (.ireturn, 1) := dk_172 (dk_at dksX7_findMethod_1 8 rfl rfl)
theorem dX7_findMethod_31 : decode cX7_findMethod 31 = .ok (.aload_n 0, 1) := dk_42 (dk_at dksX7_findMethod_1 9 rfl rfl)
theorem dX7_findMethod_32 : decode cX7_findMethod 32 = .ok (.iload_n 1, 1) := dk_27 (dk_at dksX7_findMethod_1 10 rfl rfl)
theorem dX7_findMethod_33 : decode cX7_findMethod 33 = .ok (.iload_n 2, 1) := dk_28 (dk_at dksX7_findMethod_1 11 rfl rfl)
theorem dX7_findMethod_34 : decode cX7_findMethod 34 = .ok (.iload_n 3, 1) := dk_29 (dk_at dksX7_findMethod_1 12 rfl rfl)
theorem dX7_findMethod_35 : decode cX7_findMethod 35 = .ok (.invokevirtual 253, 3) := dk_182 0 253 (dk_at dksX7_findMethod_1 13 rfl rfl)
theorem dX7_findMethod_38 : decode cX7_findMethod 38 = .ok (.ireturn, 1) := dk_172 (dk_at dksX7_findMethod_1 16 rfl rfl)
abbrev cX7_isMethod : ByteArray := prog_30_method_28_code
def yX7_isMethod : MethodName := ⟨RX7, "isMethod", "(I)Z"⟩
def dkwX7_isMethod_0 : List UInt8 := [42, 27, 182, 0, 185, 153, 0, 16, 42, 180, 0, 54, 27, 51, 154, 0, 7, 4, 167, 0, 4, 3, 172]
abbrev dktX7_isMethod_0 : List UInt8 := dkwX7_isMethod_0 ++ []
theorem dksX7_isMethod_0 : cX7_isMethod.data.toList.drop 0 = dktX7_isMethod_0 := by decide +kernel
theorem dX7_isMethod_0 : decode cX7_isMethod 0 = .ok (.aload_n 0, 1) := dk_42 (dk_at dksX7_isMethod_0 0 rfl rfl)
theorem dX7_isMethod_1 : decode cX7_isMethod 1 = .ok (.iload_n 1, 1) := dk_27 (dk_at dksX7_isMethod_0 1 rfl rfl)
theorem dX7_isMethod_2 : decode cX7_isMethod 2 = .ok (.invokevirtual 185, 3) := dk_182 0 185 (dk_at dksX7_isMethod_0 2 rfl rfl)
theorem dX7_isMethod_5 : decode cX7_isMethod 5 = .ok (.ifCond .eq 16, 3) := dk_153 0 16 (dk_at dksX7_isMethod_0 5 rfl rfl)
theorem dX7_isMethod_8 : decode cX7_isMethod 8 = .ok (.aload_n 0, 1) := dk_42 (dk_at dksX7_isMethod_0 8 rfl rfl)
theorem dX7_isMethod_9 : decode cX7_isMethod 9 = .ok (.getfield 54, 3) := dk_180 0 54 (dk_at dksX7_isMethod_0 9 rfl rfl)
theorem dX7_isMethod_12 : decode cX7_isMethod 12 = .ok (.iload_n 1, 1) := dk_27 (dk_at dksX7_isMethod_0 12 rfl rfl)
theorem dX7_isMethod_13 : decode cX7_isMethod 13 = .ok (.baload, 1) := dk_51 (dk_at dksX7_isMethod_0 13 rfl rfl)
theorem dX7_isMethod_14 : decode cX7_isMethod 14 = .ok (.ifCond .ne 7, 3) := dk_154 0 7 (dk_at dksX7_isMethod_0 14 rfl rfl)
theorem dX7_isMethod_17 : decode cX7_isMethod 17 = .ok (.iconst 1, 1) := dk_4 (dk_at dksX7_isMethod_0 17 rfl rfl)
theorem dX7_isMethod_18 : decode cX7_isMethod 18 = .ok (.goto 4, 3) := dk_167 0 4 (dk_at dksX7_isMethod_0 18 rfl rfl)
theorem dX7_isMethod_21 : decode cX7_isMethod 21 = .ok (.iconst 0, 1) := dk_3 (dk_at dksX7_isMethod_0 21 rfl rfl)
theorem dX7_isMethod_22 : decode cX7_isMethod 22 = .ok (.ireturn, 1) := dk_172 (dk_at dksX7_isMethod_0 22 rfl rfl)
abbrev cX7_found : ByteArray := prog_30_method_47_code
def yX7_found : MethodName := ⟨RX7, "found", "(III)I"⟩
def dkwX7_found_4 : List UInt8 := [160, 0, 6, 21, 5, 172, 42, 21, 4, 4, 182, 0, 243, 167, 255, 167, 2, 172]
abbrev dktX7_found_4 : List UInt8 := dkwX7_found_4 ++ []
def dkwX7_found_3 : List UInt8 := [180, 0, 13, 21, 4, 46, 6, 160, 0, 19, 42, 21, 5, 7, 182, 0, 221, 153, 0, 9, 21, 4, 27]
abbrev dktX7_found_3 : List UInt8 := dkwX7_found_3 ++ dktX7_found_4
def dkwX7_found_2 : List UInt8 := [21, 5, 2, 159, 0, 48, 29, 5, 159, 0, 13, 42, 21, 5, 182, 0, 188, 4, 160, 0, 33, 42]
abbrev dktX7_found_2 : List UInt8 := dkwX7_found_2 ++ dktX7_found_3
def dkwX7_found_1 : List UInt8 := [182, 0, 239, 54, 4, 21, 4, 2, 160, 0, 6, 167, 255, 237, 42, 21, 4, 28, 182, 0, 247, 54, 5]
abbrev dktX7_found_1 : List UInt8 := dkwX7_found_1 ++ dktX7_found_2
def dkwX7_found_0 : List UInt8 := [29, 154, 0, 10, 42, 27, 28, 182, 0, 247, 172, 42, 27, 182, 0, 235, 42, 180, 0, 230, 158, 0, 88, 42]
abbrev dktX7_found_0 : List UInt8 := dkwX7_found_0 ++ dktX7_found_1
theorem dksX7_found_0 : cX7_found.data.toList.drop 0 = dktX7_found_0 := by decide +kernel
theorem dksX7_found_1 : cX7_found.data.toList.drop 24 = dktX7_found_1 := dk_seg dksX7_found_0 24 rfl rfl
theorem dksX7_found_2 : cX7_found.data.toList.drop 47 = dktX7_found_2 := dk_seg dksX7_found_1 23 rfl rfl
theorem dksX7_found_3 : cX7_found.data.toList.drop 69 = dktX7_found_3 := dk_seg dksX7_found_2 22 rfl rfl
theorem dksX7_found_4 : cX7_found.data.toList.drop 92 = dktX7_found_4 := dk_seg dksX7_found_3 23 rfl rfl
theorem dX7_found_0 : decode cX7_found 0 = .ok (.iload_n 3, 1) := dk_29 (dk_at dksX7_found_0 0 rfl rfl)
theorem dX7_found_1 : decode cX7_found 1 = .ok (.ifCond .ne 10, 3) := dk_154 0 10 (dk_at dksX7_found_0 1 rfl rfl)
theorem dX7_found_4 : decode cX7_found 4 = .ok (.aload_n 0, 1) := dk_42 (dk_at dksX7_found_0 4 rfl rfl)
theorem dX7_found_5 : decode cX7_found 5 = .ok (.iload_n 1, 1) := dk_27 (dk_at dksX7_found_0 5 rfl rfl)
theorem dX7_found_6 : decode cX7_found 6 = .ok (.iload_n 2, 1) := dk_28 (dk_at dksX7_found_0 6 rfl rfl)
theorem dX7_found_7 : decode cX7_found 7 = .ok (.invokevirtual 247, 3) := dk_182 0 247 (dk_at dksX7_found_0 7 rfl rfl)
theorem dX7_found_10 : decode cX7_found 10 = .ok (.ireturn, 1) := dk_172 (dk_at dksX7_found_0 10 rfl rfl)
theorem dX7_found_11 : decode cX7_found 11 = .ok (.aload_n 0, 1) := dk_42 (dk_at dksX7_found_0 11 rfl rfl)
theorem dX7_found_12 : decode cX7_found 12 = .ok (.iload_n 1, 1) := dk_27 (dk_at dksX7_found_0 12 rfl rfl)
theorem dX7_found_13 : decode cX7_found 13 = .ok (.invokevirtual 235, 3) := dk_182 0 235 (dk_at dksX7_found_0 13 rfl rfl)
theorem dX7_found_16 : decode cX7_found 16 = .ok (.aload_n 0, 1) := dk_42 (dk_at dksX7_found_0 16 rfl rfl)
theorem dX7_found_17 : decode cX7_found 17 = .ok (.getfield 230, 3) := dk_180 0 230 (dk_at dksX7_found_0 17 rfl rfl)
theorem dX7_found_20 : decode cX7_found 20 = .ok (.ifCond .le 88, 3) := dk_158 0 88 (dk_at dksX7_found_0 20 rfl rfl)
theorem dX7_found_23 : decode cX7_found 23 = .ok (.aload_n 0, 1) := dk_42 (dk_at dksX7_found_0 23 rfl rfl)
theorem dX7_found_24 : decode cX7_found 24 = .ok (.invokevirtual 239, 3) := dk_182 0 239 (dk_at dksX7_found_1 0 rfl rfl)
theorem dX7_found_27 : decode cX7_found 27 = .ok (.istore 4, 2) := dk_54 4 (dk_at dksX7_found_1 3 rfl rfl)
theorem dX7_found_29 : decode cX7_found 29 = .ok (.iload 4, 2) := dk_21 4 (dk_at dksX7_found_1 5 rfl rfl)
theorem dX7_found_31 : decode cX7_found 31 = .ok (.iconst (-1), 1) := dk_2 (dk_at dksX7_found_1 7 rfl rfl)
theorem dX7_found_32 : decode cX7_found 32 = .ok (.if_icmp .ne 6, 3) := dk_160 0 6 (dk_at dksX7_found_1 8 rfl rfl)
theorem dX7_found_35 : decode cX7_found 35 = .ok (.goto (-19), 3) := dk_167 255 237 (dk_at dksX7_found_1 11 rfl rfl)
theorem dX7_found_38 : decode cX7_found 38 = .ok (.aload_n 0, 1) := dk_42 (dk_at dksX7_found_1 14 rfl rfl)
theorem dX7_found_39 : decode cX7_found 39 = .ok (.iload 4, 2) := dk_21 4 (dk_at dksX7_found_1 15 rfl rfl)
theorem dX7_found_41 : decode cX7_found 41 = .ok (.iload_n 2, 1) := dk_28 (dk_at dksX7_found_1 17 rfl rfl)
theorem dX7_found_42 : decode cX7_found 42 = .ok (.invokevirtual 247, 3) := dk_182 0 247 (dk_at dksX7_found_1 18 rfl rfl)
theorem dX7_found_45 : decode cX7_found 45 = .ok (.istore 5, 2) := dk_54 5 (dk_at dksX7_found_1 21 rfl rfl)
theorem dX7_found_47 : decode cX7_found 47 = .ok (.iload 5, 2) := dk_21 5 (dk_at dksX7_found_2 0 rfl rfl)
theorem dX7_found_49 : decode cX7_found 49 = .ok (.iconst (-1), 1) := dk_2 (dk_at dksX7_found_2 2 rfl rfl)
theorem dX7_found_50 : decode cX7_found 50 = .ok (.if_icmp .eq 48, 3) := dk_159 0 48 (dk_at dksX7_found_2 3 rfl rfl)
theorem dX7_found_53 : decode cX7_found 53 = .ok (.iload_n 3, 1) := dk_29 (dk_at dksX7_found_2 6 rfl rfl)
theorem dX7_found_54 : decode cX7_found 54 = .ok (.iconst 2, 1) := dk_5 (dk_at dksX7_found_2 7 rfl rfl)
theorem dX7_found_55 : decode cX7_found 55 = .ok (.if_icmp .eq 13, 3) := dk_159 0 13 (dk_at dksX7_found_2 8 rfl rfl)
theorem dX7_found_58 : decode cX7_found 58 = .ok (.aload_n 0, 1) := dk_42 (dk_at dksX7_found_2 11 rfl rfl)
theorem dX7_found_59 : decode cX7_found 59 = .ok (.iload 5, 2) := dk_21 5 (dk_at dksX7_found_2 12 rfl rfl)
theorem dX7_found_61 : decode cX7_found 61 = .ok (.invokevirtual 188, 3) := dk_182 0 188 (dk_at dksX7_found_2 14 rfl rfl)
theorem dX7_found_64 : decode cX7_found 64 = .ok (.iconst 1, 1) := dk_4 (dk_at dksX7_found_2 17 rfl rfl)
theorem dX7_found_65 : decode cX7_found 65 = .ok (.if_icmp .ne 33, 3) := dk_160 0 33 (dk_at dksX7_found_2 18 rfl rfl)
theorem dX7_found_68 : decode cX7_found 68 = .ok (.aload_n 0, 1) := dk_42 (dk_at dksX7_found_2 21 rfl rfl)
theorem dX7_found_69 : decode cX7_found 69 = .ok (.getfield 13, 3) := dk_180 0 13 (dk_at dksX7_found_3 0 rfl rfl)
theorem dX7_found_72 : decode cX7_found 72 = .ok (.iload 4, 2) := dk_21 4 (dk_at dksX7_found_3 3 rfl rfl)
theorem dX7_found_74 : decode cX7_found 74 = .ok (.iaload, 1) := dk_46 (dk_at dksX7_found_3 5 rfl rfl)
theorem dX7_found_75 : decode cX7_found 75 = .ok (.iconst 3, 1) := dk_6 (dk_at dksX7_found_3 6 rfl rfl)
theorem dX7_found_76 : decode cX7_found 76 = .ok (.if_icmp .ne 19, 3) := dk_160 0 19 (dk_at dksX7_found_3 7 rfl rfl)
theorem dX7_found_79 : decode cX7_found 79 = .ok (.aload_n 0, 1) := dk_42 (dk_at dksX7_found_3 10 rfl rfl)
theorem dX7_found_80 : decode cX7_found 80 = .ok (.iload 5, 2) := dk_21 5 (dk_at dksX7_found_3 11 rfl rfl)
theorem dX7_found_82 : decode cX7_found 82 = .ok (.iconst 4, 1) := dk_7 (dk_at dksX7_found_3 13 rfl rfl)
theorem dX7_found_83 : decode cX7_found 83 = .ok (.invokevirtual 221, 3) := dk_182 0 221 (dk_at dksX7_found_3 14 rfl rfl)
theorem dX7_found_86 : decode cX7_found 86 = .ok (.ifCond .eq 9, 3) := dk_153 0 9 (dk_at dksX7_found_3 17 rfl rfl)
theorem dX7_found_89 : decode cX7_found 89 = .ok (.iload 4, 2) := dk_21 4 (dk_at dksX7_found_3 20 rfl rfl)
theorem dX7_found_91 : decode cX7_found 91 = .ok (.iload_n 1, 1) := dk_27 (dk_at dksX7_found_3 22 rfl rfl)
theorem dX7_found_92 : decode cX7_found 92 = .ok (.if_icmp .ne 6, 3) := dk_160 0 6 (dk_at dksX7_found_4 0 rfl rfl)
theorem dX7_found_95 : decode cX7_found 95 = .ok (.iload 5, 2) := dk_21 5 (dk_at dksX7_found_4 3 rfl rfl)
theorem dX7_found_97 : decode cX7_found 97 = .ok (.ireturn, 1) := dk_172 (dk_at dksX7_found_4 5 rfl rfl)
theorem dX7_found_98 : decode cX7_found 98 = .ok (.aload_n 0, 1) := dk_42 (dk_at dksX7_found_4 6 rfl rfl)
theorem dX7_found_99 : decode cX7_found 99 = .ok (.iload 4, 2) := dk_21 4 (dk_at dksX7_found_4 7 rfl rfl)
theorem dX7_found_101 : decode cX7_found 101 = .ok (.iconst 1, 1) := dk_4 (dk_at dksX7_found_4 9 rfl rfl)
theorem dX7_found_102 : decode cX7_found 102 = .ok (.invokevirtual 243, 3) := dk_182 0 243 (dk_at dksX7_found_4 10 rfl rfl)
theorem dX7_found_105 : decode cX7_found 105 = .ok (.goto (-89), 3) := dk_167 255 167 (dk_at dksX7_found_4 13 rfl rfl)
theorem dX7_found_108 : decode cX7_found 108 = .ok (.iconst (-1), 1) := dk_2 (dk_at dksX7_found_4 16 rfl rfl)
theorem dX7_found_109 : decode cX7_found 109 = .ok (.ireturn, 1) := dk_172 (dk_at dksX7_found_4 17 rfl rfl)
abbrev cX7_ownLike : ByteArray := prog_30_method_35_code
def yX7_ownLike : MethodName := ⟨RX7, "ownLike", "(II)I"⟩
def dkwX7_ownLike_2 : List UInt8 := [167, 0, 4, 29, 62, 132, 4, 1, 167, 255, 206, 29, 172]
abbrev dktX7_ownLike_2 : List UInt8 := dkwX7_ownLike_2 ++ []
def dkwX7_ownLike_1 : List UInt8 := [42, 180, 0, 45, 21, 4, 46, 27, 160, 0, 18, 42, 21, 4, 28, 182, 0, 192, 153, 0, 8, 21, 4]
abbrev dktX7_ownLike_1 : List UInt8 := dkwX7_ownLike_1 ++ dktX7_ownLike_2
def dkwX7_ownLike_0 : List UInt8 := [2, 62, 3, 54, 4, 21, 4, 42, 180, 0, 182, 162, 0, 47, 42, 180, 0, 54, 21, 4, 51, 154, 0, 29]
abbrev dktX7_ownLike_0 : List UInt8 := dkwX7_ownLike_0 ++ dktX7_ownLike_1
theorem dksX7_ownLike_0 : cX7_ownLike.data.toList.drop 0 = dktX7_ownLike_0 := by decide +kernel
theorem dksX7_ownLike_1 : cX7_ownLike.data.toList.drop 24 = dktX7_ownLike_1 := dk_seg dksX7_ownLike_0 24 rfl rfl
theorem dksX7_ownLike_2 : cX7_ownLike.data.toList.drop 47 = dktX7_ownLike_2 := dk_seg dksX7_ownLike_1 23 rfl rfl
theorem dX7_ownLike_0 : decode cX7_ownLike 0 = .ok (.iconst (-1), 1) := dk_2 (dk_at dksX7_ownLike_0 0 rfl rfl)
theorem dX7_ownLike_1 : decode cX7_ownLike 1 = .ok (.istore_n 3, 1) := dk_62 (dk_at dksX7_ownLike_0 1 rfl rfl)
theorem dX7_ownLike_2 : decode cX7_ownLike 2 = .ok (.iconst 0, 1) := dk_3 (dk_at dksX7_ownLike_0 2 rfl rfl)
theorem dX7_ownLike_3 : decode cX7_ownLike 3 = .ok (.istore 4, 2) := dk_54 4 (dk_at dksX7_ownLike_0 3 rfl rfl)
theorem dX7_ownLike_5 : decode cX7_ownLike 5 = .ok (.iload 4, 2) := dk_21 4 (dk_at dksX7_ownLike_0 5 rfl rfl)
theorem dX7_ownLike_7 : decode cX7_ownLike 7 = .ok (.aload_n 0, 1) := dk_42 (dk_at dksX7_ownLike_0 7 rfl rfl)
theorem dX7_ownLike_8 : decode cX7_ownLike 8 = .ok (.getfield 182, 3) := dk_180 0 182 (dk_at dksX7_ownLike_0 8 rfl rfl)
theorem dX7_ownLike_11 : decode cX7_ownLike 11 = .ok (.if_icmp .ge 47, 3) := dk_162 0 47 (dk_at dksX7_ownLike_0 11 rfl rfl)
theorem dX7_ownLike_14 : decode cX7_ownLike 14 = .ok (.aload_n 0, 1) := dk_42 (dk_at dksX7_ownLike_0 14 rfl rfl)
theorem dX7_ownLike_15 : decode cX7_ownLike 15 = .ok (.getfield 54, 3) := dk_180 0 54 (dk_at dksX7_ownLike_0 15 rfl rfl)
theorem dX7_ownLike_18 : decode cX7_ownLike 18 = .ok (.iload 4, 2) := dk_21 4 (dk_at dksX7_ownLike_0 18 rfl rfl)
theorem dX7_ownLike_20 : decode cX7_ownLike 20 = .ok (.baload, 1) := dk_51 (dk_at dksX7_ownLike_0 20 rfl rfl)
theorem dX7_ownLike_21 : decode cX7_ownLike 21 = .ok (.ifCond .ne 29, 3) := dk_154 0 29 (dk_at dksX7_ownLike_0 21 rfl rfl)
theorem dX7_ownLike_24 : decode cX7_ownLike 24 = .ok (.aload_n 0, 1) := dk_42 (dk_at dksX7_ownLike_1 0 rfl rfl)
theorem dX7_ownLike_25 : decode cX7_ownLike 25 = .ok (.getfield 45, 3) := dk_180 0 45 (dk_at dksX7_ownLike_1 1 rfl rfl)
theorem dX7_ownLike_28 : decode cX7_ownLike 28 = .ok (.iload 4, 2) := dk_21 4 (dk_at dksX7_ownLike_1 4 rfl rfl)
theorem dX7_ownLike_30 : decode cX7_ownLike 30 = .ok (.iaload, 1) := dk_46 (dk_at dksX7_ownLike_1 6 rfl rfl)
theorem dX7_ownLike_31 : decode cX7_ownLike 31 = .ok (.iload_n 1, 1) := dk_27 (dk_at dksX7_ownLike_1 7 rfl rfl)
theorem dX7_ownLike_32 : decode cX7_ownLike 32 = .ok (.if_icmp .ne 18, 3) := dk_160 0 18 (dk_at dksX7_ownLike_1 8 rfl rfl)
theorem dX7_ownLike_35 : decode cX7_ownLike 35 = .ok (.aload_n 0, 1) := dk_42 (dk_at dksX7_ownLike_1 11 rfl rfl)
theorem dX7_ownLike_36 : decode cX7_ownLike 36 = .ok (.iload 4, 2) := dk_21 4 (dk_at dksX7_ownLike_1 12 rfl rfl)
theorem dX7_ownLike_38 : decode cX7_ownLike 38 = .ok (.iload_n 2, 1) := dk_28 (dk_at dksX7_ownLike_1 14 rfl rfl)
theorem dX7_ownLike_39 : decode cX7_ownLike 39 = .ok (.invokevirtual 192, 3) := dk_182 0 192 (dk_at dksX7_ownLike_1 15 rfl rfl)
theorem dX7_ownLike_42 : decode cX7_ownLike 42 = .ok (.ifCond .eq 8, 3) := dk_153 0 8 (dk_at dksX7_ownLike_1 18 rfl rfl)
theorem dX7_ownLike_45 : decode cX7_ownLike 45 = .ok (.iload 4, 2) := dk_21 4 (dk_at dksX7_ownLike_1 21 rfl rfl)
theorem dX7_ownLike_47 : decode cX7_ownLike 47 = .ok (.goto 4, 3) := dk_167 0 4 (dk_at dksX7_ownLike_2 0 rfl rfl)
theorem dX7_ownLike_50 : decode cX7_ownLike 50 = .ok (.iload_n 3, 1) := dk_29 (dk_at dksX7_ownLike_2 3 rfl rfl)
theorem dX7_ownLike_51 : decode cX7_ownLike 51 = .ok (.istore_n 3, 1) := dk_62 (dk_at dksX7_ownLike_2 4 rfl rfl)
theorem dX7_ownLike_52 : decode cX7_ownLike 52 = .ok (.iinc 4 1, 3) := dk_132 4 1 (dk_at dksX7_ownLike_2 5 rfl rfl)
theorem dX7_ownLike_55 : decode cX7_ownLike 55 = .ok (.goto (-50), 3) := dk_167 255 206 (dk_at dksX7_ownLike_2 8 rfl rfl)
theorem dX7_ownLike_58 : decode cX7_ownLike 58 = .ok (.iload_n 3, 1) := dk_29 (dk_at dksX7_ownLike_2 11 rfl rfl)
theorem dX7_ownLike_59 : decode cX7_ownLike 59 = .ok (.ireturn, 1) := dk_172 (dk_at dksX7_ownLike_2 12 rfl rfl)
abbrev cX7_inForce : ByteArray := prog_30_method_50_code
def yX7_inForce : MethodName := ⟨RX7, "inForce", "(II)I"⟩
def dkwX7_inForce_2 : List UInt8 := [154, 0, 6, 16, 254, 172, 42, 27, 28, 182, 1, 0, 172]
abbrev dktX7_inForce_2 : List UInt8 := dkwX7_inForce_2 ++ []
def dkwX7_inForce_1 : List UInt8 := [154, 0, 25, 42, 28, 182, 0, 224, 154, 0, 17, 42, 27, 42, 180, 0, 45, 28, 46, 182, 0, 156]
abbrev dktX7_inForce_1 : List UInt8 := dkwX7_inForce_1 ++ dktX7_inForce_2
def dkwX7_inForce_0 : List UInt8 := [42, 27, 182, 0, 135, 153, 0, 42, 42, 28, 182, 0, 250, 153, 0, 34, 42, 28, 7, 182, 0, 221]
abbrev dktX7_inForce_0 : List UInt8 := dkwX7_inForce_0 ++ dktX7_inForce_1
theorem dksX7_inForce_0 : cX7_inForce.data.toList.drop 0 = dktX7_inForce_0 := by decide +kernel
theorem dksX7_inForce_1 : cX7_inForce.data.toList.drop 22 = dktX7_inForce_1 := dk_seg dksX7_inForce_0 22 rfl rfl
theorem dksX7_inForce_2 : cX7_inForce.data.toList.drop 44 = dktX7_inForce_2 := dk_seg dksX7_inForce_1 22 rfl rfl
theorem dX7_inForce_0 : decode cX7_inForce 0 = .ok (.aload_n 0, 1) := dk_42 (dk_at dksX7_inForce_0 0 rfl rfl)
theorem dX7_inForce_1 : decode cX7_inForce 1 = .ok (.iload_n 1, 1) := dk_27 (dk_at dksX7_inForce_0 1 rfl rfl)
theorem dX7_inForce_2 : decode cX7_inForce 2 = .ok (.invokevirtual 135, 3) := dk_182 0 135 (dk_at dksX7_inForce_0 2 rfl rfl)
theorem dX7_inForce_5 : decode cX7_inForce 5 = .ok (.ifCond .eq 42, 3) := dk_153 0 42 (dk_at dksX7_inForce_0 5 rfl rfl)
theorem dX7_inForce_8 : decode cX7_inForce 8 = .ok (.aload_n 0, 1) := dk_42 (dk_at dksX7_inForce_0 8 rfl rfl)
theorem dX7_inForce_9 : decode cX7_inForce 9 = .ok (.iload_n 2, 1) := dk_28 (dk_at dksX7_inForce_0 9 rfl rfl)
theorem dX7_inForce_10 : decode cX7_inForce 10 = .ok (.invokevirtual 250, 3) := dk_182 0 250 (dk_at dksX7_inForce_0 10 rfl rfl)
theorem dX7_inForce_13 : decode cX7_inForce 13 = .ok (.ifCond .eq 34, 3) := dk_153 0 34 (dk_at dksX7_inForce_0 13 rfl rfl)
theorem dX7_inForce_16 : decode cX7_inForce 16 = .ok (.aload_n 0, 1) := dk_42 (dk_at dksX7_inForce_0 16 rfl rfl)
theorem dX7_inForce_17 : decode cX7_inForce 17 = .ok (.iload_n 2, 1) := dk_28 (dk_at dksX7_inForce_0 17 rfl rfl)
theorem dX7_inForce_18 : decode cX7_inForce 18 = .ok (.iconst 4, 1) := dk_7 (dk_at dksX7_inForce_0 18 rfl rfl)
theorem dX7_inForce_19 : decode cX7_inForce 19 = .ok (.invokevirtual 221, 3) := dk_182 0 221 (dk_at dksX7_inForce_0 19 rfl rfl)
theorem dX7_inForce_22 : decode cX7_inForce 22 = .ok (.ifCond .ne 25, 3) := dk_154 0 25 (dk_at dksX7_inForce_1 0 rfl rfl)
theorem dX7_inForce_25 : decode cX7_inForce 25 = .ok (.aload_n 0, 1) := dk_42 (dk_at dksX7_inForce_1 3 rfl rfl)
theorem dX7_inForce_26 : decode cX7_inForce 26 = .ok (.iload_n 2, 1) := dk_28 (dk_at dksX7_inForce_1 4 rfl rfl)
theorem dX7_inForce_27 : decode cX7_inForce 27 = .ok (.invokevirtual 224, 3) := dk_182 0 224 (dk_at dksX7_inForce_1 5 rfl rfl)
theorem dX7_inForce_30 : decode cX7_inForce 30 = .ok (.ifCond .ne 17, 3) := dk_154 0 17 (dk_at dksX7_inForce_1 8 rfl rfl)
theorem dX7_inForce_33 : decode cX7_inForce 33 = .ok (.aload_n 0, 1) := dk_42 (dk_at dksX7_inForce_1 11 rfl rfl)
theorem dX7_inForce_34 : decode cX7_inForce 34 = .ok (.iload_n 1, 1) := dk_27 (dk_at dksX7_inForce_1 12 rfl rfl)
theorem dX7_inForce_35 : decode cX7_inForce 35 = .ok (.aload_n 0, 1) := dk_42 (dk_at dksX7_inForce_1 13 rfl rfl)
theorem dX7_inForce_36 : decode cX7_inForce 36 = .ok (.getfield 45, 3) := dk_180 0 45 (dk_at dksX7_inForce_1 14 rfl rfl)
theorem dX7_inForce_39 : decode cX7_inForce 39 = .ok (.iload_n 2, 1) := dk_28 (dk_at dksX7_inForce_1 17 rfl rfl)
theorem dX7_inForce_40 : decode cX7_inForce 40 = .ok (.iaload, 1) := dk_46 (dk_at dksX7_inForce_1 18 rfl rfl)
theorem dX7_inForce_41 : decode cX7_inForce 41 = .ok (.invokevirtual 156, 3) := dk_182 0 156 (dk_at dksX7_inForce_1 19 rfl rfl)
theorem dX7_inForce_44 : decode cX7_inForce 44 = .ok (.ifCond .ne 6, 3) := dk_154 0 6 (dk_at dksX7_inForce_2 0 rfl rfl)
theorem dX7_inForce_47 : decode cX7_inForce 47 = .ok (.bipush (-2), 2) := dk_16 254 (dk_at dksX7_inForce_2 3 rfl rfl)
theorem dX7_inForce_49 : decode cX7_inForce 49 = .ok (.ireturn, 1) := dk_172 (dk_at dksX7_inForce_2 5 rfl rfl)
theorem dX7_inForce_50 : decode cX7_inForce 50 = .ok (.aload_n 0, 1) := dk_42 (dk_at dksX7_inForce_2 6 rfl rfl)
theorem dX7_inForce_51 : decode cX7_inForce 51 = .ok (.iload_n 1, 1) := dk_27 (dk_at dksX7_inForce_2 7 rfl rfl)
theorem dX7_inForce_52 : decode cX7_inForce 52 = .ok (.iload_n 2, 1) := dk_28 (dk_at dksX7_inForce_2 8 rfl rfl)
theorem dX7_inForce_53 : decode cX7_inForce 53 = .ok (.invokevirtual 256, 3) := dk_182 1 0 (dk_at dksX7_inForce_2 9 rfl rfl)
theorem dX7_inForce_56 : decode cX7_inForce 56 = .ok (.ireturn, 1) := dk_172 (dk_at dksX7_inForce_2 12 rfl rfl)
abbrev cX7_force : ByteArray := prog_30_method_49_code
def yX7_force : MethodName := ⟨RX7, "force", "(II)I"⟩
def dkwX7_force_9 : List UInt8 := [182, 0, 221, 154, 0, 6, 21, 6, 172, 132, 4, 1, 167, 255, 168, 2, 172]
abbrev dktX7_force_9 : List UInt8 := dkwX7_force_9 ++ []
def dkwX7_force_8 : List UInt8 := [159, 0, 33, 21, 6, 28, 159, 0, 13, 42, 21, 6, 28, 182, 0, 227, 153, 0, 17, 42, 21, 6, 16, 16]
abbrev dktX7_force_8 : List UInt8 := dkwX7_force_8 ++ dktX7_force_9
def dkwX7_force_7 : List UInt8 := [21, 5, 46, 6, 160, 0, 13, 42, 21, 5, 28, 182, 0, 247, 167, 0, 4, 2, 54, 6, 21, 6, 2]
abbrev dktX7_force_7 : List UInt8 := dkwX7_force_7 ++ dktX7_force_8
def dkwX7_force_6 : List UInt8 := [27, 46, 162, 0, 83, 42, 180, 0, 39, 16, 60, 27, 104, 21, 4, 96, 46, 54, 5, 42, 180, 0, 13]
abbrev dktX7_force_6 : List UInt8 := dkwX7_force_6 ++ dktX7_force_7
def dkwX7_force_5 : List UInt8 := [21, 5, 172, 42, 180, 0, 17, 21, 4, 46, 54, 4, 167, 255, 149, 3, 54, 4, 21, 4, 42, 180, 0, 42]
abbrev dktX7_force_5 : List UInt8 := dkwX7_force_5 ++ dktX7_force_6
def dkwX7_force_4 : List UInt8 := [21, 6, 153, 0, 17, 42, 21, 5, 16, 16, 182, 0, 221, 153, 0, 6, 167, 0, 23, 21, 6, 153, 0, 6]
abbrev dktX7_force_4 : List UInt8 := dkwX7_force_4 ++ dktX7_force_5
def dkwX7_force_3 : List UInt8 := [182, 0, 188, 4, 160, 0, 17, 42, 21, 5, 7, 182, 0, 221, 154, 0, 7, 4, 167, 0, 4, 3, 54, 6]
abbrev dktX7_force_3 : List UInt8 := dkwX7_force_3 ++ dktX7_force_4
def dkwX7_force_2 : List UInt8 := [21, 5, 28, 159, 0, 37, 42, 21, 5, 28, 182, 0, 227, 154, 0, 27, 29, 153, 0, 27, 42, 21, 5]
abbrev dktX7_force_2 : List UInt8 := dkwX7_force_2 ++ dktX7_force_3
def dkwX7_force_1 : List UInt8 := [21, 4, 2, 159, 0, 107, 42, 21, 4, 28, 182, 0, 247, 54, 5, 21, 5, 2, 160, 0, 6, 167, 0, 77]
abbrev dktX7_force_1 : List UInt8 := dkwX7_force_1 ++ dktX7_force_2
def dkwX7_force_0 : List UInt8 := [42, 180, 0, 13, 42, 180, 0, 45, 28, 46, 46, 6, 160, 0, 7, 4, 167, 0, 4, 3, 62, 27, 54, 4]
abbrev dktX7_force_0 : List UInt8 := dkwX7_force_0 ++ dktX7_force_1
theorem dksX7_force_0 : cX7_force.data.toList.drop 0 = dktX7_force_0 := by decide +kernel
theorem dksX7_force_1 : cX7_force.data.toList.drop 24 = dktX7_force_1 := dk_seg dksX7_force_0 24 rfl rfl
theorem dksX7_force_2 : cX7_force.data.toList.drop 48 = dktX7_force_2 := dk_seg dksX7_force_1 24 rfl rfl
theorem dksX7_force_3 : cX7_force.data.toList.drop 71 = dktX7_force_3 := dk_seg dksX7_force_2 23 rfl rfl
theorem dksX7_force_4 : cX7_force.data.toList.drop 95 = dktX7_force_4 := dk_seg dksX7_force_3 24 rfl rfl
theorem dksX7_force_5 : cX7_force.data.toList.drop 119 = dktX7_force_5 := dk_seg dksX7_force_4 24 rfl rfl
theorem dksX7_force_6 : cX7_force.data.toList.drop 143 = dktX7_force_6 := dk_seg dksX7_force_5 24 rfl rfl
theorem dksX7_force_7 : cX7_force.data.toList.drop 166 = dktX7_force_7 := dk_seg dksX7_force_6 23 rfl rfl
theorem dksX7_force_8 : cX7_force.data.toList.drop 189 = dktX7_force_8 := dk_seg dksX7_force_7 23 rfl rfl
theorem dksX7_force_9 : cX7_force.data.toList.drop 213 = dktX7_force_9 := dk_seg dksX7_force_8 24 rfl rfl
theorem dX7_force_0 : decode cX7_force 0 = .ok (.aload_n 0, 1) := dk_42 (dk_at dksX7_force_0 0 rfl rfl)
theorem dX7_force_1 : decode cX7_force 1 = .ok (.getfield 13, 3) := dk_180 0 13 (dk_at dksX7_force_0 1 rfl rfl)
theorem dX7_force_4 : decode cX7_force 4 = .ok (.aload_n 0, 1) := dk_42 (dk_at dksX7_force_0 4 rfl rfl)
theorem dX7_force_5 : decode cX7_force 5 = .ok (.getfield 45, 3) := dk_180 0 45 (dk_at dksX7_force_0 5 rfl rfl)
theorem dX7_force_8 : decode cX7_force 8 = .ok (.iload_n 2, 1) := dk_28 (dk_at dksX7_force_0 8 rfl rfl)
theorem dX7_force_9 : decode cX7_force 9 = .ok (.iaload, 1) := dk_46 (dk_at dksX7_force_0 9 rfl rfl)
theorem dX7_force_10 : decode cX7_force 10 = .ok (.iaload, 1) := dk_46 (dk_at dksX7_force_0 10 rfl rfl)
theorem dX7_force_11 : decode cX7_force 11 = .ok (.iconst 3, 1) := dk_6 (dk_at dksX7_force_0 11 rfl rfl)
theorem dX7_force_12 : decode cX7_force 12 = .ok (.if_icmp .ne 7, 3) := dk_160 0 7 (dk_at dksX7_force_0 12 rfl rfl)
theorem dX7_force_15 : decode cX7_force 15 = .ok (.iconst 1, 1) := dk_4 (dk_at dksX7_force_0 15 rfl rfl)
theorem dX7_force_16 : decode cX7_force 16 = .ok (.goto 4, 3) := dk_167 0 4 (dk_at dksX7_force_0 16 rfl rfl)
theorem dX7_force_19 : decode cX7_force 19 = .ok (.iconst 0, 1) := dk_3 (dk_at dksX7_force_0 19 rfl rfl)
theorem dX7_force_20 : decode cX7_force 20 = .ok (.istore_n 3, 1) := dk_62 (dk_at dksX7_force_0 20 rfl rfl)
theorem dX7_force_21 : decode cX7_force 21 = .ok (.iload_n 1, 1) := dk_27 (dk_at dksX7_force_0 21 rfl rfl)
theorem dX7_force_22 : decode cX7_force 22 = .ok (.istore 4, 2) := dk_54 4 (dk_at dksX7_force_0 22 rfl rfl)
theorem dX7_force_24 : decode cX7_force 24 = .ok (.iload 4, 2) := dk_21 4 (dk_at dksX7_force_1 0 rfl rfl)
theorem dX7_force_26 : decode cX7_force 26 = .ok (.iconst (-1), 1) := dk_2 (dk_at dksX7_force_1 2 rfl rfl)
theorem dX7_force_27 : decode cX7_force 27 = .ok (.if_icmp .eq 107, 3) := dk_159 0 107 (dk_at dksX7_force_1 3 rfl rfl)
theorem dX7_force_30 : decode cX7_force 30 = .ok (.aload_n 0, 1) := dk_42 (dk_at dksX7_force_1 6 rfl rfl)
theorem dX7_force_31 : decode cX7_force 31 = .ok (.iload 4, 2) := dk_21 4 (dk_at dksX7_force_1 7 rfl rfl)
theorem dX7_force_33 : decode cX7_force 33 = .ok (.iload_n 2, 1) := dk_28 (dk_at dksX7_force_1 9 rfl rfl)
theorem dX7_force_34 : decode cX7_force 34 = .ok (.invokevirtual 247, 3) := dk_182 0 247 (dk_at dksX7_force_1 10 rfl rfl)
theorem dX7_force_37 : decode cX7_force 37 = .ok (.istore 5, 2) := dk_54 5 (dk_at dksX7_force_1 13 rfl rfl)
theorem dX7_force_39 : decode cX7_force 39 = .ok (.iload 5, 2) := dk_21 5 (dk_at dksX7_force_1 15 rfl rfl)
theorem dX7_force_41 : decode cX7_force 41 = .ok (.iconst (-1), 1) := dk_2 (dk_at dksX7_force_1 17 rfl rfl)
theorem dX7_force_42 : decode cX7_force 42 = .ok (.if_icmp .ne 6, 3) := dk_160 0 6 (dk_at dksX7_force_1 18 rfl rfl)
theorem dX7_force_45 : decode cX7_force 45 = .ok (.goto 77, 3) := dk_167 0 77 (dk_at dksX7_force_1 21 rfl rfl)
theorem dX7_force_48 : decode cX7_force 48 = .ok (.iload 5, 2) := dk_21 5 (dk_at dksX7_force_2 0 rfl rfl)
theorem dX7_force_50 : decode cX7_force 50 = .ok (.iload_n 2, 1) := dk_28 (dk_at dksX7_force_2 2 rfl rfl)
theorem dX7_force_51 : decode cX7_force 51 = .ok (.if_icmp .eq 37, 3) := dk_159 0 37 (dk_at dksX7_force_2 3 rfl rfl)
theorem dX7_force_54 : decode cX7_force 54 = .ok (.aload_n 0, 1) := dk_42 (dk_at dksX7_force_2 6 rfl rfl)
theorem dX7_force_55 : decode cX7_force 55 = .ok (.iload 5, 2) := dk_21 5 (dk_at dksX7_force_2 7 rfl rfl)
theorem dX7_force_57 : decode cX7_force 57 = .ok (.iload_n 2, 1) := dk_28 (dk_at dksX7_force_2 9 rfl rfl)
theorem dX7_force_58 : decode cX7_force 58 = .ok (.invokevirtual 227, 3) := dk_182 0 227 (dk_at dksX7_force_2 10 rfl rfl)
theorem dX7_force_61 : decode cX7_force 61 = .ok (.ifCond .ne 27, 3) := dk_154 0 27 (dk_at dksX7_force_2 13 rfl rfl)
theorem dX7_force_64 : decode cX7_force 64 = .ok (.iload_n 3, 1) := dk_29 (dk_at dksX7_force_2 16 rfl rfl)
theorem dX7_force_65 : decode cX7_force 65 = .ok (.ifCond .eq 27, 3) := dk_153 0 27 (dk_at dksX7_force_2 17 rfl rfl)
theorem dX7_force_68 : decode cX7_force 68 = .ok (.aload_n 0, 1) := dk_42 (dk_at dksX7_force_2 20 rfl rfl)
theorem dX7_force_69 : decode cX7_force 69 = .ok (.iload 5, 2) := dk_21 5 (dk_at dksX7_force_2 21 rfl rfl)
theorem dX7_force_71 : decode cX7_force 71 = .ok (.invokevirtual 188, 3) := dk_182 0 188 (dk_at dksX7_force_3 0 rfl rfl)
theorem dX7_force_74 : decode cX7_force 74 = .ok (.iconst 1, 1) := dk_4 (dk_at dksX7_force_3 3 rfl rfl)
theorem dX7_force_75 : decode cX7_force 75 = .ok (.if_icmp .ne 17, 3) := dk_160 0 17 (dk_at dksX7_force_3 4 rfl rfl)
theorem dX7_force_78 : decode cX7_force 78 = .ok (.aload_n 0, 1) := dk_42 (dk_at dksX7_force_3 7 rfl rfl)
theorem dX7_force_79 : decode cX7_force 79 = .ok (.iload 5, 2) := dk_21 5 (dk_at dksX7_force_3 8 rfl rfl)
theorem dX7_force_81 : decode cX7_force 81 = .ok (.iconst 4, 1) := dk_7 (dk_at dksX7_force_3 10 rfl rfl)
theorem dX7_force_82 : decode cX7_force 82 = .ok (.invokevirtual 221, 3) := dk_182 0 221 (dk_at dksX7_force_3 11 rfl rfl)
theorem dX7_force_85 : decode cX7_force 85 = .ok (.ifCond .ne 7, 3) := dk_154 0 7 (dk_at dksX7_force_3 14 rfl rfl)
theorem dX7_force_88 : decode cX7_force 88 = .ok (.iconst 1, 1) := dk_4 (dk_at dksX7_force_3 17 rfl rfl)
theorem dX7_force_89 : decode cX7_force 89 = .ok (.goto 4, 3) := dk_167 0 4 (dk_at dksX7_force_3 18 rfl rfl)
theorem dX7_force_92 : decode cX7_force 92 = .ok (.iconst 0, 1) := dk_3 (dk_at dksX7_force_3 21 rfl rfl)
theorem dX7_force_93 : decode cX7_force 93 = .ok (.istore 6, 2) := dk_54 6 (dk_at dksX7_force_3 22 rfl rfl)
theorem dX7_force_95 : decode cX7_force 95 = .ok (.iload 6, 2) := dk_21 6 (dk_at dksX7_force_4 0 rfl rfl)
theorem dX7_force_97 : decode cX7_force 97 = .ok (.ifCond .eq 17, 3) := dk_153 0 17 (dk_at dksX7_force_4 2 rfl rfl)
theorem dX7_force_100 : decode cX7_force 100 = .ok (.aload_n 0, 1) := dk_42 (dk_at dksX7_force_4 5 rfl rfl)
theorem dX7_force_101 : decode cX7_force 101 = .ok (.iload 5, 2) := dk_21 5 (dk_at dksX7_force_4 6 rfl rfl)
theorem dX7_force_103 : decode cX7_force 103 = .ok (.bipush 16, 2) := dk_16 16 (dk_at dksX7_force_4 8 rfl rfl)
theorem dX7_force_105 : decode cX7_force 105 = .ok (.invokevirtual 221, 3) := dk_182 0 221 (dk_at dksX7_force_4 10 rfl rfl)
theorem dX7_force_108 : decode cX7_force 108 = .ok (.ifCond .eq 6, 3) := dk_153 0 6 (dk_at dksX7_force_4 13 rfl rfl)
theorem dX7_force_111 : decode cX7_force 111 = .ok (.goto 23, 3) := dk_167 0 23 (dk_at dksX7_force_4 16 rfl rfl)
theorem dX7_force_114 : decode cX7_force 114 = .ok (.iload 6, 2) := dk_21 6 (dk_at dksX7_force_4 19 rfl rfl)
theorem dX7_force_116 : decode cX7_force 116 = .ok (.ifCond .eq 6, 3) := dk_153 0 6 (dk_at dksX7_force_4 21 rfl rfl)
theorem dX7_force_119 : decode cX7_force 119 = .ok (.iload 5, 2) := dk_21 5 (dk_at dksX7_force_5 0 rfl rfl)
theorem dX7_force_121 : decode cX7_force 121 = .ok (.ireturn, 1) := dk_172 (dk_at dksX7_force_5 2 rfl rfl)
theorem dX7_force_122 : decode cX7_force 122 = .ok (.aload_n 0, 1) := dk_42 (dk_at dksX7_force_5 3 rfl rfl)
theorem dX7_force_123 : decode cX7_force 123 = .ok (.getfield 17, 3) := dk_180 0 17 (dk_at dksX7_force_5 4 rfl rfl)
theorem dX7_force_126 : decode cX7_force 126 = .ok (.iload 4, 2) := dk_21 4 (dk_at dksX7_force_5 7 rfl rfl)
theorem dX7_force_128 : decode cX7_force 128 = .ok (.iaload, 1) := dk_46 (dk_at dksX7_force_5 9 rfl rfl)
theorem dX7_force_129 : decode cX7_force 129 = .ok (.istore 4, 2) := dk_54 4 (dk_at dksX7_force_5 10 rfl rfl)
theorem dX7_force_131 : decode cX7_force 131 = .ok (.goto (-107), 3) := dk_167 255 149 (dk_at dksX7_force_5 12 rfl rfl)
theorem dX7_force_134 : decode cX7_force 134 = .ok (.iconst 0, 1) := dk_3 (dk_at dksX7_force_5 15 rfl rfl)
theorem dX7_force_135 : decode cX7_force 135 = .ok (.istore 4, 2) := dk_54 4 (dk_at dksX7_force_5 16 rfl rfl)
theorem dX7_force_137 : decode cX7_force 137 = .ok (.iload 4, 2) := dk_21 4 (dk_at dksX7_force_5 18 rfl rfl)
theorem dX7_force_139 : decode cX7_force 139 = .ok (.aload_n 0, 1) := dk_42 (dk_at dksX7_force_5 20 rfl rfl)
theorem dX7_force_140 : decode cX7_force 140 = .ok (.getfield 42, 3) := dk_180 0 42 (dk_at dksX7_force_5 21 rfl rfl)
theorem dX7_force_143 : decode cX7_force 143 = .ok (.iload_n 1, 1) := dk_27 (dk_at dksX7_force_6 0 rfl rfl)
theorem dX7_force_144 : decode cX7_force 144 = .ok (.iaload, 1) := dk_46 (dk_at dksX7_force_6 1 rfl rfl)
theorem dX7_force_145 : decode cX7_force 145 = .ok (.if_icmp .ge 83, 3) := dk_162 0 83 (dk_at dksX7_force_6 2 rfl rfl)
theorem dX7_force_148 : decode cX7_force 148 = .ok (.aload_n 0, 1) := dk_42 (dk_at dksX7_force_6 5 rfl rfl)
theorem dX7_force_149 : decode cX7_force 149 = .ok (.getfield 39, 3) := dk_180 0 39 (dk_at dksX7_force_6 6 rfl rfl)
theorem dX7_force_152 : decode cX7_force 152 = .ok (.bipush 60, 2) := dk_16 60 (dk_at dksX7_force_6 9 rfl rfl)
theorem dX7_force_154 : decode cX7_force 154 = .ok (.iload_n 1, 1) := dk_27 (dk_at dksX7_force_6 11 rfl rfl)
theorem dX7_force_155 : decode cX7_force 155 = .ok (.imul, 1) := dk_104 (dk_at dksX7_force_6 12 rfl rfl)
theorem dX7_force_156 : decode cX7_force 156 = .ok (.iload 4, 2) := dk_21 4 (dk_at dksX7_force_6 13 rfl rfl)
theorem dX7_force_158 : decode cX7_force 158 = .ok (.iadd, 1) := dk_96 (dk_at dksX7_force_6 15 rfl rfl)
theorem dX7_force_159 : decode cX7_force 159 = .ok (.iaload, 1) := dk_46 (dk_at dksX7_force_6 16 rfl rfl)
theorem dX7_force_160 : decode cX7_force 160 = .ok (.istore 5, 2) := dk_54 5 (dk_at dksX7_force_6 17 rfl rfl)
theorem dX7_force_162 : decode cX7_force 162 = .ok (.aload_n 0, 1) := dk_42 (dk_at dksX7_force_6 19 rfl rfl)
theorem dX7_force_163 : decode cX7_force 163 = .ok (.getfield 13, 3) := dk_180 0 13 (dk_at dksX7_force_6 20 rfl rfl)
theorem dX7_force_166 : decode cX7_force 166 = .ok (.iload 5, 2) := dk_21 5 (dk_at dksX7_force_7 0 rfl rfl)
theorem dX7_force_168 : decode cX7_force 168 = .ok (.iaload, 1) := dk_46 (dk_at dksX7_force_7 2 rfl rfl)
theorem dX7_force_169 : decode cX7_force 169 = .ok (.iconst 3, 1) := dk_6 (dk_at dksX7_force_7 3 rfl rfl)
theorem dX7_force_170 : decode cX7_force 170 = .ok (.if_icmp .ne 13, 3) := dk_160 0 13 (dk_at dksX7_force_7 4 rfl rfl)
theorem dX7_force_173 : decode cX7_force 173 = .ok (.aload_n 0, 1) := dk_42 (dk_at dksX7_force_7 7 rfl rfl)
theorem dX7_force_174 : decode cX7_force 174 = .ok (.iload 5, 2) := dk_21 5 (dk_at dksX7_force_7 8 rfl rfl)
theorem dX7_force_176 : decode cX7_force 176 = .ok (.iload_n 2, 1) := dk_28 (dk_at dksX7_force_7 10 rfl rfl)
theorem dX7_force_177 : decode cX7_force 177 = .ok (.invokevirtual 247, 3) := dk_182 0 247 (dk_at dksX7_force_7 11 rfl rfl)
theorem dX7_force_180 : decode cX7_force 180 = .ok (.goto 4, 3) := dk_167 0 4 (dk_at dksX7_force_7 14 rfl rfl)
theorem dX7_force_183 : decode cX7_force 183 = .ok (.iconst (-1), 1) := dk_2 (dk_at dksX7_force_7 17 rfl rfl)
theorem dX7_force_184 : decode cX7_force 184 = .ok (.istore 6, 2) := dk_54 6 (dk_at dksX7_force_7 18 rfl rfl)
theorem dX7_force_186 : decode cX7_force 186 = .ok (.iload 6, 2) := dk_21 6 (dk_at dksX7_force_7 20 rfl rfl)
theorem dX7_force_188 : decode cX7_force 188 = .ok (.iconst (-1), 1) := dk_2 (dk_at dksX7_force_7 22 rfl rfl)
theorem dX7_force_189 : decode cX7_force 189 = .ok (.if_icmp .eq 33, 3) := dk_159 0 33 (dk_at dksX7_force_8 0 rfl rfl)
theorem dX7_force_192 : decode cX7_force 192 = .ok (.iload 6, 2) := dk_21 6 (dk_at dksX7_force_8 3 rfl rfl)
theorem dX7_force_194 : decode cX7_force 194 = .ok (.iload_n 2, 1) := dk_28 (dk_at dksX7_force_8 5 rfl rfl)
theorem dX7_force_195 : decode cX7_force 195 = .ok (.if_icmp .eq 13, 3) := dk_159 0 13 (dk_at dksX7_force_8 6 rfl rfl)
theorem dX7_force_198 : decode cX7_force 198 = .ok (.aload_n 0, 1) := dk_42 (dk_at dksX7_force_8 9 rfl rfl)
theorem dX7_force_199 : decode cX7_force 199 = .ok (.iload 6, 2) := dk_21 6 (dk_at dksX7_force_8 10 rfl rfl)
theorem dX7_force_201 : decode cX7_force 201 = .ok (.iload_n 2, 1) := dk_28 (dk_at dksX7_force_8 12 rfl rfl)
theorem dX7_force_202 : decode cX7_force 202 = .ok (.invokevirtual 227, 3) := dk_182 0 227 (dk_at dksX7_force_8 13 rfl rfl)
theorem dX7_force_205 : decode cX7_force 205 = .ok (.ifCond .eq 17, 3) := dk_153 0 17 (dk_at dksX7_force_8 16 rfl rfl)
theorem dX7_force_208 : decode cX7_force 208 = .ok (.aload_n 0, 1) := dk_42 (dk_at dksX7_force_8 19 rfl rfl)
theorem dX7_force_209 : decode cX7_force 209 = .ok (.iload 6, 2) := dk_21 6 (dk_at dksX7_force_8 20 rfl rfl)
theorem dX7_force_211 : decode cX7_force 211 = .ok (.bipush 16, 2) := dk_16 16 (dk_at dksX7_force_8 22 rfl rfl)
theorem dX7_force_213 : decode cX7_force 213 = .ok (.invokevirtual 221, 3) := dk_182 0 221 (dk_at dksX7_force_9 0 rfl rfl)
theorem dX7_force_216 : decode cX7_force 216 = .ok (.ifCond .ne 6, 3) := dk_154 0 6 (dk_at dksX7_force_9 3 rfl rfl)
theorem dX7_force_219 : decode cX7_force 219 = .ok (.iload 6, 2) := dk_21 6 (dk_at dksX7_force_9 6 rfl rfl)
theorem dX7_force_221 : decode cX7_force 221 = .ok (.ireturn, 1) := dk_172 (dk_at dksX7_force_9 8 rfl rfl)
theorem dX7_force_222 : decode cX7_force 222 = .ok (.iinc 4 1, 3) := dk_132 4 1 (dk_at dksX7_force_9 9 rfl rfl)
theorem dX7_force_225 : decode cX7_force 225 = .ok (.goto (-88), 3) := dk_167 255 168 (dk_at dksX7_force_9 12 rfl rfl)
theorem dX7_force_228 : decode cX7_force 228 = .ok (.iconst (-1), 1) := dk_2 (dk_at dksX7_force_9 15 rfl rfl)
theorem dX7_force_229 : decode cX7_force 229 = .ok (.ireturn, 1) := dk_172 (dk_at dksX7_force_9 16 rfl rfl)
abbrev cX7_member : ByteArray := prog_30_method_51_code
def yX7_member : MethodName := ⟨RX7, "member", "(II)I"⟩
def dkwX7_member_8 : List UInt8 := [2, 172]
abbrev dktX7_member_8 : List UInt8 := dkwX7_member_8 ++ []
def dkwX7_member_7 : List UInt8 := [180, 0, 60, 27, 46, 162, 0, 19, 42, 180, 0, 63, 6, 27, 104, 28, 96, 16, 6, 100, 46, 167, 0, 4]
abbrev dktX7_member_7 : List UInt8 := dkwX7_member_7 ++ dktX7_member_8
def dkwX7_member_6 : List UInt8 := [182, 0, 221, 153, 0, 7, 2, 167, 0, 9, 42, 180, 0, 72, 27, 46, 172, 28, 16, 6, 100, 42]
abbrev dktX7_member_6 : List UInt8 := dkwX7_member_6 ++ dktX7_member_7
def dkwX7_member_5 : List UInt8 := [51, 153, 0, 7, 4, 167, 0, 4, 3, 172, 42, 180, 0, 54, 27, 51, 154, 0, 13, 42, 27, 16, 16]
abbrev dktX7_member_5 : List UInt8 := dkwX7_member_5 ++ dktX7_member_6
def dkwX7_member_4 : List UInt8 := [180, 0, 54, 27, 51, 153, 0, 7, 2, 167, 0, 9, 42, 180, 0, 60, 27, 46, 172, 42, 180, 0, 66, 27]
abbrev dktX7_member_4 : List UInt8 := dkwX7_member_4 ++ dktX7_member_5
def dkwX7_member_3 : List UInt8 := [180, 0, 54, 27, 51, 153, 0, 7, 4, 167, 0, 4, 3, 172, 42, 180, 0, 57, 27, 46, 172, 42]
abbrev dktX7_member_3 : List UInt8 := dkwX7_member_3 ++ dktX7_member_4
def dkwX7_member_2 : List UInt8 := [42, 180, 0, 45, 27, 46, 172, 42, 180, 0, 48, 27, 46, 172, 42, 180, 0, 51, 27, 46, 172, 42]
abbrev dktX7_member_2 : List UInt8 := dkwX7_member_2 ++ dktX7_member_3
def dkwX7_member_1 : List UInt8 := [170, 0, 0, 0, 0, 0, 0, 168, 0, 0, 0, 0, 0, 0, 0, 10, 0, 0, 0, 60, 0, 0, 0, 67, 0, 0, 0, 74, 0, 0, 0, 81, 0, 0, 0, 96, 0, 0, 0, 103, 0, 0, 0, 168, 0, 0, 0, 168, 0, 0, 0, 168, 0, 0, 0, 123, 0, 0, 0, 138]
abbrev dktX7_member_1 : List UInt8 := dkwX7_member_1 ++ dktX7_member_2
def dkwX7_member_0 : List UInt8 := [42, 27, 182, 0, 185, 153, 0, 15, 28, 133, 9, 20, 1, 3, 184, 0, 127, 154, 0, 6, 16, 253, 172, 28]
abbrev dktX7_member_0 : List UInt8 := dkwX7_member_0 ++ dktX7_member_1
theorem dksX7_member_0 : cX7_member.data.toList.drop 0 = dktX7_member_0 := by decide +kernel
theorem dksX7_member_1 : cX7_member.data.toList.drop 24 = dktX7_member_1 := dk_seg dksX7_member_0 24 rfl rfl
theorem dksX7_member_2 : cX7_member.data.toList.drop 84 = dktX7_member_2 := dk_seg dksX7_member_1 60 rfl rfl
theorem dksX7_member_3 : cX7_member.data.toList.drop 106 = dktX7_member_3 := dk_seg dksX7_member_2 22 rfl rfl
theorem dksX7_member_4 : cX7_member.data.toList.drop 128 = dktX7_member_4 := dk_seg dksX7_member_3 22 rfl rfl
theorem dksX7_member_5 : cX7_member.data.toList.drop 152 = dktX7_member_5 := dk_seg dksX7_member_4 24 rfl rfl
theorem dksX7_member_6 : cX7_member.data.toList.drop 175 = dktX7_member_6 := dk_seg dksX7_member_5 23 rfl rfl
theorem dksX7_member_7 : cX7_member.data.toList.drop 197 = dktX7_member_7 := dk_seg dksX7_member_6 22 rfl rfl
theorem dksX7_member_8 : cX7_member.data.toList.drop 221 = dktX7_member_8 := dk_seg dksX7_member_7 24 rfl rfl
theorem dX7_member_0 : decode cX7_member 0 = .ok (.aload_n 0, 1) := dk_42 (dk_at dksX7_member_0 0 rfl rfl)
theorem dX7_member_1 : decode cX7_member 1 = .ok (.iload_n 1, 1) := dk_27 (dk_at dksX7_member_0 1 rfl rfl)
theorem dX7_member_2 : decode cX7_member 2 = .ok (.invokevirtual 185, 3) := dk_182 0 185 (dk_at dksX7_member_0 2 rfl rfl)
theorem dX7_member_5 : decode cX7_member 5 = .ok (.ifCond .eq 15, 3) := dk_153 0 15 (dk_at dksX7_member_0 5 rfl rfl)
theorem dX7_member_8 : decode cX7_member 8 = .ok (.iload_n 2, 1) := dk_28 (dk_at dksX7_member_0 8 rfl rfl)
theorem dX7_member_9 : decode cX7_member 9 = .ok (.i2l, 1) := dk_133 (dk_at dksX7_member_0 9 rfl rfl)
theorem dX7_member_10 : decode cX7_member 10 = .ok (.lconst 0, 1) := dk_9 (dk_at dksX7_member_0 10 rfl rfl)
theorem dX7_member_11 : decode cX7_member 11 = .ok (.ldc2_w 259, 3) := dk_20 1 3 (dk_at dksX7_member_0 11 rfl rfl)
theorem dX7_member_14 : decode cX7_member 14 = .ok (.invokestatic 127, 3) := dk_184 0 127 (dk_at dksX7_member_0 14 rfl rfl)
theorem dX7_member_17 : decode cX7_member 17 = .ok (.ifCond .ne 6, 3) := dk_154 0 6 (dk_at dksX7_member_0 17 rfl rfl)
theorem dX7_member_20 : decode cX7_member 20 = .ok (.bipush (-3), 2) := dk_16 253 (dk_at dksX7_member_0 20 rfl rfl)
theorem dX7_member_22 : decode cX7_member 22 = .ok (.ireturn, 1) := dk_172 (dk_at dksX7_member_0 22 rfl rfl)
theorem dX7_member_23 : decode cX7_member 23 = .ok (.iload_n 2, 1) := dk_28 (dk_at dksX7_member_0 23 rfl rfl)
theorem dX7_member_24 : decode cX7_member 24 = .ok (.tableswitch 168 0 10 #[60, 67, 74, 81, 96, 103, 168, 168, 168, 123, 138], 60) := by decide +kernel
theorem dX7_member_84 : decode cX7_member 84 = .ok (.aload_n 0, 1) := dk_42 (dk_at dksX7_member_2 0 rfl rfl)
theorem dX7_member_85 : decode cX7_member 85 = .ok (.getfield 45, 3) := dk_180 0 45 (dk_at dksX7_member_2 1 rfl rfl)
theorem dX7_member_88 : decode cX7_member 88 = .ok (.iload_n 1, 1) := dk_27 (dk_at dksX7_member_2 4 rfl rfl)
theorem dX7_member_89 : decode cX7_member 89 = .ok (.iaload, 1) := dk_46 (dk_at dksX7_member_2 5 rfl rfl)
theorem dX7_member_90 : decode cX7_member 90 = .ok (.ireturn, 1) := dk_172 (dk_at dksX7_member_2 6 rfl rfl)
theorem dX7_member_91 : decode cX7_member 91 = .ok (.aload_n 0, 1) := dk_42 (dk_at dksX7_member_2 7 rfl rfl)
theorem dX7_member_92 : decode cX7_member 92 = .ok (.getfield 48, 3) := dk_180 0 48 (dk_at dksX7_member_2 8 rfl rfl)
theorem dX7_member_95 : decode cX7_member 95 = .ok (.iload_n 1, 1) := dk_27 (dk_at dksX7_member_2 11 rfl rfl)
theorem dX7_member_96 : decode cX7_member 96 = .ok (.iaload, 1) := dk_46 (dk_at dksX7_member_2 12 rfl rfl)
theorem dX7_member_97 : decode cX7_member 97 = .ok (.ireturn, 1) := dk_172 (dk_at dksX7_member_2 13 rfl rfl)
theorem dX7_member_98 : decode cX7_member 98 = .ok (.aload_n 0, 1) := dk_42 (dk_at dksX7_member_2 14 rfl rfl)
theorem dX7_member_99 : decode cX7_member 99 = .ok (.getfield 51, 3) := dk_180 0 51 (dk_at dksX7_member_2 15 rfl rfl)
theorem dX7_member_102 : decode cX7_member 102 = .ok (.iload_n 1, 1) := dk_27 (dk_at dksX7_member_2 18 rfl rfl)
theorem dX7_member_103 : decode cX7_member 103 = .ok (.iaload, 1) := dk_46 (dk_at dksX7_member_2 19 rfl rfl)
theorem dX7_member_104 : decode cX7_member 104 = .ok (.ireturn, 1) := dk_172 (dk_at dksX7_member_2 20 rfl rfl)
theorem dX7_member_105 : decode cX7_member 105 = .ok (.aload_n 0, 1) := dk_42 (dk_at dksX7_member_2 21 rfl rfl)
theorem dX7_member_106 : decode cX7_member 106 = .ok (.getfield 54, 3) := dk_180 0 54 (dk_at dksX7_member_3 0 rfl rfl)
theorem dX7_member_109 : decode cX7_member 109 = .ok (.iload_n 1, 1) := dk_27 (dk_at dksX7_member_3 3 rfl rfl)
theorem dX7_member_110 : decode cX7_member 110 = .ok (.baload, 1) := dk_51 (dk_at dksX7_member_3 4 rfl rfl)
theorem dX7_member_111 : decode cX7_member 111 = .ok (.ifCond .eq 7, 3) := dk_153 0 7 (dk_at dksX7_member_3 5 rfl rfl)
theorem dX7_member_114 : decode cX7_member 114 = .ok (.iconst 1, 1) := dk_4 (dk_at dksX7_member_3 8 rfl rfl)
theorem dX7_member_115 : decode cX7_member 115 = .ok (.goto 4, 3) := dk_167 0 4 (dk_at dksX7_member_3 9 rfl rfl)
theorem dX7_member_118 : decode cX7_member 118 = .ok (.iconst 0, 1) := dk_3 (dk_at dksX7_member_3 12 rfl rfl)
theorem dX7_member_119 : decode cX7_member 119 = .ok (.ireturn, 1) := dk_172 (dk_at dksX7_member_3 13 rfl rfl)
theorem dX7_member_120 : decode cX7_member 120 = .ok (.aload_n 0, 1) := dk_42 (dk_at dksX7_member_3 14 rfl rfl)
theorem dX7_member_121 : decode cX7_member 121 = .ok (.getfield 57, 3) := dk_180 0 57 (dk_at dksX7_member_3 15 rfl rfl)
theorem dX7_member_124 : decode cX7_member 124 = .ok (.iload_n 1, 1) := dk_27 (dk_at dksX7_member_3 18 rfl rfl)
theorem dX7_member_125 : decode cX7_member 125 = .ok (.iaload, 1) := dk_46 (dk_at dksX7_member_3 19 rfl rfl)
theorem dX7_member_126 : decode cX7_member 126 = .ok (.ireturn, 1) := dk_172 (dk_at dksX7_member_3 20 rfl rfl)
theorem dX7_member_127 : decode cX7_member 127 = .ok (.aload_n 0, 1) := dk_42 (dk_at dksX7_member_3 21 rfl rfl)
theorem dX7_member_128 : decode cX7_member 128 = .ok (.getfield 54, 3) := dk_180 0 54 (dk_at dksX7_member_4 0 rfl rfl)
theorem dX7_member_131 : decode cX7_member 131 = .ok (.iload_n 1, 1) := dk_27 (dk_at dksX7_member_4 3 rfl rfl)
theorem dX7_member_132 : decode cX7_member 132 = .ok (.baload, 1) := dk_51 (dk_at dksX7_member_4 4 rfl rfl)
theorem dX7_member_133 : decode cX7_member 133 = .ok (.ifCond .eq 7, 3) := dk_153 0 7 (dk_at dksX7_member_4 5 rfl rfl)
theorem dX7_member_136 : decode cX7_member 136 = .ok (.iconst (-1), 1) := dk_2 (dk_at dksX7_member_4 8 rfl rfl)
theorem dX7_member_137 : decode cX7_member 137 = .ok (.goto 9, 3) := dk_167 0 9 (dk_at dksX7_member_4 9 rfl rfl)
theorem dX7_member_140 : decode cX7_member 140 = .ok (.aload_n 0, 1) := dk_42 (dk_at dksX7_member_4 12 rfl rfl)
theorem dX7_member_141 : decode cX7_member 141 = .ok (.getfield 60, 3) := dk_180 0 60 (dk_at dksX7_member_4 13 rfl rfl)
theorem dX7_member_144 : decode cX7_member 144 = .ok (.iload_n 1, 1) := dk_27 (dk_at dksX7_member_4 16 rfl rfl)
theorem dX7_member_145 : decode cX7_member 145 = .ok (.iaload, 1) := dk_46 (dk_at dksX7_member_4 17 rfl rfl)
theorem dX7_member_146 : decode cX7_member 146 = .ok (.ireturn, 1) := dk_172 (dk_at dksX7_member_4 18 rfl rfl)
theorem dX7_member_147 : decode cX7_member 147 = .ok (.aload_n 0, 1) := dk_42 (dk_at dksX7_member_4 19 rfl rfl)
theorem dX7_member_148 : decode cX7_member 148 = .ok (.getfield 66, 3) := dk_180 0 66 (dk_at dksX7_member_4 20 rfl rfl)
theorem dX7_member_151 : decode cX7_member 151 = .ok (.iload_n 1, 1) := dk_27 (dk_at dksX7_member_4 23 rfl rfl)
theorem dX7_member_152 : decode cX7_member 152 = .ok (.baload, 1) := dk_51 (dk_at dksX7_member_5 0 rfl rfl)
theorem dX7_member_153 : decode cX7_member 153 = .ok (.ifCond .eq 7, 3) := dk_153 0 7 (dk_at dksX7_member_5 1 rfl rfl)
theorem dX7_member_156 : decode cX7_member 156 = .ok (.iconst 1, 1) := dk_4 (dk_at dksX7_member_5 4 rfl rfl)
theorem dX7_member_157 : decode cX7_member 157 = .ok (.goto 4, 3) := dk_167 0 4 (dk_at dksX7_member_5 5 rfl rfl)
theorem dX7_member_160 : decode cX7_member 160 = .ok (.iconst 0, 1) := dk_3 (dk_at dksX7_member_5 8 rfl rfl)
theorem dX7_member_161 : decode cX7_member 161 = .ok (.ireturn, 1) := dk_172 (dk_at dksX7_member_5 9 rfl rfl)
theorem dX7_member_162 : decode cX7_member 162 = .ok (.aload_n 0, 1) := dk_42 (dk_at dksX7_member_5 10 rfl rfl)
theorem dX7_member_163 : decode cX7_member 163 = .ok (.getfield 54, 3) := dk_180 0 54 (dk_at dksX7_member_5 11 rfl rfl)
theorem dX7_member_166 : decode cX7_member 166 = .ok (.iload_n 1, 1) := dk_27 (dk_at dksX7_member_5 14 rfl rfl)
theorem dX7_member_167 : decode cX7_member 167 = .ok (.baload, 1) := dk_51 (dk_at dksX7_member_5 15 rfl rfl)
theorem dX7_member_168 : decode cX7_member 168 = .ok (.ifCond .ne 13, 3) := dk_154 0 13 (dk_at dksX7_member_5 16 rfl rfl)
theorem dX7_member_171 : decode cX7_member 171 = .ok (.aload_n 0, 1) := dk_42 (dk_at dksX7_member_5 19 rfl rfl)
theorem dX7_member_172 : decode cX7_member 172 = .ok (.iload_n 1, 1) := dk_27 (dk_at dksX7_member_5 20 rfl rfl)
theorem dX7_member_173 : decode cX7_member 173 = .ok (.bipush 16, 2) := dk_16 16 (dk_at dksX7_member_5 21 rfl rfl)
theorem dX7_member_175 : decode cX7_member 175 = .ok (.invokevirtual 221, 3) := dk_182 0 221 (dk_at dksX7_member_6 0 rfl rfl)
theorem dX7_member_178 : decode cX7_member 178 = .ok (.ifCond .eq 7, 3) := dk_153 0 7 (dk_at dksX7_member_6 3 rfl rfl)
theorem dX7_member_181 : decode cX7_member 181 = .ok (.iconst (-1), 1) := dk_2 (dk_at dksX7_member_6 6 rfl rfl)
theorem dX7_member_182 : decode cX7_member 182 = .ok (.goto 9, 3) := dk_167 0 9 (dk_at dksX7_member_6 7 rfl rfl)
theorem dX7_member_185 : decode cX7_member 185 = .ok (.aload_n 0, 1) := dk_42 (dk_at dksX7_member_6 10 rfl rfl)
theorem dX7_member_186 : decode cX7_member 186 = .ok (.getfield 72, 3) := dk_180 0 72 (dk_at dksX7_member_6 11 rfl rfl)
theorem dX7_member_189 : decode cX7_member 189 = .ok (.iload_n 1, 1) := dk_27 (dk_at dksX7_member_6 14 rfl rfl)
theorem dX7_member_190 : decode cX7_member 190 = .ok (.iaload, 1) := dk_46 (dk_at dksX7_member_6 15 rfl rfl)
theorem dX7_member_191 : decode cX7_member 191 = .ok (.ireturn, 1) := dk_172 (dk_at dksX7_member_6 16 rfl rfl)
theorem dX7_member_192 : decode cX7_member 192 = .ok (.iload_n 2, 1) := dk_28 (dk_at dksX7_member_6 17 rfl rfl)
theorem dX7_member_193 : decode cX7_member 193 = .ok (.bipush 6, 2) := dk_16 6 (dk_at dksX7_member_6 18 rfl rfl)
theorem dX7_member_195 : decode cX7_member 195 = .ok (.isub, 1) := dk_100 (dk_at dksX7_member_6 20 rfl rfl)
theorem dX7_member_196 : decode cX7_member 196 = .ok (.aload_n 0, 1) := dk_42 (dk_at dksX7_member_6 21 rfl rfl)
theorem dX7_member_197 : decode cX7_member 197 = .ok (.getfield 60, 3) := dk_180 0 60 (dk_at dksX7_member_7 0 rfl rfl)
theorem dX7_member_200 : decode cX7_member 200 = .ok (.iload_n 1, 1) := dk_27 (dk_at dksX7_member_7 3 rfl rfl)
theorem dX7_member_201 : decode cX7_member 201 = .ok (.iaload, 1) := dk_46 (dk_at dksX7_member_7 4 rfl rfl)
theorem dX7_member_202 : decode cX7_member 202 = .ok (.if_icmp .ge 19, 3) := dk_162 0 19 (dk_at dksX7_member_7 5 rfl rfl)
theorem dX7_member_205 : decode cX7_member 205 = .ok (.aload_n 0, 1) := dk_42 (dk_at dksX7_member_7 8 rfl rfl)
theorem dX7_member_206 : decode cX7_member 206 = .ok (.getfield 63, 3) := dk_180 0 63 (dk_at dksX7_member_7 9 rfl rfl)
theorem dX7_member_209 : decode cX7_member 209 = .ok (.iconst 3, 1) := dk_6 (dk_at dksX7_member_7 12 rfl rfl)
theorem dX7_member_210 : decode cX7_member 210 = .ok (.iload_n 1, 1) := dk_27 (dk_at dksX7_member_7 13 rfl rfl)
theorem dX7_member_211 : decode cX7_member 211 = .ok (.imul, 1) := dk_104 (dk_at dksX7_member_7 14 rfl rfl)
theorem dX7_member_212 : decode cX7_member 212 = .ok (.iload_n 2, 1) := dk_28 (dk_at dksX7_member_7 15 rfl rfl)
theorem dX7_member_213 : decode cX7_member 213 = .ok (.iadd, 1) := dk_96 (dk_at dksX7_member_7 16 rfl rfl)
theorem dX7_member_214 : decode cX7_member 214 = .ok (.bipush 6, 2) := dk_16 6 (dk_at dksX7_member_7 17 rfl rfl)
theorem dX7_member_216 : decode cX7_member 216 = .ok (.isub, 1) := dk_100 (dk_at dksX7_member_7 19 rfl rfl)
theorem dX7_member_217 : decode cX7_member 217 = .ok (.iaload, 1) := dk_46 (dk_at dksX7_member_7 20 rfl rfl)
theorem dX7_member_218 : decode cX7_member 218 = .ok (.goto 4, 3) := dk_167 0 4 (dk_at dksX7_member_7 21 rfl rfl)
theorem dX7_member_221 : decode cX7_member 221 = .ok (.iconst (-1), 1) := dk_2 (dk_at dksX7_member_8 0 rfl rfl)
theorem dX7_member_222 : decode cX7_member 222 = .ok (.ireturn, 1) := dk_172 (dk_at dksX7_member_8 1 rfl rfl)
abbrev cX7_declared : ByteArray := prog_30_method_52_code
def yX7_declared : MethodName := ⟨RX7, "declared", "(II)I"⟩
def dkwX7_declared_2 : List UInt8 := [132, 3, 255, 132, 4, 1, 167, 255, 223, 2, 172]
abbrev dktX7_declared_2 : List UInt8 := dkwX7_declared_2 ++ []
def dkwX7_declared_1 : List UInt8 := [180, 0, 182, 162, 0, 30, 42, 180, 0, 45, 21, 4, 46, 27, 160, 0, 13, 29, 154, 0, 6, 21, 4, 172]
abbrev dktX7_declared_1 : List UInt8 := dkwX7_declared_1 ++ dktX7_declared_2
def dkwX7_declared_0 : List UInt8 := [42, 27, 182, 0, 131, 153, 0, 7, 28, 156, 0, 5, 2, 172, 28, 62, 3, 54, 4, 21, 4, 42]
abbrev dktX7_declared_0 : List UInt8 := dkwX7_declared_0 ++ dktX7_declared_1
theorem dksX7_declared_0 : cX7_declared.data.toList.drop 0 = dktX7_declared_0 := by decide +kernel
theorem dksX7_declared_1 : cX7_declared.data.toList.drop 22 = dktX7_declared_1 := dk_seg dksX7_declared_0 22 rfl rfl
theorem dksX7_declared_2 : cX7_declared.data.toList.drop 46 = dktX7_declared_2 := dk_seg dksX7_declared_1 24 rfl rfl
theorem dX7_declared_0 : decode cX7_declared 0 = .ok (.aload_n 0, 1) := dk_42 (dk_at dksX7_declared_0 0 rfl rfl)
theorem dX7_declared_1 : decode cX7_declared 1 = .ok (.iload_n 1, 1) := dk_27 (dk_at dksX7_declared_0 1 rfl rfl)
theorem dX7_declared_2 : decode cX7_declared 2 = .ok (.invokevirtual 131, 3) := dk_182 0 131 (dk_at dksX7_declared_0 2 rfl rfl)
theorem dX7_declared_5 : decode cX7_declared 5 = .ok (.ifCond .eq 7, 3) := dk_153 0 7 (dk_at dksX7_declared_0 5 rfl rfl)
theorem dX7_declared_8 : decode cX7_declared 8 = .ok (.iload_n 2, 1) := dk_28 (dk_at dksX7_declared_0 8 rfl rfl)
theorem dX7_declared_9 : decode cX7_declared 9 = .ok (.ifCond .ge 5, 3) := dk_156 0 5 (dk_at dksX7_declared_0 9 rfl rfl)
theorem dX7_declared_12 : decode cX7_declared 12 = .ok (.iconst (-1), 1) := dk_2 (dk_at dksX7_declared_0 12 rfl rfl)
theorem dX7_declared_13 : decode cX7_declared 13 = .ok (.ireturn, 1) := dk_172 (dk_at dksX7_declared_0 13 rfl rfl)
theorem dX7_declared_14 : decode cX7_declared 14 = .ok (.iload_n 2, 1) := dk_28 (dk_at dksX7_declared_0 14 rfl rfl)
theorem dX7_declared_15 : decode cX7_declared 15 = .ok (.istore_n 3, 1) := dk_62 (dk_at dksX7_declared_0 15 rfl rfl)
theorem dX7_declared_16 : decode cX7_declared 16 = .ok (.iconst 0, 1) := dk_3 (dk_at dksX7_declared_0 16 rfl rfl)
theorem dX7_declared_17 : decode cX7_declared 17 = .ok (.istore 4, 2) := dk_54 4 (dk_at dksX7_declared_0 17 rfl rfl)
theorem dX7_declared_19 : decode cX7_declared 19 = .ok (.iload 4, 2) := dk_21 4 (dk_at dksX7_declared_0 19 rfl rfl)
theorem dX7_declared_21 : decode cX7_declared 21 = .ok (.aload_n 0, 1) := dk_42 (dk_at dksX7_declared_0 21 rfl rfl)
theorem dX7_declared_22 : decode cX7_declared 22 = .ok (.getfield 182, 3) := dk_180 0 182 (dk_at dksX7_declared_1 0 rfl rfl)
theorem dX7_declared_25 : decode cX7_declared 25 = .ok (.if_icmp .ge 30, 3) := dk_162 0 30 (dk_at dksX7_declared_1 3 rfl rfl)
theorem dX7_declared_28 : decode cX7_declared 28 = .ok (.aload_n 0, 1) := dk_42 (dk_at dksX7_declared_1 6 rfl rfl)
theorem dX7_declared_29 : decode cX7_declared 29 = .ok (.getfield 45, 3) := dk_180 0 45 (dk_at dksX7_declared_1 7 rfl rfl)
theorem dX7_declared_32 : decode cX7_declared 32 = .ok (.iload 4, 2) := dk_21 4 (dk_at dksX7_declared_1 10 rfl rfl)
theorem dX7_declared_34 : decode cX7_declared 34 = .ok (.iaload, 1) := dk_46 (dk_at dksX7_declared_1 12 rfl rfl)
theorem dX7_declared_35 : decode cX7_declared 35 = .ok (.iload_n 1, 1) := dk_27 (dk_at dksX7_declared_1 13 rfl rfl)
theorem dX7_declared_36 : decode cX7_declared 36 = .ok (.if_icmp .ne 13, 3) := dk_160 0 13 (dk_at dksX7_declared_1 14 rfl rfl)
theorem dX7_declared_39 : decode cX7_declared 39 = .ok (.iload_n 3, 1) := dk_29 (dk_at dksX7_declared_1 17 rfl rfl)
theorem dX7_declared_40 : decode cX7_declared 40 = .ok (.ifCond .ne 6, 3) := dk_154 0 6 (dk_at dksX7_declared_1 18 rfl rfl)
theorem dX7_declared_43 : decode cX7_declared 43 = .ok (.iload 4, 2) := dk_21 4 (dk_at dksX7_declared_1 21 rfl rfl)
theorem dX7_declared_45 : decode cX7_declared 45 = .ok (.ireturn, 1) := dk_172 (dk_at dksX7_declared_1 23 rfl rfl)
theorem dX7_declared_46 : decode cX7_declared 46 = .ok (.iinc 3 (-1), 3) := dk_132 3 255 (dk_at dksX7_declared_2 0 rfl rfl)
theorem dX7_declared_49 : decode cX7_declared 49 = .ok (.iinc 4 1, 3) := dk_132 4 1 (dk_at dksX7_declared_2 3 rfl rfl)
theorem dX7_declared_52 : decode cX7_declared 52 = .ok (.goto (-33), 3) := dk_167 255 223 (dk_at dksX7_declared_2 6 rfl rfl)
theorem dX7_declared_55 : decode cX7_declared 55 = .ok (.iconst (-1), 1) := dk_2 (dk_at dksX7_declared_2 9 rfl rfl)
theorem dX7_declared_56 : decode cX7_declared 56 = .ok (.ireturn, 1) := dk_172 (dk_at dksX7_declared_2 10 rfl rfl)
abbrev cX7_open : ByteArray := prog_30_method_53_code
def yX7_open : MethodName := ⟨RX7, "open", "(IZ)I"⟩
def dkwX7_open_1 : List UInt8 := [62, 42, 180, 0, 66, 27, 28, 84, 29, 172]
abbrev dktX7_open_1 : List UInt8 := dkwX7_open_1 ++ []
def dkwX7_open_0 : List UInt8 := [42, 27, 182, 0, 185, 154, 0, 5, 2, 172, 42, 180, 0, 66, 27, 51, 153, 0, 7, 4, 167, 0, 4, 3]
abbrev dktX7_open_0 : List UInt8 := dkwX7_open_0 ++ dktX7_open_1
theorem dksX7_open_0 : cX7_open.data.toList.drop 0 = dktX7_open_0 := by decide +kernel
theorem dksX7_open_1 : cX7_open.data.toList.drop 24 = dktX7_open_1 := dk_seg dksX7_open_0 24 rfl rfl
theorem dX7_open_0 : decode cX7_open 0 = .ok (.aload_n 0, 1) := dk_42 (dk_at dksX7_open_0 0 rfl rfl)
theorem dX7_open_1 : decode cX7_open 1 = .ok (.iload_n 1, 1) := dk_27 (dk_at dksX7_open_0 1 rfl rfl)
theorem dX7_open_2 : decode cX7_open 2 = .ok (.invokevirtual 185, 3) := dk_182 0 185 (dk_at dksX7_open_0 2 rfl rfl)
theorem dX7_open_5 : decode cX7_open 5 = .ok (.ifCond .ne 5, 3) := dk_154 0 5 (dk_at dksX7_open_0 5 rfl rfl)
theorem dX7_open_8 : decode cX7_open 8 = .ok (.iconst (-1), 1) := dk_2 (dk_at dksX7_open_0 8 rfl rfl)
theorem dX7_open_9 : decode cX7_open 9 = .ok (.ireturn, 1) := dk_172 (dk_at dksX7_open_0 9 rfl rfl)
theorem dX7_open_10 : decode cX7_open 10 = .ok (.aload_n 0, 1) := dk_42 (dk_at dksX7_open_0 10 rfl rfl)
theorem dX7_open_11 : decode cX7_open 11 = .ok (.getfield 66, 3) := dk_180 0 66 (dk_at dksX7_open_0 11 rfl rfl)
theorem dX7_open_14 : decode cX7_open 14 = .ok (.iload_n 1, 1) := dk_27 (dk_at dksX7_open_0 14 rfl rfl)
theorem dX7_open_15 : decode cX7_open 15 = .ok (.baload, 1) := dk_51 (dk_at dksX7_open_0 15 rfl rfl)
theorem dX7_open_16 : decode cX7_open 16 = .ok (.ifCond .eq 7, 3) := dk_153 0 7 (dk_at dksX7_open_0 16 rfl rfl)
theorem dX7_open_19 : decode cX7_open 19 = .ok (.iconst 1, 1) := dk_4 (dk_at dksX7_open_0 19 rfl rfl)
theorem dX7_open_20 : decode cX7_open 20 = .ok (.goto 4, 3) := dk_167 0 4 (dk_at dksX7_open_0 20 rfl rfl)
theorem dX7_open_23 : decode cX7_open 23 = .ok (.iconst 0, 1) := dk_3 (dk_at dksX7_open_0 23 rfl rfl)
theorem dX7_open_24 : decode cX7_open 24 = .ok (.istore_n 3, 1) := dk_62 (dk_at dksX7_open_1 0 rfl rfl)
theorem dX7_open_25 : decode cX7_open 25 = .ok (.aload_n 0, 1) := dk_42 (dk_at dksX7_open_1 1 rfl rfl)
theorem dX7_open_26 : decode cX7_open 26 = .ok (.getfield 66, 3) := dk_180 0 66 (dk_at dksX7_open_1 2 rfl rfl)
theorem dX7_open_29 : decode cX7_open 29 = .ok (.iload_n 1, 1) := dk_27 (dk_at dksX7_open_1 5 rfl rfl)
theorem dX7_open_30 : decode cX7_open 30 = .ok (.iload_n 2, 1) := dk_28 (dk_at dksX7_open_1 6 rfl rfl)
theorem dX7_open_31 : decode cX7_open 31 = .ok (.bastore, 1) := dk_84 (dk_at dksX7_open_1 7 rfl rfl)
theorem dX7_open_32 : decode cX7_open 32 = .ok (.iload_n 3, 1) := dk_29 (dk_at dksX7_open_1 8 rfl rfl)
theorem dX7_open_33 : decode cX7_open 33 = .ok (.ireturn, 1) := dk_172 (dk_at dksX7_open_1 9 rfl rfl)
abbrev cX7_caller : ByteArray := prog_30_method_54_code
def yX7_caller : MethodName := ⟨RX7, "caller", "(I)I"⟩
def dkwX7_caller_1 : List UInt8 := [61, 42, 27, 181, 0, 106, 28, 172]
abbrev dktX7_caller_1 : List UInt8 := dkwX7_caller_1 ++ []
def dkwX7_caller_0 : List UInt8 := [42, 27, 182, 0, 179, 153, 0, 13, 42, 180, 0, 13, 27, 46, 7, 160, 0, 5, 2, 172, 42, 180, 0, 106]
abbrev dktX7_caller_0 : List UInt8 := dkwX7_caller_0 ++ dktX7_caller_1
theorem dksX7_caller_0 : cX7_caller.data.toList.drop 0 = dktX7_caller_0 := by decide +kernel
theorem dksX7_caller_1 : cX7_caller.data.toList.drop 24 = dktX7_caller_1 := dk_seg dksX7_caller_0 24 rfl rfl
theorem dX7_caller_0 : decode cX7_caller 0 = .ok (.aload_n 0, 1) := dk_42 (dk_at dksX7_caller_0 0 rfl rfl)
theorem dX7_caller_1 : decode cX7_caller 1 = .ok (.iload_n 1, 1) := dk_27 (dk_at dksX7_caller_0 1 rfl rfl)
theorem dX7_caller_2 : decode cX7_caller 2 = .ok (.invokevirtual 179, 3) := dk_182 0 179 (dk_at dksX7_caller_0 2 rfl rfl)
theorem dX7_caller_5 : decode cX7_caller 5 = .ok (.ifCond .eq 13, 3) := dk_153 0 13 (dk_at dksX7_caller_0 5 rfl rfl)
theorem dX7_caller_8 : decode cX7_caller 8 = .ok (.aload_n 0, 1) := dk_42 (dk_at dksX7_caller_0 8 rfl rfl)
theorem dX7_caller_9 : decode cX7_caller 9 = .ok (.getfield 13, 3) := dk_180 0 13 (dk_at dksX7_caller_0 9 rfl rfl)
theorem dX7_caller_12 : decode cX7_caller 12 = .ok (.iload_n 1, 1) := dk_27 (dk_at dksX7_caller_0 12 rfl rfl)
theorem dX7_caller_13 : decode cX7_caller 13 = .ok (.iaload, 1) := dk_46 (dk_at dksX7_caller_0 13 rfl rfl)
theorem dX7_caller_14 : decode cX7_caller 14 = .ok (.iconst 4, 1) := dk_7 (dk_at dksX7_caller_0 14 rfl rfl)
theorem dX7_caller_15 : decode cX7_caller 15 = .ok (.if_icmp .ne 5, 3) := dk_160 0 5 (dk_at dksX7_caller_0 15 rfl rfl)
theorem dX7_caller_18 : decode cX7_caller 18 = .ok (.iconst (-1), 1) := dk_2 (dk_at dksX7_caller_0 18 rfl rfl)
theorem dX7_caller_19 : decode cX7_caller 19 = .ok (.ireturn, 1) := dk_172 (dk_at dksX7_caller_0 19 rfl rfl)
theorem dX7_caller_20 : decode cX7_caller 20 = .ok (.aload_n 0, 1) := dk_42 (dk_at dksX7_caller_0 20 rfl rfl)
theorem dX7_caller_21 : decode cX7_caller 21 = .ok (.getfield 106, 3) := dk_180 0 106 (dk_at dksX7_caller_0 21 rfl rfl)
theorem dX7_caller_24 : decode cX7_caller 24 = .ok (.istore_n 2, 1) := dk_61 (dk_at dksX7_caller_1 0 rfl rfl)
theorem dX7_caller_25 : decode cX7_caller 25 = .ok (.aload_n 0, 1) := dk_42 (dk_at dksX7_caller_1 1 rfl rfl)
theorem dX7_caller_26 : decode cX7_caller 26 = .ok (.iload_n 1, 1) := dk_27 (dk_at dksX7_caller_1 2 rfl rfl)
theorem dX7_caller_27 : decode cX7_caller 27 = .ok (.putfield 106, 3) := dk_181 0 106 (dk_at dksX7_caller_1 3 rfl rfl)
theorem dX7_caller_30 : decode cX7_caller 30 = .ok (.iload_n 2, 1) := dk_28 (dk_at dksX7_caller_1 6 rfl rfl)
theorem dX7_caller_31 : decode cX7_caller 31 = .ok (.ireturn, 1) := dk_172 (dk_at dksX7_caller_1 7 rfl rfl)
abbrev cX7_may : ByteArray := prog_30_method_58_code
def yX7_may : MethodName := ⟨RX7, "may", "(II)I"⟩
def dkwX7_may_1 : List UInt8 := [153, 0, 7, 4, 167, 0, 4, 3, 172]
abbrev dktX7_may_1 : List UInt8 := dkwX7_may_1 ++ []
def dkwX7_may_0 : List UInt8 := [42, 27, 182, 0, 185, 153, 0, 11, 42, 28, 182, 1, 8, 154, 0, 5, 2, 172, 42, 27, 28, 182, 1, 11]
abbrev dktX7_may_0 : List UInt8 := dkwX7_may_0 ++ dktX7_may_1
theorem dksX7_may_0 : cX7_may.data.toList.drop 0 = dktX7_may_0 := by decide +kernel
theorem dksX7_may_1 : cX7_may.data.toList.drop 24 = dktX7_may_1 := dk_seg dksX7_may_0 24 rfl rfl
theorem dX7_may_0 : decode cX7_may 0 = .ok (.aload_n 0, 1) := dk_42 (dk_at dksX7_may_0 0 rfl rfl)
theorem dX7_may_1 : decode cX7_may 1 = .ok (.iload_n 1, 1) := dk_27 (dk_at dksX7_may_0 1 rfl rfl)
theorem dX7_may_2 : decode cX7_may 2 = .ok (.invokevirtual 185, 3) := dk_182 0 185 (dk_at dksX7_may_0 2 rfl rfl)
theorem dX7_may_5 : decode cX7_may 5 = .ok (.ifCond .eq 11, 3) := dk_153 0 11 (dk_at dksX7_may_0 5 rfl rfl)
theorem dX7_may_8 : decode cX7_may 8 = .ok (.aload_n 0, 1) := dk_42 (dk_at dksX7_may_0 8 rfl rfl)
theorem dX7_may_9 : decode cX7_may 9 = .ok (.iload_n 2, 1) := dk_28 (dk_at dksX7_may_0 9 rfl rfl)
theorem dX7_may_10 : decode cX7_may 10 = .ok (.invokevirtual 264, 3) := dk_182 1 8 (dk_at dksX7_may_0 10 rfl rfl)
theorem dX7_may_13 : decode cX7_may 13 = .ok (.ifCond .ne 5, 3) := dk_154 0 5 (dk_at dksX7_may_0 13 rfl rfl)
theorem dX7_may_16 : decode cX7_may 16 = .ok (.iconst (-1), 1) := dk_2 (dk_at dksX7_may_0 16 rfl rfl)
theorem dX7_may_17 : decode cX7_may 17 = .ok (.ireturn, 1) := dk_172 (dk_at dksX7_may_0 17 rfl rfl)
theorem dX7_may_18 : decode cX7_may 18 = .ok (.aload_n 0, 1) := dk_42 (dk_at dksX7_may_0 18 rfl rfl)
theorem dX7_may_19 : decode cX7_may 19 = .ok (.iload_n 1, 1) := dk_27 (dk_at dksX7_may_0 19 rfl rfl)
theorem dX7_may_20 : decode cX7_may 20 = .ok (.iload_n 2, 1) := dk_28 (dk_at dksX7_may_0 20 rfl rfl)
theorem dX7_may_21 : decode cX7_may 21 = .ok (.invokevirtual 267, 3) := dk_182 1 11 (dk_at dksX7_may_0 21 rfl rfl)
theorem dX7_may_24 : decode cX7_may 24 = .ok (.ifCond .eq 7, 3) := dk_153 0 7 (dk_at dksX7_may_1 0 rfl rfl)
theorem dX7_may_27 : decode cX7_may 27 = .ok (.iconst 1, 1) := dk_4 (dk_at dksX7_may_1 3 rfl rfl)
theorem dX7_may_28 : decode cX7_may 28 = .ok (.goto 4, 3) := dk_167 0 4 (dk_at dksX7_may_1 4 rfl rfl)
theorem dX7_may_31 : decode cX7_may 31 = .ok (.iconst 0, 1) := dk_3 (dk_at dksX7_may_1 7 rfl rfl)
theorem dX7_may_32 : decode cX7_may 32 = .ok (.ireturn, 1) := dk_172 (dk_at dksX7_may_1 8 rfl rfl)
abbrev cX7_isThingOrNone : ByteArray := prog_30_method_56_code
def yX7_isThingOrNone : MethodName := ⟨RX7, "isThingOrNone", "(I)Z"⟩
def dkwX7_isThingOrNone_0 : List UInt8 := [27, 2, 159, 0, 11, 42, 27, 182, 1, 5, 153, 0, 7, 4, 167, 0, 4, 3, 172]
abbrev dktX7_isThingOrNone_0 : List UInt8 := dkwX7_isThingOrNone_0 ++ []
theorem dksX7_isThingOrNone_0 : cX7_isThingOrNone.data.toList.drop 0 = dktX7_isThingOrNone_0 := by decide +kernel
theorem dX7_isThingOrNone_0 : decode cX7_isThingOrNone 0 = .ok (.iload_n 1, 1) := dk_27 (dk_at dksX7_isThingOrNone_0 0 rfl rfl)
theorem dX7_isThingOrNone_1 : decode cX7_isThingOrNone 1 = .ok (.iconst (-1), 1) := dk_2 (dk_at dksX7_isThingOrNone_0 1 rfl rfl)
theorem dX7_isThingOrNone_2 : decode cX7_isThingOrNone 2 = .ok (.if_icmp .eq 11, 3) := dk_159 0 11 (dk_at dksX7_isThingOrNone_0 2 rfl rfl)
theorem dX7_isThingOrNone_5 : decode cX7_isThingOrNone 5 = .ok (.aload_n 0, 1) := dk_42 (dk_at dksX7_isThingOrNone_0 5 rfl rfl)
theorem dX7_isThingOrNone_6 : decode cX7_isThingOrNone 6 = .ok (.iload_n 1, 1) := dk_27 (dk_at dksX7_isThingOrNone_0 6 rfl rfl)
theorem dX7_isThingOrNone_7 : decode cX7_isThingOrNone 7 = .ok (.invokevirtual 261, 3) := dk_182 1 5 (dk_at dksX7_isThingOrNone_0 7 rfl rfl)
theorem dX7_isThingOrNone_10 : decode cX7_isThingOrNone 10 = .ok (.ifCond .eq 7, 3) := dk_153 0 7 (dk_at dksX7_isThingOrNone_0 10 rfl rfl)
theorem dX7_isThingOrNone_13 : decode cX7_isThingOrNone 13 = .ok (.iconst 1, 1) := dk_4 (dk_at dksX7_isThingOrNone_0 13 rfl rfl)
theorem dX7_isThingOrNone_14 : decode cX7_isThingOrNone 14 = .ok (.goto 4, 3) := dk_167 0 4 (dk_at dksX7_isThingOrNone_0 14 rfl rfl)
theorem dX7_isThingOrNone_17 : decode cX7_isThingOrNone 17 = .ok (.iconst 0, 1) := dk_3 (dk_at dksX7_isThingOrNone_0 17 rfl rfl)
theorem dX7_isThingOrNone_18 : decode cX7_isThingOrNone 18 = .ok (.ireturn, 1) := dk_172 (dk_at dksX7_isThingOrNone_0 18 rfl rfl)
abbrev cX7_isThing : ByteArray := prog_30_method_55_code
def yX7_isThing : MethodName := ⟨RX7, "isThing", "(I)Z"⟩
def dkwX7_isThing_0 : List UInt8 := [27, 133, 9, 42, 180, 0, 168, 4, 100, 133, 184, 0, 127, 172]
abbrev dktX7_isThing_0 : List UInt8 := dkwX7_isThing_0 ++ []
theorem dksX7_isThing_0 : cX7_isThing.data.toList.drop 0 = dktX7_isThing_0 := by decide +kernel
theorem dX7_isThing_0 : decode cX7_isThing 0 = .ok (.iload_n 1, 1) := dk_27 (dk_at dksX7_isThing_0 0 rfl rfl)
theorem dX7_isThing_1 : decode cX7_isThing 1 = .ok (.i2l, 1) := dk_133 (dk_at dksX7_isThing_0 1 rfl rfl)
theorem dX7_isThing_2 : decode cX7_isThing 2 = .ok (.lconst 0, 1) := dk_9 (dk_at dksX7_isThing_0 2 rfl rfl)
theorem dX7_isThing_3 : decode cX7_isThing 3 = .ok (.aload_n 0, 1) := dk_42 (dk_at dksX7_isThing_0 3 rfl rfl)
theorem dX7_isThing_4 : decode cX7_isThing 4 = .ok (.getfield 168, 3) := dk_180 0 168 (dk_at dksX7_isThing_0 4 rfl rfl)
theorem dX7_isThing_7 : decode cX7_isThing 7 = .ok (.iconst 1, 1) := dk_4 (dk_at dksX7_isThing_0 7 rfl rfl)
theorem dX7_isThing_8 : decode cX7_isThing 8 = .ok (.isub, 1) := dk_100 (dk_at dksX7_isThing_0 8 rfl rfl)
theorem dX7_isThing_9 : decode cX7_isThing 9 = .ok (.i2l, 1) := dk_133 (dk_at dksX7_isThing_0 9 rfl rfl)
theorem dX7_isThing_10 : decode cX7_isThing 10 = .ok (.invokestatic 127, 3) := dk_184 0 127 (dk_at dksX7_isThing_0 10 rfl rfl)
theorem dX7_isThing_13 : decode cX7_isThing 13 = .ok (.ireturn, 1) := dk_172 (dk_at dksX7_isThing_0 13 rfl rfl)
abbrev cX7_mayCaller : ByteArray := prog_30_method_57_code
def yX7_mayCaller : MethodName := ⟨RX7, "mayCaller", "(II)Z"⟩
def dkwX7_mayCaller_5 : List UInt8 := [46, 42, 180, 0, 106, 182, 0, 156, 153, 0, 7, 4, 167, 0, 4, 3, 172]
abbrev dktX7_mayCaller_5 : List UInt8 := dkwX7_mayCaller_5 ++ []
def dkwX7_mayCaller_4 : List UInt8 := [154, 0, 35, 28, 2, 159, 0, 34, 42, 180, 0, 91, 28, 46, 2, 160, 0, 24, 42, 42, 180, 0, 88, 28]
abbrev dktX7_mayCaller_4 : List UInt8 := dkwX7_mayCaller_4 ++ dktX7_mayCaller_5
def dkwX7_mayCaller_3 : List UInt8 := [6, 160, 0, 15, 42, 42, 180, 0, 106, 29, 182, 0, 156, 154, 0, 5, 3, 172, 42, 27, 7, 182, 0, 221]
abbrev dktX7_mayCaller_3 : List UInt8 := dkwX7_mayCaller_3 ++ dktX7_mayCaller_4
def dkwX7_mayCaller_2 : List UInt8 := [180, 0, 20, 42, 180, 0, 106, 46, 42, 180, 0, 20, 29, 46, 160, 0, 5, 4, 172, 42, 27, 182, 0, 188]
abbrev dktX7_mayCaller_2 : List UInt8 := dkwX7_mayCaller_2 ++ dktX7_mayCaller_3
def dkwX7_mayCaller_1 : List UInt8 := [159, 0, 11, 42, 180, 0, 106, 29, 160, 0, 5, 4, 172, 42, 27, 182, 0, 188, 5, 159, 0, 23, 42]
abbrev dktX7_mayCaller_1 : List UInt8 := dkwX7_mayCaller_1 ++ dktX7_mayCaller_2
def dkwX7_mayCaller_0 : List UInt8 := [42, 180, 0, 45, 27, 46, 62, 42, 180, 0, 66, 27, 51, 154, 0, 20, 42, 27, 182, 0, 188, 4]
abbrev dktX7_mayCaller_0 : List UInt8 := dkwX7_mayCaller_0 ++ dktX7_mayCaller_1
theorem dksX7_mayCaller_0 : cX7_mayCaller.data.toList.drop 0 = dktX7_mayCaller_0 := by decide +kernel
theorem dksX7_mayCaller_1 : cX7_mayCaller.data.toList.drop 22 = dktX7_mayCaller_1 := dk_seg dksX7_mayCaller_0 22 rfl rfl
theorem dksX7_mayCaller_2 : cX7_mayCaller.data.toList.drop 45 = dktX7_mayCaller_2 := dk_seg dksX7_mayCaller_1 23 rfl rfl
theorem dksX7_mayCaller_3 : cX7_mayCaller.data.toList.drop 69 = dktX7_mayCaller_3 := dk_seg dksX7_mayCaller_2 24 rfl rfl
theorem dksX7_mayCaller_4 : cX7_mayCaller.data.toList.drop 93 = dktX7_mayCaller_4 := dk_seg dksX7_mayCaller_3 24 rfl rfl
theorem dksX7_mayCaller_5 : cX7_mayCaller.data.toList.drop 117 = dktX7_mayCaller_5 := dk_seg dksX7_mayCaller_4 24 rfl rfl
theorem dX7_mayCaller_0 : decode cX7_mayCaller 0 = .ok (.aload_n 0, 1) := dk_42 (dk_at dksX7_mayCaller_0 0 rfl rfl)
theorem dX7_mayCaller_1 : decode cX7_mayCaller 1 = .ok (.getfield 45, 3) := dk_180 0 45 (dk_at dksX7_mayCaller_0 1 rfl rfl)
theorem dX7_mayCaller_4 : decode cX7_mayCaller 4 = .ok (.iload_n 1, 1) := dk_27 (dk_at dksX7_mayCaller_0 4 rfl rfl)
theorem dX7_mayCaller_5 : decode cX7_mayCaller 5 = .ok (.iaload, 1) := dk_46 (dk_at dksX7_mayCaller_0 5 rfl rfl)
theorem dX7_mayCaller_6 : decode cX7_mayCaller 6 = .ok (.istore_n 3, 1) := dk_62 (dk_at dksX7_mayCaller_0 6 rfl rfl)
theorem dX7_mayCaller_7 : decode cX7_mayCaller 7 = .ok (.aload_n 0, 1) := dk_42 (dk_at dksX7_mayCaller_0 7 rfl rfl)
theorem dX7_mayCaller_8 : decode cX7_mayCaller 8 = .ok (.getfield 66, 3) := dk_180 0 66 (dk_at dksX7_mayCaller_0 8 rfl rfl)
theorem dX7_mayCaller_11 : decode cX7_mayCaller 11 = .ok (.iload_n 1, 1) := dk_27 (dk_at dksX7_mayCaller_0 11 rfl rfl)
theorem dX7_mayCaller_12 : decode cX7_mayCaller 12 = .ok (.baload, 1) := dk_51 (dk_at dksX7_mayCaller_0 12 rfl rfl)
theorem dX7_mayCaller_13 : decode cX7_mayCaller 13 = .ok (.ifCond .ne 20, 3) := dk_154 0 20 (dk_at dksX7_mayCaller_0 13 rfl rfl)
theorem dX7_mayCaller_16 : decode cX7_mayCaller 16 = .ok (.aload_n 0, 1) := dk_42 (dk_at dksX7_mayCaller_0 16 rfl rfl)
theorem dX7_mayCaller_17 : decode cX7_mayCaller 17 = .ok (.iload_n 1, 1) := dk_27 (dk_at dksX7_mayCaller_0 17 rfl rfl)
theorem dX7_mayCaller_18 : decode cX7_mayCaller 18 = .ok (.invokevirtual 188, 3) := dk_182 0 188 (dk_at dksX7_mayCaller_0 18 rfl rfl)
theorem dX7_mayCaller_21 : decode cX7_mayCaller 21 = .ok (.iconst 1, 1) := dk_4 (dk_at dksX7_mayCaller_0 21 rfl rfl)
theorem dX7_mayCaller_22 : decode cX7_mayCaller 22 = .ok (.if_icmp .eq 11, 3) := dk_159 0 11 (dk_at dksX7_mayCaller_1 0 rfl rfl)
theorem dX7_mayCaller_25 : decode cX7_mayCaller 25 = .ok (.aload_n 0, 1) := dk_42 (dk_at dksX7_mayCaller_1 3 rfl rfl)
theorem dX7_mayCaller_26 : decode cX7_mayCaller 26 = .ok (.getfield 106, 3) := dk_180 0 106 (dk_at dksX7_mayCaller_1 4 rfl rfl)
theorem dX7_mayCaller_29 : decode cX7_mayCaller 29 = .ok (.iload_n 3, 1) := dk_29 (dk_at dksX7_mayCaller_1 7 rfl rfl)
theorem dX7_mayCaller_30 : decode cX7_mayCaller 30 = .ok (.if_icmp .ne 5, 3) := dk_160 0 5 (dk_at dksX7_mayCaller_1 8 rfl rfl)
theorem dX7_mayCaller_33 : decode cX7_mayCaller 33 = .ok (.iconst 1, 1) := dk_4 (dk_at dksX7_mayCaller_1 11 rfl rfl)
theorem dX7_mayCaller_34 : decode cX7_mayCaller 34 = .ok (.ireturn, 1) := dk_172 (dk_at dksX7_mayCaller_1 12 rfl rfl)
theorem dX7_mayCaller_35 : decode cX7_mayCaller 35 = .ok (.aload_n 0, 1) := dk_42 (dk_at dksX7_mayCaller_1 13 rfl rfl)
theorem dX7_mayCaller_36 : decode cX7_mayCaller 36 = .ok (.iload_n 1, 1) := dk_27 (dk_at dksX7_mayCaller_1 14 rfl rfl)
theorem dX7_mayCaller_37 : decode cX7_mayCaller 37 = .ok (.invokevirtual 188, 3) := dk_182 0 188 (dk_at dksX7_mayCaller_1 15 rfl rfl)
theorem dX7_mayCaller_40 : decode cX7_mayCaller 40 = .ok (.iconst 2, 1) := dk_5 (dk_at dksX7_mayCaller_1 18 rfl rfl)
theorem dX7_mayCaller_41 : decode cX7_mayCaller 41 = .ok (.if_icmp .eq 23, 3) := dk_159 0 23 (dk_at dksX7_mayCaller_1 19 rfl rfl)
theorem dX7_mayCaller_44 : decode cX7_mayCaller 44 = .ok (.aload_n 0, 1) := dk_42 (dk_at dksX7_mayCaller_1 22 rfl rfl)
theorem dX7_mayCaller_45 : decode cX7_mayCaller 45 = .ok (.getfield 20, 3) := dk_180 0 20 (dk_at dksX7_mayCaller_2 0 rfl rfl)
theorem dX7_mayCaller_48 : decode cX7_mayCaller 48 = .ok (.aload_n 0, 1) := dk_42 (dk_at dksX7_mayCaller_2 3 rfl rfl)
theorem dX7_mayCaller_49 : decode cX7_mayCaller 49 = .ok (.getfield 106, 3) := dk_180 0 106 (dk_at dksX7_mayCaller_2 4 rfl rfl)
theorem dX7_mayCaller_52 : decode cX7_mayCaller 52 = .ok (.iaload, 1) := dk_46 (dk_at dksX7_mayCaller_2 7 rfl rfl)
theorem dX7_mayCaller_53 : decode cX7_mayCaller 53 = .ok (.aload_n 0, 1) := dk_42 (dk_at dksX7_mayCaller_2 8 rfl rfl)
theorem dX7_mayCaller_54 : decode cX7_mayCaller 54 = .ok (.getfield 20, 3) := dk_180 0 20 (dk_at dksX7_mayCaller_2 9 rfl rfl)
theorem dX7_mayCaller_57 : decode cX7_mayCaller 57 = .ok (.iload_n 3, 1) := dk_29 (dk_at dksX7_mayCaller_2 12 rfl rfl)
theorem dX7_mayCaller_58 : decode cX7_mayCaller 58 = .ok (.iaload, 1) := dk_46 (dk_at dksX7_mayCaller_2 13 rfl rfl)
theorem dX7_mayCaller_59 : decode cX7_mayCaller 59 = .ok (.if_icmp .ne 5, 3) := dk_160 0 5 (dk_at dksX7_mayCaller_2 14 rfl rfl)
theorem dX7_mayCaller_62 : decode cX7_mayCaller 62 = .ok (.iconst 1, 1) := dk_4 (dk_at dksX7_mayCaller_2 17 rfl rfl)
theorem dX7_mayCaller_63 : decode cX7_mayCaller 63 = .ok (.ireturn, 1) := dk_172 (dk_at dksX7_mayCaller_2 18 rfl rfl)
theorem dX7_mayCaller_64 : decode cX7_mayCaller 64 = .ok (.aload_n 0, 1) := dk_42 (dk_at dksX7_mayCaller_2 19 rfl rfl)
theorem dX7_mayCaller_65 : decode cX7_mayCaller 65 = .ok (.iload_n 1, 1) := dk_27 (dk_at dksX7_mayCaller_2 20 rfl rfl)
theorem dX7_mayCaller_66 : decode cX7_mayCaller 66 = .ok (.invokevirtual 188, 3) := dk_182 0 188 (dk_at dksX7_mayCaller_2 21 rfl rfl)
theorem dX7_mayCaller_69 : decode cX7_mayCaller 69 = .ok (.iconst 3, 1) := dk_6 (dk_at dksX7_mayCaller_3 0 rfl rfl)
theorem dX7_mayCaller_70 : decode cX7_mayCaller 70 = .ok (.if_icmp .ne 15, 3) := dk_160 0 15 (dk_at dksX7_mayCaller_3 1 rfl rfl)
theorem dX7_mayCaller_73 : decode cX7_mayCaller 73 = .ok (.aload_n 0, 1) := dk_42 (dk_at dksX7_mayCaller_3 4 rfl rfl)
theorem dX7_mayCaller_74 : decode cX7_mayCaller 74 = .ok (.aload_n 0, 1) := dk_42 (dk_at dksX7_mayCaller_3 5 rfl rfl)
theorem dX7_mayCaller_75 : decode cX7_mayCaller 75 = .ok (.getfield 106, 3) := dk_180 0 106 (dk_at dksX7_mayCaller_3 6 rfl rfl)
theorem dX7_mayCaller_78 : decode cX7_mayCaller 78 = .ok (.iload_n 3, 1) := dk_29 (dk_at dksX7_mayCaller_3 9 rfl rfl)
theorem dX7_mayCaller_79 : decode cX7_mayCaller 79 = .ok (.invokevirtual 156, 3) := dk_182 0 156 (dk_at dksX7_mayCaller_3 10 rfl rfl)
theorem dX7_mayCaller_82 : decode cX7_mayCaller 82 = .ok (.ifCond .ne 5, 3) := dk_154 0 5 (dk_at dksX7_mayCaller_3 13 rfl rfl)
theorem dX7_mayCaller_85 : decode cX7_mayCaller 85 = .ok (.iconst 0, 1) := dk_3 (dk_at dksX7_mayCaller_3 16 rfl rfl)
theorem dX7_mayCaller_86 : decode cX7_mayCaller 86 = .ok (.ireturn, 1) := dk_172 (dk_at dksX7_mayCaller_3 17 rfl rfl)
theorem dX7_mayCaller_87 : decode cX7_mayCaller 87 = .ok (.aload_n 0, 1) := dk_42 (dk_at dksX7_mayCaller_3 18 rfl rfl)
theorem dX7_mayCaller_88 : decode cX7_mayCaller 88 = .ok (.iload_n 1, 1) := dk_27 (dk_at dksX7_mayCaller_3 19 rfl rfl)
theorem dX7_mayCaller_89 : decode cX7_mayCaller 89 = .ok (.iconst 4, 1) := dk_7 (dk_at dksX7_mayCaller_3 20 rfl rfl)
theorem dX7_mayCaller_90 : decode cX7_mayCaller 90 = .ok (.invokevirtual 221, 3) := dk_182 0 221 (dk_at dksX7_mayCaller_3 21 rfl rfl)
theorem dX7_mayCaller_93 : decode cX7_mayCaller 93 = .ok (.ifCond .ne 35, 3) := dk_154 0 35 (dk_at dksX7_mayCaller_4 0 rfl rfl)
theorem dX7_mayCaller_96 : decode cX7_mayCaller 96 = .ok (.iload_n 2, 1) := dk_28 (dk_at dksX7_mayCaller_4 3 rfl rfl)
theorem dX7_mayCaller_97 : decode cX7_mayCaller 97 = .ok (.iconst (-1), 1) := dk_2 (dk_at dksX7_mayCaller_4 4 rfl rfl)
theorem dX7_mayCaller_98 : decode cX7_mayCaller 98 = .ok (.if_icmp .eq 34, 3) := dk_159 0 34 (dk_at dksX7_mayCaller_4 5 rfl rfl)
theorem dX7_mayCaller_101 : decode cX7_mayCaller 101 = .ok (.aload_n 0, 1) := dk_42 (dk_at dksX7_mayCaller_4 8 rfl rfl)
theorem dX7_mayCaller_102 : decode cX7_mayCaller 102 = .ok (.getfield 91, 3) := dk_180 0 91 (dk_at dksX7_mayCaller_4 9 rfl rfl)
theorem dX7_mayCaller_105 : decode cX7_mayCaller 105 = .ok (.iload_n 2, 1) := dk_28 (dk_at dksX7_mayCaller_4 12 rfl rfl)
theorem dX7_mayCaller_106 : decode cX7_mayCaller 106 = .ok (.iaload, 1) := dk_46 (dk_at dksX7_mayCaller_4 13 rfl rfl)
theorem dX7_mayCaller_107 : decode cX7_mayCaller 107 = .ok (.iconst (-1), 1) := dk_2 (dk_at dksX7_mayCaller_4 14 rfl rfl)
theorem dX7_mayCaller_108 : decode cX7_mayCaller 108 = .ok (.if_icmp .ne 24, 3) := dk_160 0 24 (dk_at dksX7_mayCaller_4 15 rfl rfl)
theorem dX7_mayCaller_111 : decode cX7_mayCaller 111 = .ok (.aload_n 0, 1) := dk_42 (dk_at dksX7_mayCaller_4 18 rfl rfl)
theorem dX7_mayCaller_112 : decode cX7_mayCaller 112 = .ok (.aload_n 0, 1) := dk_42 (dk_at dksX7_mayCaller_4 19 rfl rfl)
theorem dX7_mayCaller_113 : decode cX7_mayCaller 113 = .ok (.getfield 88, 3) := dk_180 0 88 (dk_at dksX7_mayCaller_4 20 rfl rfl)
theorem dX7_mayCaller_116 : decode cX7_mayCaller 116 = .ok (.iload_n 2, 1) := dk_28 (dk_at dksX7_mayCaller_4 23 rfl rfl)
theorem dX7_mayCaller_117 : decode cX7_mayCaller 117 = .ok (.iaload, 1) := dk_46 (dk_at dksX7_mayCaller_5 0 rfl rfl)
theorem dX7_mayCaller_118 : decode cX7_mayCaller 118 = .ok (.aload_n 0, 1) := dk_42 (dk_at dksX7_mayCaller_5 1 rfl rfl)
theorem dX7_mayCaller_119 : decode cX7_mayCaller 119 = .ok (.getfield 106, 3) := dk_180 0 106 (dk_at dksX7_mayCaller_5 2 rfl rfl)
theorem dX7_mayCaller_122 : decode cX7_mayCaller 122 = .ok (.invokevirtual 156, 3) := dk_182 0 156 (dk_at dksX7_mayCaller_5 5 rfl rfl)
theorem dX7_mayCaller_125 : decode cX7_mayCaller 125 = .ok (.ifCond .eq 7, 3) := dk_153 0 7 (dk_at dksX7_mayCaller_5 8 rfl rfl)
theorem dX7_mayCaller_128 : decode cX7_mayCaller 128 = .ok (.iconst 1, 1) := dk_4 (dk_at dksX7_mayCaller_5 11 rfl rfl)
theorem dX7_mayCaller_129 : decode cX7_mayCaller 129 = .ok (.goto 4, 3) := dk_167 0 4 (dk_at dksX7_mayCaller_5 12 rfl rfl)
theorem dX7_mayCaller_132 : decode cX7_mayCaller 132 = .ok (.iconst 0, 1) := dk_3 (dk_at dksX7_mayCaller_5 15 rfl rfl)
theorem dX7_mayCaller_133 : decode cX7_mayCaller 133 = .ok (.ireturn, 1) := dk_172 (dk_at dksX7_mayCaller_5 16 rfl rfl)
abbrev cX7_object : ByteArray := prog_30_method_69_code
def yX7_object : MethodName := ⟨RX7, "object", "(I)I"⟩
def dkwX7_object_1 : List UInt8 := [180, 0, 13, 27, 46, 5, 160, 0, 8, 16, 239, 167, 0, 9, 42, 27, 2, 182, 1, 81, 172]
abbrev dktX7_object_1 : List UInt8 := dkwX7_object_1 ++ []
def dkwX7_object_0 : List UInt8 := [42, 27, 182, 0, 135, 154, 0, 5, 2, 172, 42, 180, 0, 168, 16, 80, 160, 0, 6, 16, 253, 172, 42]
abbrev dktX7_object_0 : List UInt8 := dkwX7_object_0 ++ dktX7_object_1
theorem dksX7_object_0 : cX7_object.data.toList.drop 0 = dktX7_object_0 := by decide +kernel
theorem dksX7_object_1 : cX7_object.data.toList.drop 23 = dktX7_object_1 := dk_seg dksX7_object_0 23 rfl rfl
theorem dX7_object_0 : decode cX7_object 0 = .ok (.aload_n 0, 1) := dk_42 (dk_at dksX7_object_0 0 rfl rfl)
theorem dX7_object_1 : decode cX7_object 1 = .ok (.iload_n 1, 1) := dk_27 (dk_at dksX7_object_0 1 rfl rfl)
theorem dX7_object_2 : decode cX7_object 2 = .ok (.invokevirtual 135, 3) := dk_182 0 135 (dk_at dksX7_object_0 2 rfl rfl)
theorem dX7_object_5 : decode cX7_object 5 = .ok (.ifCond .ne 5, 3) := dk_154 0 5 (dk_at dksX7_object_0 5 rfl rfl)
theorem dX7_object_8 : decode cX7_object 8 = .ok (.iconst (-1), 1) := dk_2 (dk_at dksX7_object_0 8 rfl rfl)
theorem dX7_object_9 : decode cX7_object 9 = .ok (.ireturn, 1) := dk_172 (dk_at dksX7_object_0 9 rfl rfl)
theorem dX7_object_10 : decode cX7_object 10 = .ok (.aload_n 0, 1) := dk_42 (dk_at dksX7_object_0 10 rfl rfl)
theorem dX7_object_11 : decode cX7_object 11 = .ok (.getfield 168, 3) := dk_180 0 168 (dk_at dksX7_object_0 11 rfl rfl)
theorem dX7_object_14 : decode cX7_object 14 = .ok (.bipush 80, 2) := dk_16 80 (dk_at dksX7_object_0 14 rfl rfl)
theorem dX7_object_16 : decode cX7_object 16 = .ok (.if_icmp .ne 6, 3) := dk_160 0 6 (dk_at dksX7_object_0 16 rfl rfl)
theorem dX7_object_19 : decode cX7_object 19 = .ok (.bipush (-3), 2) := dk_16 253 (dk_at dksX7_object_0 19 rfl rfl)
theorem dX7_object_21 : decode cX7_object 21 = .ok (.ireturn, 1) := dk_172 (dk_at dksX7_object_0 21 rfl rfl)
theorem dX7_object_22 : decode cX7_object 22 = .ok (.aload_n 0, 1) := dk_42 (dk_at dksX7_object_0 22 rfl rfl)
theorem dX7_object_23 : decode cX7_object 23 = .ok (.getfield 13, 3) := dk_180 0 13 (dk_at dksX7_object_1 0 rfl rfl)
theorem dX7_object_26 : decode cX7_object 26 = .ok (.iload_n 1, 1) := dk_27 (dk_at dksX7_object_1 3 rfl rfl)
theorem dX7_object_27 : decode cX7_object 27 = .ok (.iaload, 1) := dk_46 (dk_at dksX7_object_1 4 rfl rfl)
theorem dX7_object_28 : decode cX7_object 28 = .ok (.iconst 2, 1) := dk_5 (dk_at dksX7_object_1 5 rfl rfl)
theorem dX7_object_29 : decode cX7_object 29 = .ok (.if_icmp .ne 8, 3) := dk_160 0 8 (dk_at dksX7_object_1 6 rfl rfl)
theorem dX7_object_32 : decode cX7_object 32 = .ok (.bipush (-17), 2) := dk_16 239 (dk_at dksX7_object_1 9 rfl rfl)
theorem dX7_object_34 : decode cX7_object 34 = .ok (.goto 9, 3) := dk_167 0 9 (dk_at dksX7_object_1 11 rfl rfl)
theorem dX7_object_37 : decode cX7_object 37 = .ok (.aload_n 0, 1) := dk_42 (dk_at dksX7_object_1 14 rfl rfl)
theorem dX7_object_38 : decode cX7_object 38 = .ok (.iload_n 1, 1) := dk_27 (dk_at dksX7_object_1 15 rfl rfl)
theorem dX7_object_39 : decode cX7_object 39 = .ok (.iconst (-1), 1) := dk_2 (dk_at dksX7_object_1 16 rfl rfl)
theorem dX7_object_40 : decode cX7_object 40 = .ok (.invokevirtual 337, 3) := dk_182 1 81 (dk_at dksX7_object_1 17 rfl rfl)
theorem dX7_object_43 : decode cX7_object 43 = .ok (.ireturn, 1) := dk_172 (dk_at dksX7_object_1 20 rfl rfl)
abbrev cX7_newThing : ByteArray := prog_30_method_68_code
def yX7_newThing : MethodName := ⟨RX7, "newThing", "(II)I"⟩
def dkwX7_newThing_5 : List UInt8 := [46, 184, 0, 195, 80, 132, 4, 1, 167, 255, 216, 29, 172]
abbrev dktX7_newThing_5 : List UInt8 := dkwX7_newThing_5 ++ []
def dkwX7_newThing_4 : List UInt8 := [180, 0, 97, 16, 20, 29, 104, 21, 4, 96, 28, 2, 160, 0, 7, 9, 167, 0, 12, 42, 180, 0, 23, 27]
abbrev dktX7_newThing_4 : List UInt8 := dkwX7_newThing_4 ++ dktX7_newThing_5
def dkwX7_newThing_3 : List UInt8 := [167, 0, 4, 9, 80, 132, 4, 1, 167, 255, 211, 3, 54, 4, 21, 4, 16, 20, 162, 0, 39, 42]
abbrev dktX7_newThing_3 : List UInt8 := dkwX7_newThing_3 ++ dktX7_newThing_4
def dkwX7_newThing_2 : List UInt8 := [21, 4, 96, 21, 4, 42, 180, 0, 182, 162, 0, 16, 42, 180, 0, 57, 21, 4, 46, 184, 0, 195]
abbrev dktX7_newThing_2 : List UInt8 := dkwX7_newThing_2 ++ dktX7_newThing_3
def dkwX7_newThing_1 : List UInt8 := [180, 0, 91, 29, 28, 79, 3, 54, 4, 21, 4, 16, 100, 162, 0, 44, 42, 180, 0, 94, 16, 100, 29, 104]
abbrev dktX7_newThing_1 : List UInt8 := dkwX7_newThing_1 ++ dktX7_newThing_2
def dkwX7_newThing_0 : List UInt8 := [42, 180, 0, 168, 62, 42, 89, 180, 0, 168, 4, 96, 181, 0, 168, 42, 180, 0, 88, 29, 27, 79, 42]
abbrev dktX7_newThing_0 : List UInt8 := dkwX7_newThing_0 ++ dktX7_newThing_1
theorem dksX7_newThing_0 : cX7_newThing.data.toList.drop 0 = dktX7_newThing_0 := by decide +kernel
theorem dksX7_newThing_1 : cX7_newThing.data.toList.drop 23 = dktX7_newThing_1 := dk_seg dksX7_newThing_0 23 rfl rfl
theorem dksX7_newThing_2 : cX7_newThing.data.toList.drop 47 = dktX7_newThing_2 := dk_seg dksX7_newThing_1 24 rfl rfl
theorem dksX7_newThing_3 : cX7_newThing.data.toList.drop 69 = dktX7_newThing_3 := dk_seg dksX7_newThing_2 22 rfl rfl
theorem dksX7_newThing_4 : cX7_newThing.data.toList.drop 91 = dktX7_newThing_4 := dk_seg dksX7_newThing_3 22 rfl rfl
theorem dksX7_newThing_5 : cX7_newThing.data.toList.drop 115 = dktX7_newThing_5 := dk_seg dksX7_newThing_4 24 rfl rfl
theorem dX7_newThing_0 : decode cX7_newThing 0 = .ok (.aload_n 0, 1) := dk_42 (dk_at dksX7_newThing_0 0 rfl rfl)
theorem dX7_newThing_1 : decode cX7_newThing 1 = .ok (.getfield 168, 3) := dk_180 0 168 (dk_at dksX7_newThing_0 1 rfl rfl)
theorem dX7_newThing_4 : decode cX7_newThing 4 = .ok (.istore_n 3, 1) := dk_62 (dk_at dksX7_newThing_0 4 rfl rfl)
theorem dX7_newThing_5 : decode cX7_newThing 5 = .ok (.aload_n 0, 1) := dk_42 (dk_at dksX7_newThing_0 5 rfl rfl)
theorem dX7_newThing_6 : decode cX7_newThing 6 = .ok (.dup, 1) := dk_89 (dk_at dksX7_newThing_0 6 rfl rfl)
theorem dX7_newThing_7 : decode cX7_newThing 7 = .ok (.getfield 168, 3) := dk_180 0 168 (dk_at dksX7_newThing_0 7 rfl rfl)
theorem dX7_newThing_10 : decode cX7_newThing 10 = .ok (.iconst 1, 1) := dk_4 (dk_at dksX7_newThing_0 10 rfl rfl)
theorem dX7_newThing_11 : decode cX7_newThing 11 = .ok (.iadd, 1) := dk_96 (dk_at dksX7_newThing_0 11 rfl rfl)
theorem dX7_newThing_12 : decode cX7_newThing 12 = .ok (.putfield 168, 3) := dk_181 0 168 (dk_at dksX7_newThing_0 12 rfl rfl)
theorem dX7_newThing_15 : decode cX7_newThing 15 = .ok (.aload_n 0, 1) := dk_42 (dk_at dksX7_newThing_0 15 rfl rfl)
theorem dX7_newThing_16 : decode cX7_newThing 16 = .ok (.getfield 88, 3) := dk_180 0 88 (dk_at dksX7_newThing_0 16 rfl rfl)
theorem dX7_newThing_19 : decode cX7_newThing 19 = .ok (.iload_n 3, 1) := dk_29 (dk_at dksX7_newThing_0 19 rfl rfl)
theorem dX7_newThing_20 : decode cX7_newThing 20 = .ok (.iload_n 1, 1) := dk_27 (dk_at dksX7_newThing_0 20 rfl rfl)
theorem dX7_newThing_21 : decode cX7_newThing 21 = .ok (.iastore, 1) := dk_79 (dk_at dksX7_newThing_0 21 rfl rfl)
theorem dX7_newThing_22 : decode cX7_newThing 22 = .ok (.aload_n 0, 1) := dk_42 (dk_at dksX7_newThing_0 22 rfl rfl)
theorem dX7_newThing_23 : decode cX7_newThing 23 = .ok (.getfield 91, 3) := dk_180 0 91 (dk_at dksX7_newThing_1 0 rfl rfl)
theorem dX7_newThing_26 : decode cX7_newThing 26 = .ok (.iload_n 3, 1) := dk_29 (dk_at dksX7_newThing_1 3 rfl rfl)
theorem dX7_newThing_27 : decode cX7_newThing 27 = .ok (.iload_n 2, 1) := dk_28 (dk_at dksX7_newThing_1 4 rfl rfl)
theorem dX7_newThing_28 : decode cX7_newThing 28 = .ok (.iastore, 1) := dk_79 (dk_at dksX7_newThing_1 5 rfl rfl)
theorem dX7_newThing_29 : decode cX7_newThing 29 = .ok (.iconst 0, 1) := dk_3 (dk_at dksX7_newThing_1 6 rfl rfl)
theorem dX7_newThing_30 : decode cX7_newThing 30 = .ok (.istore 4, 2) := dk_54 4 (dk_at dksX7_newThing_1 7 rfl rfl)
theorem dX7_newThing_32 : decode cX7_newThing 32 = .ok (.iload 4, 2) := dk_21 4 (dk_at dksX7_newThing_1 9 rfl rfl)
theorem dX7_newThing_34 : decode cX7_newThing 34 = .ok (.bipush 100, 2) := dk_16 100 (dk_at dksX7_newThing_1 11 rfl rfl)
theorem dX7_newThing_36 : decode cX7_newThing 36 = .ok (.if_icmp .ge 44, 3) := dk_162 0 44 (dk_at dksX7_newThing_1 13 rfl rfl)
theorem dX7_newThing_39 : decode cX7_newThing 39 = .ok (.aload_n 0, 1) := dk_42 (dk_at dksX7_newThing_1 16 rfl rfl)
theorem dX7_newThing_40 : decode cX7_newThing 40 = .ok (.getfield 94, 3) := dk_180 0 94 (dk_at dksX7_newThing_1 17 rfl rfl)
theorem dX7_newThing_43 : decode cX7_newThing 43 = .ok (.bipush 100, 2) := dk_16 100 (dk_at dksX7_newThing_1 20 rfl rfl)
theorem dX7_newThing_45 : decode cX7_newThing 45 = .ok (.iload_n 3, 1) := dk_29 (dk_at dksX7_newThing_1 22 rfl rfl)
theorem dX7_newThing_46 : decode cX7_newThing 46 = .ok (.imul, 1) := dk_104 (dk_at dksX7_newThing_1 23 rfl rfl)
theorem dX7_newThing_47 : decode cX7_newThing 47 = .ok (.iload 4, 2) := dk_21 4 (dk_at dksX7_newThing_2 0 rfl rfl)
theorem dX7_newThing_49 : decode cX7_newThing 49 = .ok (.iadd, 1) := dk_96 (dk_at dksX7_newThing_2 2 rfl rfl)
theorem dX7_newThing_50 : decode cX7_newThing 50 = .ok (.iload 4, 2) := dk_21 4 (dk_at dksX7_newThing_2 3 rfl rfl)
theorem dX7_newThing_52 : decode cX7_newThing 52 = .ok (.aload_n 0, 1) := dk_42 (dk_at dksX7_newThing_2 5 rfl rfl)
theorem dX7_newThing_53 : decode cX7_newThing 53 = .ok (.getfield 182, 3) := dk_180 0 182 (dk_at dksX7_newThing_2 6 rfl rfl)
theorem dX7_newThing_56 : decode cX7_newThing 56 = .ok (.if_icmp .ge 16, 3) := dk_162 0 16 (dk_at dksX7_newThing_2 9 rfl rfl)
theorem dX7_newThing_59 : decode cX7_newThing 59 = .ok (.aload_n 0, 1) := dk_42 (dk_at dksX7_newThing_2 12 rfl rfl)
theorem dX7_newThing_60 : decode cX7_newThing 60 = .ok (.getfield 57, 3) := dk_180 0 57 (dk_at dksX7_newThing_2 13 rfl rfl)
theorem dX7_newThing_63 : decode cX7_newThing 63 = .ok (.iload 4, 2) := dk_21 4 (dk_at dksX7_newThing_2 16 rfl rfl)
theorem dX7_newThing_65 : decode cX7_newThing 65 = .ok (.iaload, 1) := dk_46 (dk_at dksX7_newThing_2 18 rfl rfl)
theorem dX7_newThing_66 : decode cX7_newThing 66 = .ok (.invokestatic 195, 3) := dk_184 0 195 (dk_at dksX7_newThing_2 19 rfl rfl)
theorem dX7_newThing_69 : decode cX7_newThing 69 = .ok (.goto 4, 3) := dk_167 0 4 (dk_at dksX7_newThing_3 0 rfl rfl)
theorem dX7_newThing_72 : decode cX7_newThing 72 = .ok (.lconst 0, 1) := dk_9 (dk_at dksX7_newThing_3 3 rfl rfl)
theorem dX7_newThing_73 : decode cX7_newThing 73 = .ok (.lastore, 1) := dk_80 (dk_at dksX7_newThing_3 4 rfl rfl)
theorem dX7_newThing_74 : decode cX7_newThing 74 = .ok (.iinc 4 1, 3) := dk_132 4 1 (dk_at dksX7_newThing_3 5 rfl rfl)
theorem dX7_newThing_77 : decode cX7_newThing 77 = .ok (.goto (-45), 3) := dk_167 255 211 (dk_at dksX7_newThing_3 8 rfl rfl)
theorem dX7_newThing_80 : decode cX7_newThing 80 = .ok (.iconst 0, 1) := dk_3 (dk_at dksX7_newThing_3 11 rfl rfl)
theorem dX7_newThing_81 : decode cX7_newThing 81 = .ok (.istore 4, 2) := dk_54 4 (dk_at dksX7_newThing_3 12 rfl rfl)
theorem dX7_newThing_83 : decode cX7_newThing 83 = .ok (.iload 4, 2) := dk_21 4 (dk_at dksX7_newThing_3 14 rfl rfl)
theorem dX7_newThing_85 : decode cX7_newThing 85 = .ok (.bipush 20, 2) := dk_16 20 (dk_at dksX7_newThing_3 16 rfl rfl)
theorem dX7_newThing_87 : decode cX7_newThing 87 = .ok (.if_icmp .ge 39, 3) := dk_162 0 39 (dk_at dksX7_newThing_3 18 rfl rfl)
theorem dX7_newThing_90 : decode cX7_newThing 90 = .ok (.aload_n 0, 1) := dk_42 (dk_at dksX7_newThing_3 21 rfl rfl)
theorem dX7_newThing_91 : decode cX7_newThing 91 = .ok (.getfield 97, 3) := dk_180 0 97 (dk_at dksX7_newThing_4 0 rfl rfl)
theorem dX7_newThing_94 : decode cX7_newThing 94 = .ok (.bipush 20, 2) := dk_16 20 (dk_at dksX7_newThing_4 3 rfl rfl)
theorem dX7_newThing_96 : decode cX7_newThing 96 = .ok (.iload_n 3, 1) := dk_29 (dk_at dksX7_newThing_4 5 rfl rfl)
theorem dX7_newThing_97 : decode cX7_newThing 97 = .ok (.imul, 1) := dk_104 (dk_at dksX7_newThing_4 6 rfl rfl)
theorem dX7_newThing_98 : decode cX7_newThing 98 = .ok (.iload 4, 2) := dk_21 4 (dk_at dksX7_newThing_4 7 rfl rfl)
theorem dX7_newThing_100 : decode cX7_newThing 100 = .ok (.iadd, 1) := dk_96 (dk_at dksX7_newThing_4 9 rfl rfl)
theorem dX7_newThing_101 : decode cX7_newThing 101 = .ok (.iload_n 2, 1) := dk_28 (dk_at dksX7_newThing_4 10 rfl rfl)
theorem dX7_newThing_102 : decode cX7_newThing 102 = .ok (.iconst (-1), 1) := dk_2 (dk_at dksX7_newThing_4 11 rfl rfl)
theorem dX7_newThing_103 : decode cX7_newThing 103 = .ok (.if_icmp .ne 7, 3) := dk_160 0 7 (dk_at dksX7_newThing_4 12 rfl rfl)
theorem dX7_newThing_106 : decode cX7_newThing 106 = .ok (.lconst 0, 1) := dk_9 (dk_at dksX7_newThing_4 15 rfl rfl)
theorem dX7_newThing_107 : decode cX7_newThing 107 = .ok (.goto 12, 3) := dk_167 0 12 (dk_at dksX7_newThing_4 16 rfl rfl)
theorem dX7_newThing_110 : decode cX7_newThing 110 = .ok (.aload_n 0, 1) := dk_42 (dk_at dksX7_newThing_4 19 rfl rfl)
theorem dX7_newThing_111 : decode cX7_newThing 111 = .ok (.getfield 23, 3) := dk_180 0 23 (dk_at dksX7_newThing_4 20 rfl rfl)
theorem dX7_newThing_114 : decode cX7_newThing 114 = .ok (.iload_n 1, 1) := dk_27 (dk_at dksX7_newThing_4 23 rfl rfl)
theorem dX7_newThing_115 : decode cX7_newThing 115 = .ok (.iaload, 1) := dk_46 (dk_at dksX7_newThing_5 0 rfl rfl)
theorem dX7_newThing_116 : decode cX7_newThing 116 = .ok (.invokestatic 195, 3) := dk_184 0 195 (dk_at dksX7_newThing_5 1 rfl rfl)
theorem dX7_newThing_119 : decode cX7_newThing 119 = .ok (.lastore, 1) := dk_80 (dk_at dksX7_newThing_5 4 rfl rfl)
theorem dX7_newThing_120 : decode cX7_newThing 120 = .ok (.iinc 4 1, 3) := dk_132 4 1 (dk_at dksX7_newThing_5 5 rfl rfl)
theorem dX7_newThing_123 : decode cX7_newThing 123 = .ok (.goto (-40), 3) := dk_167 255 216 (dk_at dksX7_newThing_5 8 rfl rfl)
theorem dX7_newThing_126 : decode cX7_newThing 126 = .ok (.iload_n 3, 1) := dk_29 (dk_at dksX7_newThing_5 11 rfl rfl)
theorem dX7_newThing_127 : decode cX7_newThing 127 = .ok (.ireturn, 1) := dk_172 (dk_at dksX7_newThing_5 12 rfl rfl)
abbrev cX7_row : ByteArray := prog_30_method_70_code
def yX7_row : MethodName := ⟨RX7, "row", "(II)I"⟩
def dkwX7_row_2 : List UInt8 := [27, 28, 182, 1, 81, 172]
abbrev dktX7_row_2 : List UInt8 := dkwX7_row_2 ++ []
def dkwX7_row_1 : List UInt8 := [2, 172, 42, 180, 0, 168, 16, 80, 160, 0, 6, 16, 253, 172, 28, 156, 0, 8, 16, 241, 167, 0, 9, 42]
abbrev dktX7_row_1 : List UInt8 := dkwX7_row_1 ++ dktX7_row_2
def dkwX7_row_0 : List UInt8 := [42, 27, 182, 0, 131, 153, 0, 19, 42, 180, 0, 13, 27, 46, 7, 160, 0, 9, 28, 16, 20, 164, 0, 5]
abbrev dktX7_row_0 : List UInt8 := dkwX7_row_0 ++ dktX7_row_1
theorem dksX7_row_0 : cX7_row.data.toList.drop 0 = dktX7_row_0 := by decide +kernel
theorem dksX7_row_1 : cX7_row.data.toList.drop 24 = dktX7_row_1 := dk_seg dksX7_row_0 24 rfl rfl
theorem dksX7_row_2 : cX7_row.data.toList.drop 48 = dktX7_row_2 := dk_seg dksX7_row_1 24 rfl rfl
theorem dX7_row_0 : decode cX7_row 0 = .ok (.aload_n 0, 1) := dk_42 (dk_at dksX7_row_0 0 rfl rfl)
theorem dX7_row_1 : decode cX7_row 1 = .ok (.iload_n 1, 1) := dk_27 (dk_at dksX7_row_0 1 rfl rfl)
theorem dX7_row_2 : decode cX7_row 2 = .ok (.invokevirtual 131, 3) := dk_182 0 131 (dk_at dksX7_row_0 2 rfl rfl)
theorem dX7_row_5 : decode cX7_row 5 = .ok (.ifCond .eq 19, 3) := dk_153 0 19 (dk_at dksX7_row_0 5 rfl rfl)
theorem dX7_row_8 : decode cX7_row 8 = .ok (.aload_n 0, 1) := dk_42 (dk_at dksX7_row_0 8 rfl rfl)
theorem dX7_row_9 : decode cX7_row 9 = .ok (.getfield 13, 3) := dk_180 0 13 (dk_at dksX7_row_0 9 rfl rfl)
theorem dX7_row_12 : decode cX7_row 12 = .ok (.iload_n 1, 1) := dk_27 (dk_at dksX7_row_0 12 rfl rfl)
theorem dX7_row_13 : decode cX7_row 13 = .ok (.iaload, 1) := dk_46 (dk_at dksX7_row_0 13 rfl rfl)
theorem dX7_row_14 : decode cX7_row 14 = .ok (.iconst 4, 1) := dk_7 (dk_at dksX7_row_0 14 rfl rfl)
theorem dX7_row_15 : decode cX7_row 15 = .ok (.if_icmp .ne 9, 3) := dk_160 0 9 (dk_at dksX7_row_0 15 rfl rfl)
theorem dX7_row_18 : decode cX7_row 18 = .ok (.iload_n 2, 1) := dk_28 (dk_at dksX7_row_0 18 rfl rfl)
theorem dX7_row_19 : decode cX7_row 19 = .ok (.bipush 20, 2) := dk_16 20 (dk_at dksX7_row_0 19 rfl rfl)
theorem dX7_row_21 : decode cX7_row 21 = .ok (.if_icmp .le 5, 3) := dk_164 0 5 (dk_at dksX7_row_0 21 rfl rfl)
theorem dX7_row_24 : decode cX7_row 24 = .ok (.iconst (-1), 1) := dk_2 (dk_at dksX7_row_1 0 rfl rfl)
theorem dX7_row_25 : decode cX7_row 25 = .ok (.ireturn, 1) := dk_172 (dk_at dksX7_row_1 1 rfl rfl)
theorem dX7_row_26 : decode cX7_row 26 = .ok (.aload_n 0, 1) := dk_42 (dk_at dksX7_row_1 2 rfl rfl)
theorem dX7_row_27 : decode cX7_row 27 = .ok (.getfield 168, 3) := dk_180 0 168 (dk_at dksX7_row_1 3 rfl rfl)
theorem dX7_row_30 : decode cX7_row 30 = .ok (.bipush 80, 2) := dk_16 80 (dk_at dksX7_row_1 6 rfl rfl)
theorem dX7_row_32 : decode cX7_row 32 = .ok (.if_icmp .ne 6, 3) := dk_160 0 6 (dk_at dksX7_row_1 8 rfl rfl)
theorem dX7_row_35 : decode cX7_row 35 = .ok (.bipush (-3), 2) := dk_16 253 (dk_at dksX7_row_1 11 rfl rfl)
theorem dX7_row_37 : decode cX7_row 37 = .ok (.ireturn, 1) := dk_172 (dk_at dksX7_row_1 13 rfl rfl)
theorem dX7_row_38 : decode cX7_row 38 = .ok (.iload_n 2, 1) := dk_28 (dk_at dksX7_row_1 14 rfl rfl)
theorem dX7_row_39 : decode cX7_row 39 = .ok (.ifCond .ge 8, 3) := dk_156 0 8 (dk_at dksX7_row_1 15 rfl rfl)
theorem dX7_row_42 : decode cX7_row 42 = .ok (.bipush (-15), 2) := dk_16 241 (dk_at dksX7_row_1 18 rfl rfl)
theorem dX7_row_44 : decode cX7_row 44 = .ok (.goto 9, 3) := dk_167 0 9 (dk_at dksX7_row_1 20 rfl rfl)
theorem dX7_row_47 : decode cX7_row 47 = .ok (.aload_n 0, 1) := dk_42 (dk_at dksX7_row_1 23 rfl rfl)
theorem dX7_row_48 : decode cX7_row 48 = .ok (.iload_n 1, 1) := dk_27 (dk_at dksX7_row_2 0 rfl rfl)
theorem dX7_row_49 : decode cX7_row 49 = .ok (.iload_n 2, 1) := dk_28 (dk_at dksX7_row_2 1 rfl rfl)
theorem dX7_row_50 : decode cX7_row 50 = .ok (.invokevirtual 337, 3) := dk_182 1 81 (dk_at dksX7_row_2 2 rfl rfl)
theorem dX7_row_53 : decode cX7_row 53 = .ok (.ireturn, 1) := dk_172 (dk_at dksX7_row_2 5 rfl rfl)
abbrev cX7_thing : ByteArray := prog_30_method_71_code
def yX7_thing : MethodName := ⟨RX7, "thing", "(II)I"⟩
def dkwX7_thing_2 : List UInt8 := [27, 46, 172]
abbrev dktX7_thing_2 : List UInt8 := dkwX7_thing_2 ++ []
def dkwX7_thing_1 : List UInt8 := [160, 0, 7, 3, 167, 0, 22, 28, 154, 0, 12, 42, 180, 0, 88, 27, 46, 167, 0, 9, 42, 180, 0, 91]
abbrev dktX7_thing_1 : List UInt8 := dkwX7_thing_1 ++ dktX7_thing_2
def dkwX7_thing_0 : List UInt8 := [42, 27, 182, 1, 8, 153, 0, 13, 28, 133, 9, 10, 184, 0, 127, 154, 0, 6, 16, 254, 172, 27, 2]
abbrev dktX7_thing_0 : List UInt8 := dkwX7_thing_0 ++ dktX7_thing_1
theorem dksX7_thing_0 : cX7_thing.data.toList.drop 0 = dktX7_thing_0 := by decide +kernel
theorem dksX7_thing_1 : cX7_thing.data.toList.drop 23 = dktX7_thing_1 := dk_seg dksX7_thing_0 23 rfl rfl
theorem dksX7_thing_2 : cX7_thing.data.toList.drop 47 = dktX7_thing_2 := dk_seg dksX7_thing_1 24 rfl rfl
theorem dX7_thing_0 : decode cX7_thing 0 = .ok (.aload_n 0, 1) := dk_42 (dk_at dksX7_thing_0 0 rfl rfl)
theorem dX7_thing_1 : decode cX7_thing 1 = .ok (.iload_n 1, 1) := dk_27 (dk_at dksX7_thing_0 1 rfl rfl)
theorem dX7_thing_2 : decode cX7_thing 2 = .ok (.invokevirtual 264, 3) := dk_182 1 8 (dk_at dksX7_thing_0 2 rfl rfl)
theorem dX7_thing_5 : decode cX7_thing 5 = .ok (.ifCond .eq 13, 3) := dk_153 0 13 (dk_at dksX7_thing_0 5 rfl rfl)
theorem dX7_thing_8 : decode cX7_thing 8 = .ok (.iload_n 2, 1) := dk_28 (dk_at dksX7_thing_0 8 rfl rfl)
theorem dX7_thing_9 : decode cX7_thing 9 = .ok (.i2l, 1) := dk_133 (dk_at dksX7_thing_0 9 rfl rfl)
theorem dX7_thing_10 : decode cX7_thing 10 = .ok (.lconst 0, 1) := dk_9 (dk_at dksX7_thing_0 10 rfl rfl)
theorem dX7_thing_11 : decode cX7_thing 11 = .ok (.lconst 1, 1) := dk_10 (dk_at dksX7_thing_0 11 rfl rfl)
theorem dX7_thing_12 : decode cX7_thing 12 = .ok (.invokestatic 127, 3) := dk_184 0 127 (dk_at dksX7_thing_0 12 rfl rfl)
theorem dX7_thing_15 : decode cX7_thing 15 = .ok (.ifCond .ne 6, 3) := dk_154 0 6 (dk_at dksX7_thing_0 15 rfl rfl)
theorem dX7_thing_18 : decode cX7_thing 18 = .ok (.bipush (-2), 2) := dk_16 254 (dk_at dksX7_thing_0 18 rfl rfl)
theorem dX7_thing_20 : decode cX7_thing 20 = .ok (.ireturn, 1) := dk_172 (dk_at dksX7_thing_0 20 rfl rfl)
theorem dX7_thing_21 : decode cX7_thing 21 = .ok (.iload_n 1, 1) := dk_27 (dk_at dksX7_thing_0 21 rfl rfl)
theorem dX7_thing_22 : decode cX7_thing 22 = .ok (.iconst (-1), 1) := dk_2 (dk_at dksX7_thing_0 22 rfl rfl)
theorem dX7_thing_23 : decode cX7_thing 23 = .ok (.if_icmp .ne 7, 3) := dk_160 0 7 (dk_at dksX7_thing_1 0 rfl rfl)
theorem dX7_thing_26 : decode cX7_thing 26 = .ok (.iconst 0, 1) := dk_3 (dk_at dksX7_thing_1 3 rfl rfl)
theorem dX7_thing_27 : decode cX7_thing 27 = .ok (.goto 22, 3) := dk_167 0 22 (dk_at dksX7_thing_1 4 rfl rfl)
theorem dX7_thing_30 : decode cX7_thing 30 = .ok (.iload_n 2, 1) := dk_28 (dk_at dksX7_thing_1 7 rfl rfl)
theorem dX7_thing_31 : decode cX7_thing 31 = .ok (.ifCond .ne 12, 3) := dk_154 0 12 (dk_at dksX7_thing_1 8 rfl rfl)
theorem dX7_thing_34 : decode cX7_thing 34 = .ok (.aload_n 0, 1) := dk_42 (dk_at dksX7_thing_1 11 rfl rfl)
theorem dX7_thing_35 : decode cX7_thing 35 = .ok (.getfield 88, 3) := dk_180 0 88 (dk_at dksX7_thing_1 12 rfl rfl)
theorem dX7_thing_38 : decode cX7_thing 38 = .ok (.iload_n 1, 1) := dk_27 (dk_at dksX7_thing_1 15 rfl rfl)
theorem dX7_thing_39 : decode cX7_thing 39 = .ok (.iaload, 1) := dk_46 (dk_at dksX7_thing_1 16 rfl rfl)
theorem dX7_thing_40 : decode cX7_thing 40 = .ok (.goto 9, 3) := dk_167 0 9 (dk_at dksX7_thing_1 17 rfl rfl)
theorem dX7_thing_43 : decode cX7_thing 43 = .ok (.aload_n 0, 1) := dk_42 (dk_at dksX7_thing_1 20 rfl rfl)
theorem dX7_thing_44 : decode cX7_thing 44 = .ok (.getfield 91, 3) := dk_180 0 91 (dk_at dksX7_thing_1 21 rfl rfl)
theorem dX7_thing_47 : decode cX7_thing 47 = .ok (.iload_n 1, 1) := dk_27 (dk_at dksX7_thing_2 0 rfl rfl)
theorem dX7_thing_48 : decode cX7_thing 48 = .ok (.iaload, 1) := dk_46 (dk_at dksX7_thing_2 1 rfl rfl)
theorem dX7_thing_49 : decode cX7_thing 49 = .ok (.ireturn, 1) := dk_172 (dk_at dksX7_thing_2 2 rfl rfl)
abbrev cX7_slot : ByteArray := prog_30_method_74_code
def yX7_slot : MethodName := ⟨RX7, "slot", "(IIJ)I"⟩
def dkwX7_slot_1 : List UInt8 := [182, 1, 91, 154, 0, 5, 2, 172, 42, 27, 28, 33, 182, 1, 95, 4, 172]
abbrev dktX7_slot_1 : List UInt8 := dkwX7_slot_1 ++ []
def dkwX7_slot_0 : List UInt8 := [27, 184, 1, 86, 153, 0, 24, 28, 133, 9, 20, 1, 89, 184, 0, 127, 153, 0, 12, 42, 28, 33]
abbrev dktX7_slot_0 : List UInt8 := dkwX7_slot_0 ++ dktX7_slot_1
theorem dksX7_slot_0 : cX7_slot.data.toList.drop 0 = dktX7_slot_0 := by decide +kernel
theorem dksX7_slot_1 : cX7_slot.data.toList.drop 22 = dktX7_slot_1 := dk_seg dksX7_slot_0 22 rfl rfl
theorem dX7_slot_0 : decode cX7_slot 0 = .ok (.iload_n 1, 1) := dk_27 (dk_at dksX7_slot_0 0 rfl rfl)
theorem dX7_slot_1 : decode cX7_slot 1 = .ok (.invokestatic 342, 3) := dk_184 1 86 (dk_at dksX7_slot_0 1 rfl rfl)
theorem dX7_slot_4 : decode cX7_slot 4 = .ok (.ifCond .eq 24, 3) := dk_153 0 24 (dk_at dksX7_slot_0 4 rfl rfl)
theorem dX7_slot_7 : decode cX7_slot 7 = .ok (.iload_n 2, 1) := dk_28 (dk_at dksX7_slot_0 7 rfl rfl)
theorem dX7_slot_8 : decode cX7_slot 8 = .ok (.i2l, 1) := dk_133 (dk_at dksX7_slot_0 8 rfl rfl)
theorem dX7_slot_9 : decode cX7_slot 9 = .ok (.lconst 0, 1) := dk_9 (dk_at dksX7_slot_0 9 rfl rfl)
theorem dX7_slot_10 : decode cX7_slot 10 = .ok (.ldc2_w 345, 3) := dk_20 1 89 (dk_at dksX7_slot_0 10 rfl rfl)
theorem dX7_slot_13 : decode cX7_slot 13 = .ok (.invokestatic 127, 3) := dk_184 0 127 (dk_at dksX7_slot_0 13 rfl rfl)
theorem dX7_slot_16 : decode cX7_slot 16 = .ok (.ifCond .eq 12, 3) := dk_153 0 12 (dk_at dksX7_slot_0 16 rfl rfl)
theorem dX7_slot_19 : decode cX7_slot 19 = .ok (.aload_n 0, 1) := dk_42 (dk_at dksX7_slot_0 19 rfl rfl)
theorem dX7_slot_20 : decode cX7_slot 20 = .ok (.iload_n 2, 1) := dk_28 (dk_at dksX7_slot_0 20 rfl rfl)
theorem dX7_slot_21 : decode cX7_slot 21 = .ok (.lload_n 3, 1) := dk_33 (dk_at dksX7_slot_0 21 rfl rfl)
theorem dX7_slot_22 : decode cX7_slot 22 = .ok (.invokevirtual 347, 3) := dk_182 1 91 (dk_at dksX7_slot_1 0 rfl rfl)
theorem dX7_slot_25 : decode cX7_slot 25 = .ok (.ifCond .ne 5, 3) := dk_154 0 5 (dk_at dksX7_slot_1 3 rfl rfl)
theorem dX7_slot_28 : decode cX7_slot 28 = .ok (.iconst (-1), 1) := dk_2 (dk_at dksX7_slot_1 6 rfl rfl)
theorem dX7_slot_29 : decode cX7_slot 29 = .ok (.ireturn, 1) := dk_172 (dk_at dksX7_slot_1 7 rfl rfl)
theorem dX7_slot_30 : decode cX7_slot 30 = .ok (.aload_n 0, 1) := dk_42 (dk_at dksX7_slot_1 8 rfl rfl)
theorem dX7_slot_31 : decode cX7_slot 31 = .ok (.iload_n 1, 1) := dk_27 (dk_at dksX7_slot_1 9 rfl rfl)
theorem dX7_slot_32 : decode cX7_slot 32 = .ok (.iload_n 2, 1) := dk_28 (dk_at dksX7_slot_1 10 rfl rfl)
theorem dX7_slot_33 : decode cX7_slot 33 = .ok (.lload_n 3, 1) := dk_33 (dk_at dksX7_slot_1 11 rfl rfl)
theorem dX7_slot_34 : decode cX7_slot 34 = .ok (.invokevirtual 351, 3) := dk_182 1 95 (dk_at dksX7_slot_1 12 rfl rfl)
theorem dX7_slot_37 : decode cX7_slot 37 = .ok (.iconst 1, 1) := dk_4 (dk_at dksX7_slot_1 15 rfl rfl)
theorem dX7_slot_38 : decode cX7_slot 38 = .ok (.ireturn, 1) := dk_172 (dk_at dksX7_slot_1 16 rfl rfl)
abbrev cX7_isSlot : ByteArray := prog_30_method_72_code
def yX7_isSlot : MethodName := ⟨RX7, "isSlot", "(I)Z"⟩
def dkwX7_isSlot_0 : List UInt8 := [26, 133, 9, 20, 1, 84, 184, 0, 127, 172]
abbrev dktX7_isSlot_0 : List UInt8 := dkwX7_isSlot_0 ++ []
theorem dksX7_isSlot_0 : cX7_isSlot.data.toList.drop 0 = dktX7_isSlot_0 := by decide +kernel
theorem dX7_isSlot_0 : decode cX7_isSlot 0 = .ok (.iload_n 0, 1) := dk_26 (dk_at dksX7_isSlot_0 0 rfl rfl)
theorem dX7_isSlot_1 : decode cX7_isSlot 1 = .ok (.i2l, 1) := dk_133 (dk_at dksX7_isSlot_0 1 rfl rfl)
theorem dX7_isSlot_2 : decode cX7_isSlot 2 = .ok (.lconst 0, 1) := dk_9 (dk_at dksX7_isSlot_0 2 rfl rfl)
theorem dX7_isSlot_3 : decode cX7_isSlot 3 = .ok (.ldc2_w 340, 3) := dk_20 1 84 (dk_at dksX7_isSlot_0 3 rfl rfl)
theorem dX7_isSlot_6 : decode cX7_isSlot 6 = .ok (.invokestatic 127, 3) := dk_184 0 127 (dk_at dksX7_isSlot_0 6 rfl rfl)
theorem dX7_isSlot_9 : decode cX7_isSlot 9 = .ok (.ireturn, 1) := dk_172 (dk_at dksX7_isSlot_0 9 rfl rfl)
abbrev cX7_fit : ByteArray := prog_30_method_67_code
def yX7_fit : MethodName := ⟨RX7, "fit", "(IJ)Z"⟩
def dkwX7_fit_6 : List UInt8 := [157, 0, 7, 4, 167, 0, 4, 3, 172, 32, 20, 0, 199, 42, 180, 0, 168, 133, 10, 101, 184, 0, 127, 172]
abbrev dktX7_fit_6 : List UInt8 := dkwX7_fit_6 ++ []
def dkwX7_fit_5 : List UInt8 := [20, 1, 75, 148, 157, 0, 7, 4, 167, 0, 4, 3, 172, 32, 20, 1, 77, 127, 20, 1, 79, 148]
abbrev dktX7_fit_5 : List UInt8 := dkwX7_fit_5 ++ dktX7_fit_6
def dkwX7_fit_4 : List UInt8 := [184, 0, 127, 172, 4, 172, 32, 20, 1, 71, 20, 1, 73, 184, 0, 127, 153, 0, 19, 32, 20, 1, 73, 127]
abbrev dktX7_fit_4 : List UInt8 := dkwX7_fit_4 ++ dktX7_fit_5
def dkwX7_fit_3 : List UInt8 := [184, 0, 127, 172, 32, 20, 1, 67, 20, 1, 69, 184, 0, 127, 172, 32, 20, 1, 71, 20, 1, 73]
abbrev dktX7_fit_3 : List UInt8 := dkwX7_fit_3 ++ dktX7_fit_4
def dkwX7_fit_2 : List UInt8 := [32, 9, 10, 184, 0, 127, 172, 32, 9, 20, 1, 61, 184, 0, 127, 172, 32, 20, 1, 63, 20, 1, 65]
abbrev dktX7_fit_2 : List UInt8 := dkwX7_fit_2 ++ dktX7_fit_3
def dkwX7_fit_1 : List UInt8 := [170, 0, 0, 0, 0, 0, 147, 0, 0, 0, 0, 0, 0, 0, 7, 0, 0, 0, 47, 0, 0, 0, 54, 0, 0, 0, 63, 0, 0, 0, 74, 0, 0, 0, 85, 0, 0, 0, 96, 0, 0, 0, 98, 0, 0, 0, 129]
abbrev dktX7_fit_1 : List UInt8 := dkwX7_fit_1 ++ dktX7_fit_2
def dkwX7_fit_0 : List UInt8 := [27]
abbrev dktX7_fit_0 : List UInt8 := dkwX7_fit_0 ++ dktX7_fit_1
theorem dksX7_fit_0 : cX7_fit.data.toList.drop 0 = dktX7_fit_0 := by decide +kernel
theorem dksX7_fit_1 : cX7_fit.data.toList.drop 1 = dktX7_fit_1 := dk_seg dksX7_fit_0 1 rfl rfl
theorem dksX7_fit_2 : cX7_fit.data.toList.drop 48 = dktX7_fit_2 := dk_seg dksX7_fit_1 47 rfl rfl
theorem dksX7_fit_3 : cX7_fit.data.toList.drop 71 = dktX7_fit_3 := dk_seg dksX7_fit_2 23 rfl rfl
theorem dksX7_fit_4 : cX7_fit.data.toList.drop 93 = dktX7_fit_4 := dk_seg dksX7_fit_3 22 rfl rfl
theorem dksX7_fit_5 : cX7_fit.data.toList.drop 117 = dktX7_fit_5 := dk_seg dksX7_fit_4 24 rfl rfl
theorem dksX7_fit_6 : cX7_fit.data.toList.drop 139 = dktX7_fit_6 := dk_seg dksX7_fit_5 22 rfl rfl
theorem dX7_fit_0 : decode cX7_fit 0 = .ok (.iload_n 1, 1) := dk_27 (dk_at dksX7_fit_0 0 rfl rfl)
theorem dX7_fit_1 : decode cX7_fit 1 = .ok (.tableswitch 147 0 7 #[47, 54, 63, 74, 85, 96, 98, 129], 47) := by decide +kernel
theorem dX7_fit_48 : decode cX7_fit 48 = .ok (.lload_n 2, 1) := dk_32 (dk_at dksX7_fit_2 0 rfl rfl)
theorem dX7_fit_49 : decode cX7_fit 49 = .ok (.lconst 0, 1) := dk_9 (dk_at dksX7_fit_2 1 rfl rfl)
theorem dX7_fit_50 : decode cX7_fit 50 = .ok (.lconst 1, 1) := dk_10 (dk_at dksX7_fit_2 2 rfl rfl)
theorem dX7_fit_51 : decode cX7_fit 51 = .ok (.invokestatic 127, 3) := dk_184 0 127 (dk_at dksX7_fit_2 3 rfl rfl)
theorem dX7_fit_54 : decode cX7_fit 54 = .ok (.ireturn, 1) := dk_172 (dk_at dksX7_fit_2 6 rfl rfl)
theorem dX7_fit_55 : decode cX7_fit 55 = .ok (.lload_n 2, 1) := dk_32 (dk_at dksX7_fit_2 7 rfl rfl)
theorem dX7_fit_56 : decode cX7_fit 56 = .ok (.lconst 0, 1) := dk_9 (dk_at dksX7_fit_2 8 rfl rfl)
theorem dX7_fit_57 : decode cX7_fit 57 = .ok (.ldc2_w 317, 3) := dk_20 1 61 (dk_at dksX7_fit_2 9 rfl rfl)
theorem dX7_fit_60 : decode cX7_fit 60 = .ok (.invokestatic 127, 3) := dk_184 0 127 (dk_at dksX7_fit_2 12 rfl rfl)
theorem dX7_fit_63 : decode cX7_fit 63 = .ok (.ireturn, 1) := dk_172 (dk_at dksX7_fit_2 15 rfl rfl)
theorem dX7_fit_64 : decode cX7_fit 64 = .ok (.lload_n 2, 1) := dk_32 (dk_at dksX7_fit_2 16 rfl rfl)
theorem dX7_fit_65 : decode cX7_fit 65 = .ok (.ldc2_w 319, 3) := dk_20 1 63 (dk_at dksX7_fit_2 17 rfl rfl)
theorem dX7_fit_68 : decode cX7_fit 68 = .ok (.ldc2_w 321, 3) := dk_20 1 65 (dk_at dksX7_fit_2 20 rfl rfl)
theorem dX7_fit_71 : decode cX7_fit 71 = .ok (.invokestatic 127, 3) := dk_184 0 127 (dk_at dksX7_fit_3 0 rfl rfl)
theorem dX7_fit_74 : decode cX7_fit 74 = .ok (.ireturn, 1) := dk_172 (dk_at dksX7_fit_3 3 rfl rfl)
theorem dX7_fit_75 : decode cX7_fit 75 = .ok (.lload_n 2, 1) := dk_32 (dk_at dksX7_fit_3 4 rfl rfl)
theorem dX7_fit_76 : decode cX7_fit 76 = .ok (.ldc2_w 323, 3) := dk_20 1 67 (dk_at dksX7_fit_3 5 rfl rfl)
theorem dX7_fit_79 : decode cX7_fit 79 = .ok (.ldc2_w 325, 3) := dk_20 1 69 (dk_at dksX7_fit_3 8 rfl rfl)
theorem dX7_fit_82 : decode cX7_fit 82 = .ok (.invokestatic 127, 3) := dk_184 0 127 (dk_at dksX7_fit_3 11 rfl rfl)
theorem dX7_fit_85 : decode cX7_fit 85 = .ok (.ireturn, 1) := dk_172 (dk_at dksX7_fit_3 14 rfl rfl)
theorem dX7_fit_86 : decode cX7_fit 86 = .ok (.lload_n 2, 1) := dk_32 (dk_at dksX7_fit_3 15 rfl rfl)
theorem dX7_fit_87 : decode cX7_fit 87 = .ok (.ldc2_w 327, 3) := dk_20 1 71 (dk_at dksX7_fit_3 16 rfl rfl)
theorem dX7_fit_90 : decode cX7_fit 90 = .ok (.ldc2_w 329, 3) := dk_20 1 73 (dk_at dksX7_fit_3 19 rfl rfl)
theorem dX7_fit_93 : decode cX7_fit 93 = .ok (.invokestatic 127, 3) := dk_184 0 127 (dk_at dksX7_fit_4 0 rfl rfl)
theorem dX7_fit_96 : decode cX7_fit 96 = .ok (.ireturn, 1) := dk_172 (dk_at dksX7_fit_4 3 rfl rfl)
theorem dX7_fit_97 : decode cX7_fit 97 = .ok (.iconst 1, 1) := dk_4 (dk_at dksX7_fit_4 4 rfl rfl)
theorem dX7_fit_98 : decode cX7_fit 98 = .ok (.ireturn, 1) := dk_172 (dk_at dksX7_fit_4 5 rfl rfl)
theorem dX7_fit_99 : decode cX7_fit 99 = .ok (.lload_n 2, 1) := dk_32 (dk_at dksX7_fit_4 6 rfl rfl)
theorem dX7_fit_100 : decode cX7_fit 100 = .ok (.ldc2_w 327, 3) := dk_20 1 71 (dk_at dksX7_fit_4 7 rfl rfl)
theorem dX7_fit_103 : decode cX7_fit 103 = .ok (.ldc2_w 329, 3) := dk_20 1 73 (dk_at dksX7_fit_4 10 rfl rfl)
theorem dX7_fit_106 : decode cX7_fit 106 = .ok (.invokestatic 127, 3) := dk_184 0 127 (dk_at dksX7_fit_4 13 rfl rfl)
theorem dX7_fit_109 : decode cX7_fit 109 = .ok (.ifCond .eq 19, 3) := dk_153 0 19 (dk_at dksX7_fit_4 16 rfl rfl)
theorem dX7_fit_112 : decode cX7_fit 112 = .ok (.lload_n 2, 1) := dk_32 (dk_at dksX7_fit_4 19 rfl rfl)
theorem dX7_fit_113 : decode cX7_fit 113 = .ok (.ldc2_w 329, 3) := dk_20 1 73 (dk_at dksX7_fit_4 20 rfl rfl)
theorem dX7_fit_116 : decode cX7_fit 116 = .ok (.land, 1) := dk_127 (dk_at dksX7_fit_4 23 rfl rfl)
theorem dX7_fit_117 : decode cX7_fit 117 = .ok (.ldc2_w 331, 3) := dk_20 1 75 (dk_at dksX7_fit_5 0 rfl rfl)
theorem dX7_fit_120 : decode cX7_fit 120 = .ok (.lcmp, 1) := dk_148 (dk_at dksX7_fit_5 3 rfl rfl)
theorem dX7_fit_121 : decode cX7_fit 121 = .ok (.ifCond .gt 7, 3) := dk_157 0 7 (dk_at dksX7_fit_5 4 rfl rfl)
theorem dX7_fit_124 : decode cX7_fit 124 = .ok (.iconst 1, 1) := dk_4 (dk_at dksX7_fit_5 7 rfl rfl)
theorem dX7_fit_125 : decode cX7_fit 125 = .ok (.goto 4, 3) := dk_167 0 4 (dk_at dksX7_fit_5 8 rfl rfl)
theorem dX7_fit_128 : decode cX7_fit 128 = .ok (.iconst 0, 1) := dk_3 (dk_at dksX7_fit_5 11 rfl rfl)
theorem dX7_fit_129 : decode cX7_fit 129 = .ok (.ireturn, 1) := dk_172 (dk_at dksX7_fit_5 12 rfl rfl)
theorem dX7_fit_130 : decode cX7_fit 130 = .ok (.lload_n 2, 1) := dk_32 (dk_at dksX7_fit_5 13 rfl rfl)
theorem dX7_fit_131 : decode cX7_fit 131 = .ok (.ldc2_w 333, 3) := dk_20 1 77 (dk_at dksX7_fit_5 14 rfl rfl)
theorem dX7_fit_134 : decode cX7_fit 134 = .ok (.land, 1) := dk_127 (dk_at dksX7_fit_5 17 rfl rfl)
theorem dX7_fit_135 : decode cX7_fit 135 = .ok (.ldc2_w 335, 3) := dk_20 1 79 (dk_at dksX7_fit_5 18 rfl rfl)
theorem dX7_fit_138 : decode cX7_fit 138 = .ok (.lcmp, 1) := dk_148 (dk_at dksX7_fit_5 21 rfl rfl)
theorem dX7_fit_139 : decode cX7_fit 139 = .ok (.ifCond .gt 7, 3) := dk_157 0 7 (dk_at dksX7_fit_6 0 rfl rfl)
theorem dX7_fit_142 : decode cX7_fit 142 = .ok (.iconst 1, 1) := dk_4 (dk_at dksX7_fit_6 3 rfl rfl)
theorem dX7_fit_143 : decode cX7_fit 143 = .ok (.goto 4, 3) := dk_167 0 4 (dk_at dksX7_fit_6 4 rfl rfl)
theorem dX7_fit_146 : decode cX7_fit 146 = .ok (.iconst 0, 1) := dk_3 (dk_at dksX7_fit_6 7 rfl rfl)
theorem dX7_fit_147 : decode cX7_fit 147 = .ok (.ireturn, 1) := dk_172 (dk_at dksX7_fit_6 8 rfl rfl)
theorem dX7_fit_148 : decode cX7_fit 148 = .ok (.lload_n 2, 1) := dk_32 (dk_at dksX7_fit_6 9 rfl rfl)
theorem dX7_fit_149 : decode cX7_fit 149 = .ok (.ldc2_w 199, 3) := dk_20 0 199 (dk_at dksX7_fit_6 10 rfl rfl)
theorem dX7_fit_152 : decode cX7_fit 152 = .ok (.aload_n 0, 1) := dk_42 (dk_at dksX7_fit_6 13 rfl rfl)
theorem dX7_fit_153 : decode cX7_fit 153 = .ok (.getfield 168, 3) := dk_180 0 168 (dk_at dksX7_fit_6 14 rfl rfl)
theorem dX7_fit_156 : decode cX7_fit 156 = .ok (.i2l, 1) := dk_133 (dk_at dksX7_fit_6 17 rfl rfl)
theorem dX7_fit_157 : decode cX7_fit 157 = .ok (.lconst 1, 1) := dk_10 (dk_at dksX7_fit_6 18 rfl rfl)
theorem dX7_fit_158 : decode cX7_fit 158 = .ok (.lsub, 1) := dk_101 (dk_at dksX7_fit_6 19 rfl rfl)
theorem dX7_fit_159 : decode cX7_fit 159 = .ok (.invokestatic 127, 3) := dk_184 0 127 (dk_at dksX7_fit_6 20 rfl rfl)
theorem dX7_fit_162 : decode cX7_fit 162 = .ok (.ireturn, 1) := dk_172 (dk_at dksX7_fit_6 23 rfl rfl)
abbrev cX7_lay : ByteArray := prog_30_method_73_code
def yX7_lay : MethodName := ⟨RX7, "lay", "(IIJ)V"⟩
def dkwX7_lay_0 : List UInt8 := [42, 180, 0, 100, 27, 28, 79, 42, 180, 0, 103, 27, 33, 80, 177]
abbrev dktX7_lay_0 : List UInt8 := dkwX7_lay_0 ++ []
theorem dksX7_lay_0 : cX7_lay.data.toList.drop 0 = dktX7_lay_0 := by decide +kernel
theorem dX7_lay_0 : decode cX7_lay 0 = .ok (.aload_n 0, 1) := dk_42 (dk_at dksX7_lay_0 0 rfl rfl)
theorem dX7_lay_1 : decode cX7_lay 1 = .ok (.getfield 100, 3) := dk_180 0 100 (dk_at dksX7_lay_0 1 rfl rfl)
theorem dX7_lay_4 : decode cX7_lay 4 = .ok (.iload_n 1, 1) := dk_27 (dk_at dksX7_lay_0 4 rfl rfl)
theorem dX7_lay_5 : decode cX7_lay 5 = .ok (.iload_n 2, 1) := dk_28 (dk_at dksX7_lay_0 5 rfl rfl)
theorem dX7_lay_6 : decode cX7_lay 6 = .ok (.iastore, 1) := dk_79 (dk_at dksX7_lay_0 6 rfl rfl)
theorem dX7_lay_7 : decode cX7_lay 7 = .ok (.aload_n 0, 1) := dk_42 (dk_at dksX7_lay_0 7 rfl rfl)
theorem dX7_lay_8 : decode cX7_lay 8 = .ok (.getfield 103, 3) := dk_180 0 103 (dk_at dksX7_lay_0 8 rfl rfl)
theorem dX7_lay_11 : decode cX7_lay 11 = .ok (.iload_n 1, 1) := dk_27 (dk_at dksX7_lay_0 11 rfl rfl)
theorem dX7_lay_12 : decode cX7_lay 12 = .ok (.lload_n 3, 1) := dk_33 (dk_at dksX7_lay_0 12 rfl rfl)
theorem dX7_lay_13 : decode cX7_lay 13 = .ok (.lastore, 1) := dk_80 (dk_at dksX7_lay_0 13 rfl rfl)
theorem dX7_lay_14 : decode cX7_lay 14 = .ok (.return_, 1) := dk_177 (dk_at dksX7_lay_0 14 rfl rfl)
abbrev cX7_kind : ByteArray := prog_30_method_75_code
def yX7_kind : MethodName := ⟨RX7, "kind", "(I)I"⟩
def dkwX7_kind_0 : List UInt8 := [27, 184, 1, 86, 153, 0, 12, 42, 180, 0, 100, 27, 46, 167, 0, 4, 2, 172]
abbrev dktX7_kind_0 : List UInt8 := dkwX7_kind_0 ++ []
theorem dksX7_kind_0 : cX7_kind.data.toList.drop 0 = dktX7_kind_0 := by decide +kernel
theorem dX7_kind_0 : decode cX7_kind 0 = .ok (.iload_n 1, 1) := dk_27 (dk_at dksX7_kind_0 0 rfl rfl)
theorem dX7_kind_1 : decode cX7_kind 1 = .ok (.invokestatic 342, 3) := dk_184 1 86 (dk_at dksX7_kind_0 1 rfl rfl)
theorem dX7_kind_4 : decode cX7_kind 4 = .ok (.ifCond .eq 12, 3) := dk_153 0 12 (dk_at dksX7_kind_0 4 rfl rfl)
theorem dX7_kind_7 : decode cX7_kind 7 = .ok (.aload_n 0, 1) := dk_42 (dk_at dksX7_kind_0 7 rfl rfl)
theorem dX7_kind_8 : decode cX7_kind 8 = .ok (.getfield 100, 3) := dk_180 0 100 (dk_at dksX7_kind_0 8 rfl rfl)
theorem dX7_kind_11 : decode cX7_kind 11 = .ok (.iload_n 1, 1) := dk_27 (dk_at dksX7_kind_0 11 rfl rfl)
theorem dX7_kind_12 : decode cX7_kind 12 = .ok (.iaload, 1) := dk_46 (dk_at dksX7_kind_0 12 rfl rfl)
theorem dX7_kind_13 : decode cX7_kind 13 = .ok (.goto 4, 3) := dk_167 0 4 (dk_at dksX7_kind_0 13 rfl rfl)
theorem dX7_kind_16 : decode cX7_kind 16 = .ok (.iconst (-1), 1) := dk_2 (dk_at dksX7_kind_0 16 rfl rfl)
theorem dX7_kind_17 : decode cX7_kind 17 = .ok (.ireturn, 1) := dk_172 (dk_at dksX7_kind_0 17 rfl rfl)
abbrev cX7_bits : ByteArray := prog_30_method_76_code
def yX7_bits : MethodName := ⟨RX7, "bits", "(I)J"⟩
def dkwX7_bits_0 : List UInt8 := [27, 184, 1, 86, 153, 0, 12, 42, 180, 0, 103, 27, 47, 167, 0, 6, 20, 1, 47, 173]
abbrev dktX7_bits_0 : List UInt8 := dkwX7_bits_0 ++ []
theorem dksX7_bits_0 : cX7_bits.data.toList.drop 0 = dktX7_bits_0 := by decide +kernel
theorem dX7_bits_0 : decode cX7_bits 0 = .ok (.iload_n 1, 1) := dk_27 (dk_at dksX7_bits_0 0 rfl rfl)
theorem dX7_bits_1 : decode cX7_bits 1 = .ok (.invokestatic 342, 3) := dk_184 1 86 (dk_at dksX7_bits_0 1 rfl rfl)
theorem dX7_bits_4 : decode cX7_bits 4 = .ok (.ifCond .eq 12, 3) := dk_153 0 12 (dk_at dksX7_bits_0 4 rfl rfl)
theorem dX7_bits_7 : decode cX7_bits 7 = .ok (.aload_n 0, 1) := dk_42 (dk_at dksX7_bits_0 7 rfl rfl)
theorem dX7_bits_8 : decode cX7_bits 8 = .ok (.getfield 103, 3) := dk_180 0 103 (dk_at dksX7_bits_0 8 rfl rfl)
theorem dX7_bits_11 : decode cX7_bits 11 = .ok (.iload_n 1, 1) := dk_27 (dk_at dksX7_bits_0 11 rfl rfl)
theorem dX7_bits_12 : decode cX7_bits 12 = .ok (.laload, 1) := dk_47 (dk_at dksX7_bits_0 12 rfl rfl)
theorem dX7_bits_13 : decode cX7_bits 13 = .ok (.goto 6, 3) := dk_167 0 6 (dk_at dksX7_bits_0 13 rfl rfl)
theorem dX7_bits_16 : decode cX7_bits 16 = .ok (.ldc2_w 303, 3) := dk_20 1 47 (dk_at dksX7_bits_0 16 rfl rfl)
theorem dX7_bits_19 : decode cX7_bits 19 = .ok (.lreturn, 1) := dk_173 (dk_at dksX7_bits_0 19 rfl rfl)
abbrev cX7_get : ByteArray := prog_30_method_82_code
def yX7_get : MethodName := ⟨RX7, "get", "(IIII)I"⟩
def dkwX7_get_5 : List UInt8 := [46, 29, 184, 1, 112, 182, 1, 95, 4, 172]
abbrev dktX7_get_5 : List UInt8 := dkwX7_get_5 ++ []
def dkwX7_get_4 : List UInt8 := [158, 0, 9, 16, 246, 21, 5, 100, 172, 42, 21, 4, 29, 42, 27, 28, 182, 1, 108, 42, 180, 0, 57, 27]
abbrev dktX7_get_4 : List UInt8 := dkwX7_get_4 ++ dktX7_get_5
def dkwX7_get_3 : List UInt8 := [180, 0, 57, 27, 46, 29, 184, 1, 105, 154, 0, 7, 5, 167, 0, 5, 21, 5, 54, 5, 21, 5]
abbrev dktX7_get_3 : List UInt8 := dkwX7_get_3 ++ dktX7_get_4
def dkwX7_get_2 : List UInt8 := [154, 0, 8, 16, 6, 167, 0, 9, 42, 27, 28, 182, 1, 102, 54, 5, 21, 5, 154, 0, 20, 42]
abbrev dktX7_get_2 : List UInt8 := dkwX7_get_2 ++ dktX7_get_3
def dkwX7_get_1 : List UInt8 := [184, 0, 127, 153, 0, 11, 21, 4, 184, 1, 86, 154, 0, 5, 2, 172, 42, 27, 28, 182, 1, 11]
abbrev dktX7_get_1 : List UInt8 := dkwX7_get_1 ++ dktX7_get_2
def dkwX7_get_0 : List UInt8 := [42, 27, 182, 1, 99, 153, 0, 31, 42, 28, 182, 1, 8, 153, 0, 23, 29, 133, 9, 20, 1, 89]
abbrev dktX7_get_0 : List UInt8 := dkwX7_get_0 ++ dktX7_get_1
theorem dksX7_get_0 : cX7_get.data.toList.drop 0 = dktX7_get_0 := by decide +kernel
theorem dksX7_get_1 : cX7_get.data.toList.drop 22 = dktX7_get_1 := dk_seg dksX7_get_0 22 rfl rfl
theorem dksX7_get_2 : cX7_get.data.toList.drop 44 = dktX7_get_2 := dk_seg dksX7_get_1 22 rfl rfl
theorem dksX7_get_3 : cX7_get.data.toList.drop 66 = dktX7_get_3 := dk_seg dksX7_get_2 22 rfl rfl
theorem dksX7_get_4 : cX7_get.data.toList.drop 88 = dktX7_get_4 := dk_seg dksX7_get_3 22 rfl rfl
theorem dksX7_get_5 : cX7_get.data.toList.drop 112 = dktX7_get_5 := dk_seg dksX7_get_4 24 rfl rfl
theorem dX7_get_0 : decode cX7_get 0 = .ok (.aload_n 0, 1) := dk_42 (dk_at dksX7_get_0 0 rfl rfl)
theorem dX7_get_1 : decode cX7_get 1 = .ok (.iload_n 1, 1) := dk_27 (dk_at dksX7_get_0 1 rfl rfl)
theorem dX7_get_2 : decode cX7_get 2 = .ok (.invokevirtual 355, 3) := dk_182 1 99 (dk_at dksX7_get_0 2 rfl rfl)
theorem dX7_get_5 : decode cX7_get 5 = .ok (.ifCond .eq 31, 3) := dk_153 0 31 (dk_at dksX7_get_0 5 rfl rfl)
theorem dX7_get_8 : decode cX7_get 8 = .ok (.aload_n 0, 1) := dk_42 (dk_at dksX7_get_0 8 rfl rfl)
theorem dX7_get_9 : decode cX7_get 9 = .ok (.iload_n 2, 1) := dk_28 (dk_at dksX7_get_0 9 rfl rfl)
theorem dX7_get_10 : decode cX7_get 10 = .ok (.invokevirtual 264, 3) := dk_182 1 8 (dk_at dksX7_get_0 10 rfl rfl)
theorem dX7_get_13 : decode cX7_get 13 = .ok (.ifCond .eq 23, 3) := dk_153 0 23 (dk_at dksX7_get_0 13 rfl rfl)
theorem dX7_get_16 : decode cX7_get 16 = .ok (.iload_n 3, 1) := dk_29 (dk_at dksX7_get_0 16 rfl rfl)
theorem dX7_get_17 : decode cX7_get 17 = .ok (.i2l, 1) := dk_133 (dk_at dksX7_get_0 17 rfl rfl)
theorem dX7_get_18 : decode cX7_get 18 = .ok (.lconst 0, 1) := dk_9 (dk_at dksX7_get_0 18 rfl rfl)
theorem dX7_get_19 : decode cX7_get 19 = .ok (.ldc2_w 345, 3) := dk_20 1 89 (dk_at dksX7_get_0 19 rfl rfl)
theorem dX7_get_22 : decode cX7_get 22 = .ok (.invokestatic 127, 3) := dk_184 0 127 (dk_at dksX7_get_1 0 rfl rfl)
theorem dX7_get_25 : decode cX7_get 25 = .ok (.ifCond .eq 11, 3) := dk_153 0 11 (dk_at dksX7_get_1 3 rfl rfl)
theorem dX7_get_28 : decode cX7_get 28 = .ok (.iload 4, 2) := dk_21 4 (dk_at dksX7_get_1 6 rfl rfl)
theorem dX7_get_30 : decode cX7_get 30 = .ok (.invokestatic 342, 3) := dk_184 1 86 (dk_at dksX7_get_1 8 rfl rfl)
theorem dX7_get_33 : decode cX7_get 33 = .ok (.ifCond .ne 5, 3) := dk_154 0 5 (dk_at dksX7_get_1 11 rfl rfl)
theorem dX7_get_36 : decode cX7_get 36 = .ok (.iconst (-1), 1) := dk_2 (dk_at dksX7_get_1 14 rfl rfl)
theorem dX7_get_37 : decode cX7_get 37 = .ok (.ireturn, 1) := dk_172 (dk_at dksX7_get_1 15 rfl rfl)
theorem dX7_get_38 : decode cX7_get 38 = .ok (.aload_n 0, 1) := dk_42 (dk_at dksX7_get_1 16 rfl rfl)
theorem dX7_get_39 : decode cX7_get 39 = .ok (.iload_n 1, 1) := dk_27 (dk_at dksX7_get_1 17 rfl rfl)
theorem dX7_get_40 : decode cX7_get 40 = .ok (.iload_n 2, 1) := dk_28 (dk_at dksX7_get_1 18 rfl rfl)
theorem dX7_get_41 : decode cX7_get 41 = .ok (.invokevirtual 267, 3) := dk_182 1 11 (dk_at dksX7_get_1 19 rfl rfl)
theorem dX7_get_44 : decode cX7_get 44 = .ok (.ifCond .ne 8, 3) := dk_154 0 8 (dk_at dksX7_get_2 0 rfl rfl)
theorem dX7_get_47 : decode cX7_get 47 = .ok (.bipush 6, 2) := dk_16 6 (dk_at dksX7_get_2 3 rfl rfl)
theorem dX7_get_49 : decode cX7_get 49 = .ok (.goto 9, 3) := dk_167 0 9 (dk_at dksX7_get_2 5 rfl rfl)
theorem dX7_get_52 : decode cX7_get 52 = .ok (.aload_n 0, 1) := dk_42 (dk_at dksX7_get_2 8 rfl rfl)
theorem dX7_get_53 : decode cX7_get 53 = .ok (.iload_n 1, 1) := dk_27 (dk_at dksX7_get_2 9 rfl rfl)
theorem dX7_get_54 : decode cX7_get 54 = .ok (.iload_n 2, 1) := dk_28 (dk_at dksX7_get_2 10 rfl rfl)
theorem dX7_get_55 : decode cX7_get 55 = .ok (.invokevirtual 358, 3) := dk_182 1 102 (dk_at dksX7_get_2 11 rfl rfl)
theorem dX7_get_58 : decode cX7_get 58 = .ok (.istore 5, 2) := dk_54 5 (dk_at dksX7_get_2 14 rfl rfl)
theorem dX7_get_60 : decode cX7_get 60 = .ok (.iload 5, 2) := dk_21 5 (dk_at dksX7_get_2 16 rfl rfl)
theorem dX7_get_62 : decode cX7_get 62 = .ok (.ifCond .ne 20, 3) := dk_154 0 20 (dk_at dksX7_get_2 18 rfl rfl)
theorem dX7_get_65 : decode cX7_get 65 = .ok (.aload_n 0, 1) := dk_42 (dk_at dksX7_get_2 21 rfl rfl)
theorem dX7_get_66 : decode cX7_get 66 = .ok (.getfield 57, 3) := dk_180 0 57 (dk_at dksX7_get_3 0 rfl rfl)
theorem dX7_get_69 : decode cX7_get 69 = .ok (.iload_n 1, 1) := dk_27 (dk_at dksX7_get_3 3 rfl rfl)
theorem dX7_get_70 : decode cX7_get 70 = .ok (.iaload, 1) := dk_46 (dk_at dksX7_get_3 4 rfl rfl)
theorem dX7_get_71 : decode cX7_get 71 = .ok (.iload_n 3, 1) := dk_29 (dk_at dksX7_get_3 5 rfl rfl)
theorem dX7_get_72 : decode cX7_get 72 = .ok (.invokestatic 361, 3) := dk_184 1 105 (dk_at dksX7_get_3 6 rfl rfl)
theorem dX7_get_75 : decode cX7_get 75 = .ok (.ifCond .ne 7, 3) := dk_154 0 7 (dk_at dksX7_get_3 9 rfl rfl)
theorem dX7_get_78 : decode cX7_get 78 = .ok (.iconst 2, 1) := dk_5 (dk_at dksX7_get_3 12 rfl rfl)
theorem dX7_get_79 : decode cX7_get 79 = .ok (.goto 5, 3) := dk_167 0 5 (dk_at dksX7_get_3 13 rfl rfl)
theorem dX7_get_82 : decode cX7_get 82 = .ok (.iload 5, 2) := dk_21 5 (dk_at dksX7_get_3 16 rfl rfl)
theorem dX7_get_84 : decode cX7_get 84 = .ok (.istore 5, 2) := dk_54 5 (dk_at dksX7_get_3 18 rfl rfl)
theorem dX7_get_86 : decode cX7_get 86 = .ok (.iload 5, 2) := dk_21 5 (dk_at dksX7_get_3 20 rfl rfl)
theorem dX7_get_88 : decode cX7_get 88 = .ok (.ifCond .le 9, 3) := dk_158 0 9 (dk_at dksX7_get_4 0 rfl rfl)
theorem dX7_get_91 : decode cX7_get 91 = .ok (.bipush (-10), 2) := dk_16 246 (dk_at dksX7_get_4 3 rfl rfl)
theorem dX7_get_93 : decode cX7_get 93 = .ok (.iload 5, 2) := dk_21 5 (dk_at dksX7_get_4 5 rfl rfl)
theorem dX7_get_95 : decode cX7_get 95 = .ok (.isub, 1) := dk_100 (dk_at dksX7_get_4 7 rfl rfl)
theorem dX7_get_96 : decode cX7_get 96 = .ok (.ireturn, 1) := dk_172 (dk_at dksX7_get_4 8 rfl rfl)
theorem dX7_get_97 : decode cX7_get 97 = .ok (.aload_n 0, 1) := dk_42 (dk_at dksX7_get_4 9 rfl rfl)
theorem dX7_get_98 : decode cX7_get 98 = .ok (.iload 4, 2) := dk_21 4 (dk_at dksX7_get_4 10 rfl rfl)
theorem dX7_get_100 : decode cX7_get 100 = .ok (.iload_n 3, 1) := dk_29 (dk_at dksX7_get_4 12 rfl rfl)
theorem dX7_get_101 : decode cX7_get 101 = .ok (.aload_n 0, 1) := dk_42 (dk_at dksX7_get_4 13 rfl rfl)
theorem dX7_get_102 : decode cX7_get 102 = .ok (.iload_n 1, 1) := dk_27 (dk_at dksX7_get_4 14 rfl rfl)
theorem dX7_get_103 : decode cX7_get 103 = .ok (.iload_n 2, 1) := dk_28 (dk_at dksX7_get_4 15 rfl rfl)
theorem dX7_get_104 : decode cX7_get 104 = .ok (.invokevirtual 364, 3) := dk_182 1 108 (dk_at dksX7_get_4 16 rfl rfl)
theorem dX7_get_107 : decode cX7_get 107 = .ok (.aload_n 0, 1) := dk_42 (dk_at dksX7_get_4 19 rfl rfl)
theorem dX7_get_108 : decode cX7_get 108 = .ok (.getfield 57, 3) := dk_180 0 57 (dk_at dksX7_get_4 20 rfl rfl)
theorem dX7_get_111 : decode cX7_get 111 = .ok (.iload_n 1, 1) := dk_27 (dk_at dksX7_get_4 23 rfl rfl)
theorem dX7_get_112 : decode cX7_get 112 = .ok (.iaload, 1) := dk_46 (dk_at dksX7_get_5 0 rfl rfl)
theorem dX7_get_113 : decode cX7_get 113 = .ok (.iload_n 3, 1) := dk_29 (dk_at dksX7_get_5 1 rfl rfl)
theorem dX7_get_114 : decode cX7_get 114 = .ok (.invokestatic 368, 3) := dk_184 1 112 (dk_at dksX7_get_5 2 rfl rfl)
theorem dX7_get_117 : decode cX7_get 117 = .ok (.invokevirtual 351, 3) := dk_182 1 95 (dk_at dksX7_get_5 5 rfl rfl)
theorem dX7_get_120 : decode cX7_get 120 = .ok (.iconst 1, 1) := dk_4 (dk_at dksX7_get_5 8 rfl rfl)
theorem dX7_get_121 : decode cX7_get 121 = .ok (.ireturn, 1) := dk_172 (dk_at dksX7_get_5 9 rfl rfl)
abbrev cX7_isFieldAt : ByteArray := prog_30_method_29_code
def yX7_isFieldAt : MethodName := ⟨RX7, "isFieldAt", "(I)Z"⟩
def dkwX7_isFieldAt_0 : List UInt8 := [42, 27, 182, 0, 185, 153, 0, 16, 42, 180, 0, 54, 27, 51, 153, 0, 7, 4, 167, 0, 4, 3, 172]
abbrev dktX7_isFieldAt_0 : List UInt8 := dkwX7_isFieldAt_0 ++ []
theorem dksX7_isFieldAt_0 : cX7_isFieldAt.data.toList.drop 0 = dktX7_isFieldAt_0 := by decide +kernel
theorem dX7_isFieldAt_0 : decode cX7_isFieldAt 0 = .ok (.aload_n 0, 1) := dk_42 (dk_at dksX7_isFieldAt_0 0 rfl rfl)
theorem dX7_isFieldAt_1 : decode cX7_isFieldAt 1 = .ok (.iload_n 1, 1) := dk_27 (dk_at dksX7_isFieldAt_0 1 rfl rfl)
theorem dX7_isFieldAt_2 : decode cX7_isFieldAt 2 = .ok (.invokevirtual 185, 3) := dk_182 0 185 (dk_at dksX7_isFieldAt_0 2 rfl rfl)
theorem dX7_isFieldAt_5 : decode cX7_isFieldAt 5 = .ok (.ifCond .eq 16, 3) := dk_153 0 16 (dk_at dksX7_isFieldAt_0 5 rfl rfl)
theorem dX7_isFieldAt_8 : decode cX7_isFieldAt 8 = .ok (.aload_n 0, 1) := dk_42 (dk_at dksX7_isFieldAt_0 8 rfl rfl)
theorem dX7_isFieldAt_9 : decode cX7_isFieldAt 9 = .ok (.getfield 54, 3) := dk_180 0 54 (dk_at dksX7_isFieldAt_0 9 rfl rfl)
theorem dX7_isFieldAt_12 : decode cX7_isFieldAt 12 = .ok (.iload_n 1, 1) := dk_27 (dk_at dksX7_isFieldAt_0 12 rfl rfl)
theorem dX7_isFieldAt_13 : decode cX7_isFieldAt 13 = .ok (.baload, 1) := dk_51 (dk_at dksX7_isFieldAt_0 13 rfl rfl)
theorem dX7_isFieldAt_14 : decode cX7_isFieldAt 14 = .ok (.ifCond .eq 7, 3) := dk_153 0 7 (dk_at dksX7_isFieldAt_0 14 rfl rfl)
theorem dX7_isFieldAt_17 : decode cX7_isFieldAt 17 = .ok (.iconst 1, 1) := dk_4 (dk_at dksX7_isFieldAt_0 17 rfl rfl)
theorem dX7_isFieldAt_18 : decode cX7_isFieldAt 18 = .ok (.goto 4, 3) := dk_167 0 4 (dk_at dksX7_isFieldAt_0 18 rfl rfl)
theorem dX7_isFieldAt_21 : decode cX7_isFieldAt 21 = .ok (.iconst 0, 1) := dk_3 (dk_at dksX7_isFieldAt_0 21 rfl rfl)
theorem dX7_isFieldAt_22 : decode cX7_isFieldAt 22 = .ok (.ireturn, 1) := dk_172 (dk_at dksX7_isFieldAt_0 22 rfl rfl)
abbrev cX7_against : ByteArray := prog_30_method_79_code
def yX7_against : MethodName := ⟨RX7, "against", "(II)I"⟩
def dkwX7_against_1 : List UInt8 := [180, 0, 88, 28, 46, 42, 180, 0, 45, 27, 46, 182, 0, 156, 154, 0, 7, 5, 167, 0, 4, 3, 172]
abbrev dktX7_against_1 : List UInt8 := dkwX7_against_1 ++ []
def dkwX7_against_0 : List UInt8 := [42, 27, 7, 182, 0, 221, 153, 0, 5, 3, 172, 28, 2, 160, 0, 7, 4, 167, 0, 27, 42, 42]
abbrev dktX7_against_0 : List UInt8 := dkwX7_against_0 ++ dktX7_against_1
theorem dksX7_against_0 : cX7_against.data.toList.drop 0 = dktX7_against_0 := by decide +kernel
theorem dksX7_against_1 : cX7_against.data.toList.drop 22 = dktX7_against_1 := dk_seg dksX7_against_0 22 rfl rfl
theorem dX7_against_0 : decode cX7_against 0 = .ok (.aload_n 0, 1) := dk_42 (dk_at dksX7_against_0 0 rfl rfl)
theorem dX7_against_1 : decode cX7_against 1 = .ok (.iload_n 1, 1) := dk_27 (dk_at dksX7_against_0 1 rfl rfl)
theorem dX7_against_2 : decode cX7_against 2 = .ok (.iconst 4, 1) := dk_7 (dk_at dksX7_against_0 2 rfl rfl)
theorem dX7_against_3 : decode cX7_against 3 = .ok (.invokevirtual 221, 3) := dk_182 0 221 (dk_at dksX7_against_0 3 rfl rfl)
theorem dX7_against_6 : decode cX7_against 6 = .ok (.ifCond .eq 5, 3) := dk_153 0 5 (dk_at dksX7_against_0 6 rfl rfl)
theorem dX7_against_9 : decode cX7_against 9 = .ok (.iconst 0, 1) := dk_3 (dk_at dksX7_against_0 9 rfl rfl)
theorem dX7_against_10 : decode cX7_against 10 = .ok (.ireturn, 1) := dk_172 (dk_at dksX7_against_0 10 rfl rfl)
theorem dX7_against_11 : decode cX7_against 11 = .ok (.iload_n 2, 1) := dk_28 (dk_at dksX7_against_0 11 rfl rfl)
theorem dX7_against_12 : decode cX7_against 12 = .ok (.iconst (-1), 1) := dk_2 (dk_at dksX7_against_0 12 rfl rfl)
theorem dX7_against_13 : decode cX7_against 13 = .ok (.if_icmp .ne 7, 3) := dk_160 0 7 (dk_at dksX7_against_0 13 rfl rfl)
theorem dX7_against_16 : decode cX7_against 16 = .ok (.iconst 1, 1) := dk_4 (dk_at dksX7_against_0 16 rfl rfl)
theorem dX7_against_17 : decode cX7_against 17 = .ok (.goto 27, 3) := dk_167 0 27 (dk_at dksX7_against_0 17 rfl rfl)
theorem dX7_against_20 : decode cX7_against 20 = .ok (.aload_n 0, 1) := dk_42 (dk_at dksX7_against_0 20 rfl rfl)
theorem dX7_against_21 : decode cX7_against 21 = .ok (.aload_n 0, 1) := dk_42 (dk_at dksX7_against_0 21 rfl rfl)
theorem dX7_against_22 : decode cX7_against 22 = .ok (.getfield 88, 3) := dk_180 0 88 (dk_at dksX7_against_1 0 rfl rfl)
theorem dX7_against_25 : decode cX7_against 25 = .ok (.iload_n 2, 1) := dk_28 (dk_at dksX7_against_1 3 rfl rfl)
theorem dX7_against_26 : decode cX7_against 26 = .ok (.iaload, 1) := dk_46 (dk_at dksX7_against_1 4 rfl rfl)
theorem dX7_against_27 : decode cX7_against 27 = .ok (.aload_n 0, 1) := dk_42 (dk_at dksX7_against_1 5 rfl rfl)
theorem dX7_against_28 : decode cX7_against 28 = .ok (.getfield 45, 3) := dk_180 0 45 (dk_at dksX7_against_1 6 rfl rfl)
theorem dX7_against_31 : decode cX7_against 31 = .ok (.iload_n 1, 1) := dk_27 (dk_at dksX7_against_1 9 rfl rfl)
theorem dX7_against_32 : decode cX7_against 32 = .ok (.iaload, 1) := dk_46 (dk_at dksX7_against_1 10 rfl rfl)
theorem dX7_against_33 : decode cX7_against 33 = .ok (.invokevirtual 156, 3) := dk_182 0 156 (dk_at dksX7_against_1 11 rfl rfl)
theorem dX7_against_36 : decode cX7_against 36 = .ok (.ifCond .ne 7, 3) := dk_154 0 7 (dk_at dksX7_against_1 14 rfl rfl)
theorem dX7_against_39 : decode cX7_against 39 = .ok (.iconst 2, 1) := dk_5 (dk_at dksX7_against_1 17 rfl rfl)
theorem dX7_against_40 : decode cX7_against 40 = .ok (.goto 4, 3) := dk_167 0 4 (dk_at dksX7_against_1 18 rfl rfl)
theorem dX7_against_43 : decode cX7_against 43 = .ok (.iconst 0, 1) := dk_3 (dk_at dksX7_against_1 21 rfl rfl)
theorem dX7_against_44 : decode cX7_against 44 = .ok (.ireturn, 1) := dk_172 (dk_at dksX7_against_1 22 rfl rfl)
abbrev cX7_mayTell : ByteArray := prog_30_method_78_code
def yX7_mayTell : MethodName := ⟨RX7, "mayTell", "(II)Z"⟩
def dkwX7_mayTell_1 : List UInt8 := [3, 167, 0, 14, 27, 16, 8, 160, 0, 7, 4, 167, 0, 4, 3, 172]
abbrev dktX7_mayTell_1 : List UInt8 := dkwX7_mayTell_1 ++ []
def dkwX7_mayTell_0 : List UInt8 := [26, 16, 8, 162, 0, 25, 27, 16, 8, 162, 0, 15, 26, 27, 184, 0, 153, 153, 0, 7, 4, 167, 0, 18]
abbrev dktX7_mayTell_0 : List UInt8 := dkwX7_mayTell_0 ++ dktX7_mayTell_1
theorem dksX7_mayTell_0 : cX7_mayTell.data.toList.drop 0 = dktX7_mayTell_0 := by decide +kernel
theorem dksX7_mayTell_1 : cX7_mayTell.data.toList.drop 24 = dktX7_mayTell_1 := dk_seg dksX7_mayTell_0 24 rfl rfl
theorem dX7_mayTell_0 : decode cX7_mayTell 0 = .ok (.iload_n 0, 1) := dk_26 (dk_at dksX7_mayTell_0 0 rfl rfl)
theorem dX7_mayTell_1 : decode cX7_mayTell 1 = .ok (.bipush 8, 2) := dk_16 8 (dk_at dksX7_mayTell_0 1 rfl rfl)
theorem dX7_mayTell_3 : decode cX7_mayTell 3 = .ok (.if_icmp .ge 25, 3) := dk_162 0 25 (dk_at dksX7_mayTell_0 3 rfl rfl)
theorem dX7_mayTell_6 : decode cX7_mayTell 6 = .ok (.iload_n 1, 1) := dk_27 (dk_at dksX7_mayTell_0 6 rfl rfl)
theorem dX7_mayTell_7 : decode cX7_mayTell 7 = .ok (.bipush 8, 2) := dk_16 8 (dk_at dksX7_mayTell_0 7 rfl rfl)
theorem dX7_mayTell_9 : decode cX7_mayTell 9 = .ok (.if_icmp .ge 15, 3) := dk_162 0 15 (dk_at dksX7_mayTell_0 9 rfl rfl)
theorem dX7_mayTell_12 : decode cX7_mayTell 12 = .ok (.iload_n 0, 1) := dk_26 (dk_at dksX7_mayTell_0 12 rfl rfl)
theorem dX7_mayTell_13 : decode cX7_mayTell 13 = .ok (.iload_n 1, 1) := dk_27 (dk_at dksX7_mayTell_0 13 rfl rfl)
theorem dX7_mayTell_14 : decode cX7_mayTell 14 = .ok (.invokestatic 153, 3) := dk_184 0 153 (dk_at dksX7_mayTell_0 14 rfl rfl)
theorem dX7_mayTell_17 : decode cX7_mayTell 17 = .ok (.ifCond .eq 7, 3) := dk_153 0 7 (dk_at dksX7_mayTell_0 17 rfl rfl)
theorem dX7_mayTell_20 : decode cX7_mayTell 20 = .ok (.iconst 1, 1) := dk_4 (dk_at dksX7_mayTell_0 20 rfl rfl)
theorem dX7_mayTell_21 : decode cX7_mayTell 21 = .ok (.goto 18, 3) := dk_167 0 18 (dk_at dksX7_mayTell_0 21 rfl rfl)
theorem dX7_mayTell_24 : decode cX7_mayTell 24 = .ok (.iconst 0, 1) := dk_3 (dk_at dksX7_mayTell_1 0 rfl rfl)
theorem dX7_mayTell_25 : decode cX7_mayTell 25 = .ok (.goto 14, 3) := dk_167 0 14 (dk_at dksX7_mayTell_1 1 rfl rfl)
theorem dX7_mayTell_28 : decode cX7_mayTell 28 = .ok (.iload_n 1, 1) := dk_27 (dk_at dksX7_mayTell_1 4 rfl rfl)
theorem dX7_mayTell_29 : decode cX7_mayTell 29 = .ok (.bipush 8, 2) := dk_16 8 (dk_at dksX7_mayTell_1 5 rfl rfl)
theorem dX7_mayTell_31 : decode cX7_mayTell 31 = .ok (.if_icmp .ne 7, 3) := dk_160 0 7 (dk_at dksX7_mayTell_1 7 rfl rfl)
theorem dX7_mayTell_34 : decode cX7_mayTell 34 = .ok (.iconst 1, 1) := dk_4 (dk_at dksX7_mayTell_1 10 rfl rfl)
theorem dX7_mayTell_35 : decode cX7_mayTell 35 = .ok (.goto 4, 3) := dk_167 0 4 (dk_at dksX7_mayTell_1 11 rfl rfl)
theorem dX7_mayTell_38 : decode cX7_mayTell 38 = .ok (.iconst 0, 1) := dk_3 (dk_at dksX7_mayTell_1 14 rfl rfl)
theorem dX7_mayTell_39 : decode cX7_mayTell 39 = .ok (.ireturn, 1) := dk_172 (dk_at dksX7_mayTell_1 15 rfl rfl)
abbrev cX7_fieldValue : ByteArray := prog_30_method_80_code
def yX7_fieldValue : MethodName := ⟨RX7, "fieldValue", "(II)J"⟩
def dkwX7_fieldValue_1 : List UInt8 := [28, 104, 27, 96, 47, 173]
abbrev dktX7_fieldValue_1 : List UInt8 := dkwX7_fieldValue_1 ++ []
def dkwX7_fieldValue_0 : List UInt8 := [42, 27, 7, 182, 0, 221, 153, 0, 12, 42, 180, 0, 84, 27, 47, 167, 0, 14, 42, 180, 0, 94, 16, 100]
abbrev dktX7_fieldValue_0 : List UInt8 := dkwX7_fieldValue_0 ++ dktX7_fieldValue_1
theorem dksX7_fieldValue_0 : cX7_fieldValue.data.toList.drop 0 = dktX7_fieldValue_0 := by decide +kernel
theorem dksX7_fieldValue_1 : cX7_fieldValue.data.toList.drop 24 = dktX7_fieldValue_1 := dk_seg dksX7_fieldValue_0 24 rfl rfl
theorem dX7_fieldValue_0 : decode cX7_fieldValue 0 = .ok (.aload_n 0, 1) := dk_42 (dk_at dksX7_fieldValue_0 0 rfl rfl)
theorem dX7_fieldValue_1 : decode cX7_fieldValue 1 = .ok (.iload_n 1, 1) := dk_27 (dk_at dksX7_fieldValue_0 1 rfl rfl)
theorem dX7_fieldValue_2 : decode cX7_fieldValue 2 = .ok (.iconst 4, 1) := dk_7 (dk_at dksX7_fieldValue_0 2 rfl rfl)
theorem dX7_fieldValue_3 : decode cX7_fieldValue 3 = .ok (.invokevirtual 221, 3) := dk_182 0 221 (dk_at dksX7_fieldValue_0 3 rfl rfl)
theorem dX7_fieldValue_6 : decode cX7_fieldValue 6 = .ok (.ifCond .eq 12, 3) := dk_153 0 12 (dk_at dksX7_fieldValue_0 6 rfl rfl)
theorem dX7_fieldValue_9 : decode cX7_fieldValue 9 = .ok (.aload_n 0, 1) := dk_42 (dk_at dksX7_fieldValue_0 9 rfl rfl)
theorem dX7_fieldValue_10 : decode cX7_fieldValue 10 = .ok (.getfield 84, 3) := dk_180 0 84 (dk_at dksX7_fieldValue_0 10 rfl rfl)
theorem dX7_fieldValue_13 : decode cX7_fieldValue 13 = .ok (.iload_n 1, 1) := dk_27 (dk_at dksX7_fieldValue_0 13 rfl rfl)
theorem dX7_fieldValue_14 : decode cX7_fieldValue 14 = .ok (.laload, 1) := dk_47 (dk_at dksX7_fieldValue_0 14 rfl rfl)
theorem dX7_fieldValue_15 : decode cX7_fieldValue 15 = .ok (.goto 14, 3) := dk_167 0 14 (dk_at dksX7_fieldValue_0 15 rfl rfl)
theorem dX7_fieldValue_18 : decode cX7_fieldValue 18 = .ok (.aload_n 0, 1) := dk_42 (dk_at dksX7_fieldValue_0 18 rfl rfl)
theorem dX7_fieldValue_19 : decode cX7_fieldValue 19 = .ok (.getfield 94, 3) := dk_180 0 94 (dk_at dksX7_fieldValue_0 19 rfl rfl)
theorem dX7_fieldValue_22 : decode cX7_fieldValue 22 = .ok (.bipush 100, 2) := dk_16 100 (dk_at dksX7_fieldValue_0 22 rfl rfl)
theorem dX7_fieldValue_24 : decode cX7_fieldValue 24 = .ok (.iload_n 2, 1) := dk_28 (dk_at dksX7_fieldValue_1 0 rfl rfl)
theorem dX7_fieldValue_25 : decode cX7_fieldValue 25 = .ok (.imul, 1) := dk_104 (dk_at dksX7_fieldValue_1 1 rfl rfl)
theorem dX7_fieldValue_26 : decode cX7_fieldValue 26 = .ok (.iload_n 1, 1) := dk_27 (dk_at dksX7_fieldValue_1 2 rfl rfl)
theorem dX7_fieldValue_27 : decode cX7_fieldValue 27 = .ok (.iadd, 1) := dk_96 (dk_at dksX7_fieldValue_1 3 rfl rfl)
theorem dX7_fieldValue_28 : decode cX7_fieldValue 28 = .ok (.laload, 1) := dk_47 (dk_at dksX7_fieldValue_1 4 rfl rfl)
theorem dX7_fieldValue_29 : decode cX7_fieldValue 29 = .ok (.lreturn, 1) := dk_173 (dk_at dksX7_fieldValue_1 5 rfl rfl)
abbrev cX7_widened : ByteArray := prog_30_method_66_code
def yX7_widened : MethodName := ⟨RX7, "widened", "(JII)J"⟩
def dkwX7_widened_2 : List UInt8 := [167, 0, 8, 30, 138, 184, 1, 53, 173]
abbrev dktX7_widened_2 : List UInt8 := dkwX7_widened_2 ++ []
def dkwX7_widened_1 : List UInt8 := [160, 0, 12, 30, 184, 1, 49, 141, 184, 1, 53, 173, 29, 16, 6, 160, 0, 11, 30, 137, 184, 1, 57]
abbrev dktX7_widened_1 : List UInt8 := dkwX7_widened_1 ++ dktX7_widened_2
def dkwX7_widened_0 : List UInt8 := [28, 29, 159, 0, 15, 28, 16, 8, 162, 0, 9, 29, 16, 6, 162, 0, 5, 30, 173, 28, 16, 6]
abbrev dktX7_widened_0 : List UInt8 := dkwX7_widened_0 ++ dktX7_widened_1
theorem dksX7_widened_0 : cX7_widened.data.toList.drop 0 = dktX7_widened_0 := by decide +kernel
theorem dksX7_widened_1 : cX7_widened.data.toList.drop 22 = dktX7_widened_1 := dk_seg dksX7_widened_0 22 rfl rfl
theorem dksX7_widened_2 : cX7_widened.data.toList.drop 45 = dktX7_widened_2 := dk_seg dksX7_widened_1 23 rfl rfl
theorem dX7_widened_0 : decode cX7_widened 0 = .ok (.iload_n 2, 1) := dk_28 (dk_at dksX7_widened_0 0 rfl rfl)
theorem dX7_widened_1 : decode cX7_widened 1 = .ok (.iload_n 3, 1) := dk_29 (dk_at dksX7_widened_0 1 rfl rfl)
theorem dX7_widened_2 : decode cX7_widened 2 = .ok (.if_icmp .eq 15, 3) := dk_159 0 15 (dk_at dksX7_widened_0 2 rfl rfl)
theorem dX7_widened_5 : decode cX7_widened 5 = .ok (.iload_n 2, 1) := dk_28 (dk_at dksX7_widened_0 5 rfl rfl)
theorem dX7_widened_6 : decode cX7_widened 6 = .ok (.bipush 8, 2) := dk_16 8 (dk_at dksX7_widened_0 6 rfl rfl)
theorem dX7_widened_8 : decode cX7_widened 8 = .ok (.if_icmp .ge 9, 3) := dk_162 0 9 (dk_at dksX7_widened_0 8 rfl rfl)
theorem dX7_widened_11 : decode cX7_widened 11 = .ok (.iload_n 3, 1) := dk_29 (dk_at dksX7_widened_0 11 rfl rfl)
theorem dX7_widened_12 : decode cX7_widened 12 = .ok (.bipush 6, 2) := dk_16 6 (dk_at dksX7_widened_0 12 rfl rfl)
theorem dX7_widened_14 : decode cX7_widened 14 = .ok (.if_icmp .ge 5, 3) := dk_162 0 5 (dk_at dksX7_widened_0 14 rfl rfl)
theorem dX7_widened_17 : decode cX7_widened 17 = .ok (.lload_n 0, 1) := dk_30 (dk_at dksX7_widened_0 17 rfl rfl)
theorem dX7_widened_18 : decode cX7_widened 18 = .ok (.lreturn, 1) := dk_173 (dk_at dksX7_widened_0 18 rfl rfl)
theorem dX7_widened_19 : decode cX7_widened 19 = .ok (.iload_n 2, 1) := dk_28 (dk_at dksX7_widened_0 19 rfl rfl)
theorem dX7_widened_20 : decode cX7_widened 20 = .ok (.bipush 6, 2) := dk_16 6 (dk_at dksX7_widened_0 20 rfl rfl)
theorem dX7_widened_22 : decode cX7_widened 22 = .ok (.if_icmp .ne 12, 3) := dk_160 0 12 (dk_at dksX7_widened_1 0 rfl rfl)
theorem dX7_widened_25 : decode cX7_widened 25 = .ok (.lload_n 0, 1) := dk_30 (dk_at dksX7_widened_1 3 rfl rfl)
theorem dX7_widened_26 : decode cX7_widened 26 = .ok (.invokestatic 305, 3) := dk_184 1 49 (dk_at dksX7_widened_1 4 rfl rfl)
theorem dX7_widened_29 : decode cX7_widened 29 = .ok (.f2d, 1) := dk_141 (dk_at dksX7_widened_1 7 rfl rfl)
theorem dX7_widened_30 : decode cX7_widened 30 = .ok (.invokestatic 309, 3) := dk_184 1 53 (dk_at dksX7_widened_1 8 rfl rfl)
theorem dX7_widened_33 : decode cX7_widened 33 = .ok (.lreturn, 1) := dk_173 (dk_at dksX7_widened_1 11 rfl rfl)
theorem dX7_widened_34 : decode cX7_widened 34 = .ok (.iload_n 3, 1) := dk_29 (dk_at dksX7_widened_1 12 rfl rfl)
theorem dX7_widened_35 : decode cX7_widened 35 = .ok (.bipush 6, 2) := dk_16 6 (dk_at dksX7_widened_1 13 rfl rfl)
theorem dX7_widened_37 : decode cX7_widened 37 = .ok (.if_icmp .ne 11, 3) := dk_160 0 11 (dk_at dksX7_widened_1 15 rfl rfl)
theorem dX7_widened_40 : decode cX7_widened 40 = .ok (.lload_n 0, 1) := dk_30 (dk_at dksX7_widened_1 18 rfl rfl)
theorem dX7_widened_41 : decode cX7_widened 41 = .ok (.l2f, 1) := dk_137 (dk_at dksX7_widened_1 19 rfl rfl)
theorem dX7_widened_42 : decode cX7_widened 42 = .ok (.invokestatic 313, 3) := dk_184 1 57 (dk_at dksX7_widened_1 20 rfl rfl)
theorem dX7_widened_45 : decode cX7_widened 45 = .ok (.goto 8, 3) := dk_167 0 8 (dk_at dksX7_widened_2 0 rfl rfl)
theorem dX7_widened_48 : decode cX7_widened 48 = .ok (.lload_n 0, 1) := dk_30 (dk_at dksX7_widened_2 3 rfl rfl)
theorem dX7_widened_49 : decode cX7_widened 49 = .ok (.l2d, 1) := dk_138 (dk_at dksX7_widened_2 4 rfl rfl)
theorem dX7_widened_50 : decode cX7_widened 50 = .ok (.invokestatic 309, 3) := dk_184 1 53 (dk_at dksX7_widened_2 5 rfl rfl)
theorem dX7_widened_53 : decode cX7_widened 53 = .ok (.lreturn, 1) := dk_173 (dk_at dksX7_widened_2 8 rfl rfl)
abbrev cX7_floatOf : ByteArray := prog_30_method_61_code
def yX7_floatOf : MethodName := ⟨RX7, "floatOf", "(J)F"⟩
def dkwX7_floatOf_3 : List UInt8 := [153, 0, 9, 24, 4, 119, 167, 0, 5, 24, 4, 144, 174]
abbrev dktX7_floatOf_3 : List UInt8 := dkwX7_floatOf_3 ++ []
def dkwX7_floatOf_2 : List UInt8 := [19, 1, 34, 96, 135, 29, 17, 0, 150, 100, 184, 1, 24, 57, 4, 30, 20, 1, 35, 127, 9, 148]
abbrev dktX7_floatOf_2 : List UInt8 := dkwX7_floatOf_2 ++ dktX7_floatOf_3
def dkwX7_floatOf_1 : List UInt8 := [20, 1, 22, 167, 0, 32, 29, 154, 0, 14, 28, 135, 17, 255, 107, 184, 1, 24, 167, 0, 17, 28]
abbrev dktX7_floatOf_1 : List UInt8 := dkwX7_floatOf_1 ++ dktX7_floatOf_2
def dkwX7_floatOf_0 : List UInt8 := [30, 20, 1, 30, 127, 136, 61, 30, 16, 23, 123, 20, 1, 32, 127, 136, 62, 29, 17, 0, 255, 160, 0, 9]
abbrev dktX7_floatOf_0 : List UInt8 := dkwX7_floatOf_0 ++ dktX7_floatOf_1
theorem dksX7_floatOf_0 : cX7_floatOf.data.toList.drop 0 = dktX7_floatOf_0 := by decide +kernel
theorem dksX7_floatOf_1 : cX7_floatOf.data.toList.drop 24 = dktX7_floatOf_1 := dk_seg dksX7_floatOf_0 24 rfl rfl
theorem dksX7_floatOf_2 : cX7_floatOf.data.toList.drop 46 = dktX7_floatOf_2 := dk_seg dksX7_floatOf_1 22 rfl rfl
theorem dksX7_floatOf_3 : cX7_floatOf.data.toList.drop 68 = dktX7_floatOf_3 := dk_seg dksX7_floatOf_2 22 rfl rfl
theorem dX7_floatOf_0 : decode cX7_floatOf 0 = .ok (.lload_n 0, 1) := dk_30 (dk_at dksX7_floatOf_0 0 rfl rfl)
theorem dX7_floatOf_1 : decode cX7_floatOf 1 = .ok (.ldc2_w 286, 3) := dk_20 1 30 (dk_at dksX7_floatOf_0 1 rfl rfl)
theorem dX7_floatOf_4 : decode cX7_floatOf 4 = .ok (.land, 1) := dk_127 (dk_at dksX7_floatOf_0 4 rfl rfl)
theorem dX7_floatOf_5 : decode cX7_floatOf 5 = .ok (.l2i, 1) := dk_136 (dk_at dksX7_floatOf_0 5 rfl rfl)
theorem dX7_floatOf_6 : decode cX7_floatOf 6 = .ok (.istore_n 2, 1) := dk_61 (dk_at dksX7_floatOf_0 6 rfl rfl)
theorem dX7_floatOf_7 : decode cX7_floatOf 7 = .ok (.lload_n 0, 1) := dk_30 (dk_at dksX7_floatOf_0 7 rfl rfl)
theorem dX7_floatOf_8 : decode cX7_floatOf 8 = .ok (.bipush 23, 2) := dk_16 23 (dk_at dksX7_floatOf_0 8 rfl rfl)
theorem dX7_floatOf_10 : decode cX7_floatOf 10 = .ok (.lshr, 1) := dk_123 (dk_at dksX7_floatOf_0 10 rfl rfl)
theorem dX7_floatOf_11 : decode cX7_floatOf 11 = .ok (.ldc2_w 288, 3) := dk_20 1 32 (dk_at dksX7_floatOf_0 11 rfl rfl)
theorem dX7_floatOf_14 : decode cX7_floatOf 14 = .ok (.land, 1) := dk_127 (dk_at dksX7_floatOf_0 14 rfl rfl)
theorem dX7_floatOf_15 : decode cX7_floatOf 15 = .ok (.l2i, 1) := dk_136 (dk_at dksX7_floatOf_0 15 rfl rfl)
theorem dX7_floatOf_16 : decode cX7_floatOf 16 = .ok (.istore_n 3, 1) := dk_62 (dk_at dksX7_floatOf_0 16 rfl rfl)
theorem dX7_floatOf_17 : decode cX7_floatOf 17 = .ok (.iload_n 3, 1) := dk_29 (dk_at dksX7_floatOf_0 17 rfl rfl)
theorem dX7_floatOf_18 : decode cX7_floatOf 18 = .ok (.sipush 255, 3) := dk_17 0 255 (dk_at dksX7_floatOf_0 18 rfl rfl)
theorem dX7_floatOf_21 : decode cX7_floatOf 21 = .ok (.if_icmp .ne 9, 3) := dk_160 0 9 (dk_at dksX7_floatOf_0 21 rfl rfl)
theorem dX7_floatOf_24 : decode cX7_floatOf 24 = .ok (.ldc2_w 278, 3) := dk_20 1 22 (dk_at dksX7_floatOf_1 0 rfl rfl)
theorem dX7_floatOf_27 : decode cX7_floatOf 27 = .ok (.goto 32, 3) := dk_167 0 32 (dk_at dksX7_floatOf_1 3 rfl rfl)
theorem dX7_floatOf_30 : decode cX7_floatOf 30 = .ok (.iload_n 3, 1) := dk_29 (dk_at dksX7_floatOf_1 6 rfl rfl)
theorem dX7_floatOf_31 : decode cX7_floatOf 31 = .ok (.ifCond .ne 14, 3) := dk_154 0 14 (dk_at dksX7_floatOf_1 7 rfl rfl)
theorem dX7_floatOf_34 : decode cX7_floatOf 34 = .ok (.iload_n 2, 1) := dk_28 (dk_at dksX7_floatOf_1 10 rfl rfl)
theorem dX7_floatOf_35 : decode cX7_floatOf 35 = .ok (.i2d, 1) := dk_135 (dk_at dksX7_floatOf_1 11 rfl rfl)
theorem dX7_floatOf_36 : decode cX7_floatOf 36 = .ok (.sipush (-149), 3) := dk_17 255 107 (dk_at dksX7_floatOf_1 12 rfl rfl)
theorem dX7_floatOf_39 : decode cX7_floatOf 39 = .ok (.invokestatic 280, 3) := dk_184 1 24 (dk_at dksX7_floatOf_1 15 rfl rfl)
theorem dX7_floatOf_42 : decode cX7_floatOf 42 = .ok (.goto 17, 3) := dk_167 0 17 (dk_at dksX7_floatOf_1 18 rfl rfl)
theorem dX7_floatOf_45 : decode cX7_floatOf 45 = .ok (.iload_n 2, 1) := dk_28 (dk_at dksX7_floatOf_1 21 rfl rfl)
theorem dX7_floatOf_46 : decode cX7_floatOf 46 = .ok (.ldc_w 290, 3) := dk_19 1 34 (dk_at dksX7_floatOf_2 0 rfl rfl)
theorem dX7_floatOf_49 : decode cX7_floatOf 49 = .ok (.iadd, 1) := dk_96 (dk_at dksX7_floatOf_2 3 rfl rfl)
theorem dX7_floatOf_50 : decode cX7_floatOf 50 = .ok (.i2d, 1) := dk_135 (dk_at dksX7_floatOf_2 4 rfl rfl)
theorem dX7_floatOf_51 : decode cX7_floatOf 51 = .ok (.iload_n 3, 1) := dk_29 (dk_at dksX7_floatOf_2 5 rfl rfl)
theorem dX7_floatOf_52 : decode cX7_floatOf 52 = .ok (.sipush 150, 3) := dk_17 0 150 (dk_at dksX7_floatOf_2 6 rfl rfl)
theorem dX7_floatOf_55 : decode cX7_floatOf 55 = .ok (.isub, 1) := dk_100 (dk_at dksX7_floatOf_2 9 rfl rfl)
theorem dX7_floatOf_56 : decode cX7_floatOf 56 = .ok (.invokestatic 280, 3) := dk_184 1 24 (dk_at dksX7_floatOf_2 10 rfl rfl)
theorem dX7_floatOf_59 : decode cX7_floatOf 59 = .ok (.dstore 4, 2) := dk_57 4 (dk_at dksX7_floatOf_2 13 rfl rfl)
theorem dX7_floatOf_61 : decode cX7_floatOf 61 = .ok (.lload_n 0, 1) := dk_30 (dk_at dksX7_floatOf_2 15 rfl rfl)
theorem dX7_floatOf_62 : decode cX7_floatOf 62 = .ok (.ldc2_w 291, 3) := dk_20 1 35 (dk_at dksX7_floatOf_2 16 rfl rfl)
theorem dX7_floatOf_65 : decode cX7_floatOf 65 = .ok (.land, 1) := dk_127 (dk_at dksX7_floatOf_2 19 rfl rfl)
theorem dX7_floatOf_66 : decode cX7_floatOf 66 = .ok (.lconst 0, 1) := dk_9 (dk_at dksX7_floatOf_2 20 rfl rfl)
theorem dX7_floatOf_67 : decode cX7_floatOf 67 = .ok (.lcmp, 1) := dk_148 (dk_at dksX7_floatOf_2 21 rfl rfl)
theorem dX7_floatOf_68 : decode cX7_floatOf 68 = .ok (.ifCond .eq 9, 3) := dk_153 0 9 (dk_at dksX7_floatOf_3 0 rfl rfl)
theorem dX7_floatOf_71 : decode cX7_floatOf 71 = .ok (.dload 4, 2) := dk_24 4 (dk_at dksX7_floatOf_3 3 rfl rfl)
theorem dX7_floatOf_73 : decode cX7_floatOf 73 = .ok (.dneg, 1) := dk_119 (dk_at dksX7_floatOf_3 5 rfl rfl)
theorem dX7_floatOf_74 : decode cX7_floatOf 74 = .ok (.goto 5, 3) := dk_167 0 5 (dk_at dksX7_floatOf_3 6 rfl rfl)
theorem dX7_floatOf_77 : decode cX7_floatOf 77 = .ok (.dload 4, 2) := dk_24 4 (dk_at dksX7_floatOf_3 9 rfl rfl)
theorem dX7_floatOf_79 : decode cX7_floatOf 79 = .ok (.d2f, 1) := dk_144 (dk_at dksX7_floatOf_3 11 rfl rfl)
theorem dX7_floatOf_80 : decode cX7_floatOf 80 = .ok (.freturn, 1) := dk_174 (dk_at dksX7_floatOf_3 12 rfl rfl)
abbrev cX7_scaled : ByteArray := prog_30_method_59_code
def yX7_scaled : MethodName := ⟨RX7, "scaled", "(DI)D"⟩
def dkwX7_scaled_1 : List UInt8 := [54, 5, 21, 5, 156, 0, 15, 41, 20, 1, 16, 107, 74, 132, 5, 1, 167, 255, 242, 41, 175]
abbrev dktX7_scaled_1 : List UInt8 := dkwX7_scaled_1 ++ []
def dkwX7_scaled_0 : List UInt8 := [38, 74, 28, 54, 5, 21, 5, 158, 0, 15, 41, 20, 1, 14, 107, 74, 132, 5, 255, 167, 255, 242, 28]
abbrev dktX7_scaled_0 : List UInt8 := dkwX7_scaled_0 ++ dktX7_scaled_1
theorem dksX7_scaled_0 : cX7_scaled.data.toList.drop 0 = dktX7_scaled_0 := by decide +kernel
theorem dksX7_scaled_1 : cX7_scaled.data.toList.drop 23 = dktX7_scaled_1 := dk_seg dksX7_scaled_0 23 rfl rfl
theorem dX7_scaled_0 : decode cX7_scaled 0 = .ok (.dload_n 0, 1) := dk_38 (dk_at dksX7_scaled_0 0 rfl rfl)
theorem dX7_scaled_1 : decode cX7_scaled 1 = .ok (.dstore_n 3, 1) := dk_74 (dk_at dksX7_scaled_0 1 rfl rfl)
theorem dX7_scaled_2 : decode cX7_scaled 2 = .ok (.iload_n 2, 1) := dk_28 (dk_at dksX7_scaled_0 2 rfl rfl)
theorem dX7_scaled_3 : decode cX7_scaled 3 = .ok (.istore 5, 2) := dk_54 5 (dk_at dksX7_scaled_0 3 rfl rfl)
theorem dX7_scaled_5 : decode cX7_scaled 5 = .ok (.iload 5, 2) := dk_21 5 (dk_at dksX7_scaled_0 5 rfl rfl)
theorem dX7_scaled_7 : decode cX7_scaled 7 = .ok (.ifCond .le 15, 3) := dk_158 0 15 (dk_at dksX7_scaled_0 7 rfl rfl)
theorem dX7_scaled_10 : decode cX7_scaled 10 = .ok (.dload_n 3, 1) := dk_41 (dk_at dksX7_scaled_0 10 rfl rfl)
theorem dX7_scaled_11 : decode cX7_scaled 11 = .ok (.ldc2_w 270, 3) := dk_20 1 14 (dk_at dksX7_scaled_0 11 rfl rfl)
theorem dX7_scaled_14 : decode cX7_scaled 14 = .ok (.dmul, 1) := dk_107 (dk_at dksX7_scaled_0 14 rfl rfl)
theorem dX7_scaled_15 : decode cX7_scaled 15 = .ok (.dstore_n 3, 1) := dk_74 (dk_at dksX7_scaled_0 15 rfl rfl)
theorem dX7_scaled_16 : decode cX7_scaled 16 = .ok (.iinc 5 (-1), 3) := dk_132 5 255 (dk_at dksX7_scaled_0 16 rfl rfl)
theorem dX7_scaled_19 : decode cX7_scaled 19 = .ok (.goto (-14), 3) := dk_167 255 242 (dk_at dksX7_scaled_0 19 rfl rfl)
theorem dX7_scaled_22 : decode cX7_scaled 22 = .ok (.iload_n 2, 1) := dk_28 (dk_at dksX7_scaled_0 22 rfl rfl)
theorem dX7_scaled_23 : decode cX7_scaled 23 = .ok (.istore 5, 2) := dk_54 5 (dk_at dksX7_scaled_1 0 rfl rfl)
theorem dX7_scaled_25 : decode cX7_scaled 25 = .ok (.iload 5, 2) := dk_21 5 (dk_at dksX7_scaled_1 2 rfl rfl)
theorem dX7_scaled_27 : decode cX7_scaled 27 = .ok (.ifCond .ge 15, 3) := dk_156 0 15 (dk_at dksX7_scaled_1 4 rfl rfl)
theorem dX7_scaled_30 : decode cX7_scaled 30 = .ok (.dload_n 3, 1) := dk_41 (dk_at dksX7_scaled_1 7 rfl rfl)
theorem dX7_scaled_31 : decode cX7_scaled 31 = .ok (.ldc2_w 272, 3) := dk_20 1 16 (dk_at dksX7_scaled_1 8 rfl rfl)
theorem dX7_scaled_34 : decode cX7_scaled 34 = .ok (.dmul, 1) := dk_107 (dk_at dksX7_scaled_1 11 rfl rfl)
theorem dX7_scaled_35 : decode cX7_scaled 35 = .ok (.dstore_n 3, 1) := dk_74 (dk_at dksX7_scaled_1 12 rfl rfl)
theorem dX7_scaled_36 : decode cX7_scaled 36 = .ok (.iinc 5 1, 3) := dk_132 5 1 (dk_at dksX7_scaled_1 13 rfl rfl)
theorem dX7_scaled_39 : decode cX7_scaled 39 = .ok (.goto (-14), 3) := dk_167 255 242 (dk_at dksX7_scaled_1 16 rfl rfl)
theorem dX7_scaled_42 : decode cX7_scaled 42 = .ok (.dload_n 3, 1) := dk_41 (dk_at dksX7_scaled_1 19 rfl rfl)
theorem dX7_scaled_43 : decode cX7_scaled 43 = .ok (.dreturn, 1) := dk_175 (dk_at dksX7_scaled_1 20 rfl rfl)
abbrev cX7_doubleBits : ByteArray := prog_30_method_64_code
def yX7_doubleBits : MethodName := ⟨RX7, "doubleBits", "(D)J"⟩
def dkwX7_doubleBits_1 : List UInt8 := [173]
abbrev dktX7_doubleBits_1 : List UInt8 := dkwX7_doubleBits_1 ++ []
def dkwX7_doubleBits_0 : List UInt8 := [38, 16, 52, 17, 252, 2, 184, 1, 39, 38, 184, 1, 43, 153, 0, 9, 20, 1, 47, 167, 0, 4, 9, 129]
abbrev dktX7_doubleBits_0 : List UInt8 := dkwX7_doubleBits_0 ++ dktX7_doubleBits_1
theorem dksX7_doubleBits_0 : cX7_doubleBits.data.toList.drop 0 = dktX7_doubleBits_0 := by decide +kernel
theorem dksX7_doubleBits_1 : cX7_doubleBits.data.toList.drop 24 = dktX7_doubleBits_1 := dk_seg dksX7_doubleBits_0 24 rfl rfl
theorem dX7_doubleBits_0 : decode cX7_doubleBits 0 = .ok (.dload_n 0, 1) := dk_38 (dk_at dksX7_doubleBits_0 0 rfl rfl)
theorem dX7_doubleBits_1 : decode cX7_doubleBits 1 = .ok (.bipush 52, 2) := dk_16 52 (dk_at dksX7_doubleBits_0 1 rfl rfl)
theorem dX7_doubleBits_3 : decode cX7_doubleBits 3 = .ok (.sipush (-1022), 3) := dk_17 252 2 (dk_at dksX7_doubleBits_0 3 rfl rfl)
theorem dX7_doubleBits_6 : decode cX7_doubleBits 6 = .ok (.invokestatic 295, 3) := dk_184 1 39 (dk_at dksX7_doubleBits_0 6 rfl rfl)
theorem dX7_doubleBits_9 : decode cX7_doubleBits 9 = .ok (.dload_n 0, 1) := dk_38 (dk_at dksX7_doubleBits_0 9 rfl rfl)
theorem dX7_doubleBits_10 : decode cX7_doubleBits 10 = .ok (.invokestatic 299, 3) := dk_184 1 43 (dk_at dksX7_doubleBits_0 10 rfl rfl)
theorem dX7_doubleBits_13 : decode cX7_doubleBits 13 = .ok (.ifCond .eq 9, 3) := dk_153 0 9 (dk_at dksX7_doubleBits_0 13 rfl rfl)
theorem dX7_doubleBits_16 : decode cX7_doubleBits 16 = .ok (.ldc2_w 303, 3) := dk_20 1 47 (dk_at dksX7_doubleBits_0 16 rfl rfl)
theorem dX7_doubleBits_19 : decode cX7_doubleBits 19 = .ok (.goto 4, 3) := dk_167 0 4 (dk_at dksX7_doubleBits_0 19 rfl rfl)
theorem dX7_doubleBits_22 : decode cX7_doubleBits 22 = .ok (.lconst 0, 1) := dk_9 (dk_at dksX7_doubleBits_0 22 rfl rfl)
theorem dX7_doubleBits_23 : decode cX7_doubleBits 23 = .ok (.lor, 1) := dk_129 (dk_at dksX7_doubleBits_0 23 rfl rfl)
theorem dX7_doubleBits_24 : decode cX7_doubleBits 24 = .ok (.lreturn, 1) := dk_173 (dk_at dksX7_doubleBits_1 0 rfl rfl)
abbrev cX7_bitsOf : ByteArray := prog_30_method_63_code
def yX7_bitsOf : MethodName := ⟨RX7, "bitsOf", "(DII)J"⟩
def dkwX7_bitsOf_6 : List UInt8 := [129, 173]
abbrev dktX7_bitsOf_6 : List UInt8 := dkwX7_bitsOf_6 ++ []
def dkwX7_bitsOf_5 : List UInt8 := [148, 156, 0, 8, 22, 9, 167, 0, 19, 21, 6, 133, 29, 133, 101, 10, 97, 28, 121, 22, 9, 22, 7, 101]
abbrev dktX7_bitsOf_5 : List UInt8 := dkwX7_bitsOf_5 ++ dktX7_bitsOf_6
def dkwX7_bitsOf_4 : List UInt8 := [132, 6, 255, 167, 255, 232, 10, 28, 121, 55, 7, 24, 4, 22, 7, 138, 107, 143, 55, 9, 22, 9, 22, 7]
abbrev dktX7_bitsOf_4 : List UInt8 := dkwX7_bitsOf_4 ++ dktX7_bitsOf_5
def dkwX7_bitsOf_3 : List UInt8 := [167, 255, 236, 24, 4, 15, 152, 156, 0, 23, 21, 6, 29, 164, 0, 17, 24, 4, 20, 1, 14, 107, 57, 4]
abbrev dktX7_bitsOf_3 : List UInt8 := dkwX7_bitsOf_3 ++ dktX7_bitsOf_4
def dkwX7_bitsOf_2 : List UInt8 := [54, 6, 24, 4, 20, 1, 14, 151, 155, 0, 17, 24, 4, 20, 1, 16, 107, 57, 4, 132, 6, 1]
abbrev dktX7_bitsOf_2 : List UInt8 := dkwX7_bitsOf_2 ++ dktX7_bitsOf_3
def dkwX7_bitsOf_1 : List UInt8 := [24, 4, 20, 1, 37, 151, 158, 0, 16, 20, 0, 159, 20, 0, 233, 29, 133, 105, 101, 28, 121, 173, 3]
abbrev dktX7_bitsOf_1 : List UInt8 := dkwX7_bitsOf_1 ++ dktX7_bitsOf_2
def dkwX7_bitsOf_0 : List UInt8 := [38, 14, 152, 156, 0, 8, 38, 119, 167, 0, 4, 38, 57, 4, 24, 4, 14, 151, 154, 0, 5, 9, 173]
abbrev dktX7_bitsOf_0 : List UInt8 := dkwX7_bitsOf_0 ++ dktX7_bitsOf_1
theorem dksX7_bitsOf_0 : cX7_bitsOf.data.toList.drop 0 = dktX7_bitsOf_0 := by decide +kernel
theorem dksX7_bitsOf_1 : cX7_bitsOf.data.toList.drop 23 = dktX7_bitsOf_1 := dk_seg dksX7_bitsOf_0 23 rfl rfl
theorem dksX7_bitsOf_2 : cX7_bitsOf.data.toList.drop 46 = dktX7_bitsOf_2 := dk_seg dksX7_bitsOf_1 23 rfl rfl
theorem dksX7_bitsOf_3 : cX7_bitsOf.data.toList.drop 68 = dktX7_bitsOf_3 := dk_seg dksX7_bitsOf_2 22 rfl rfl
theorem dksX7_bitsOf_4 : cX7_bitsOf.data.toList.drop 92 = dktX7_bitsOf_4 := dk_seg dksX7_bitsOf_3 24 rfl rfl
theorem dksX7_bitsOf_5 : cX7_bitsOf.data.toList.drop 116 = dktX7_bitsOf_5 := dk_seg dksX7_bitsOf_4 24 rfl rfl
theorem dksX7_bitsOf_6 : cX7_bitsOf.data.toList.drop 140 = dktX7_bitsOf_6 := dk_seg dksX7_bitsOf_5 24 rfl rfl
theorem dX7_bitsOf_0 : decode cX7_bitsOf 0 = .ok (.dload_n 0, 1) := dk_38 (dk_at dksX7_bitsOf_0 0 rfl rfl)
theorem dX7_bitsOf_1 : decode cX7_bitsOf 1 = .ok (.dconst 0, 1) := dk_14 (dk_at dksX7_bitsOf_0 1 rfl rfl)
theorem dX7_bitsOf_2 : decode cX7_bitsOf 2 = .ok (.dcmp .g, 1) := dk_152 (dk_at dksX7_bitsOf_0 2 rfl rfl)
theorem dX7_bitsOf_3 : decode cX7_bitsOf 3 = .ok (.ifCond .ge 8, 3) := dk_156 0 8 (dk_at dksX7_bitsOf_0 3 rfl rfl)
theorem dX7_bitsOf_6 : decode cX7_bitsOf 6 = .ok (.dload_n 0, 1) := dk_38 (dk_at dksX7_bitsOf_0 6 rfl rfl)
theorem dX7_bitsOf_7 : decode cX7_bitsOf 7 = .ok (.dneg, 1) := dk_119 (dk_at dksX7_bitsOf_0 7 rfl rfl)
theorem dX7_bitsOf_8 : decode cX7_bitsOf 8 = .ok (.goto 4, 3) := dk_167 0 4 (dk_at dksX7_bitsOf_0 8 rfl rfl)
theorem dX7_bitsOf_11 : decode cX7_bitsOf 11 = .ok (.dload_n 0, 1) := dk_38 (dk_at dksX7_bitsOf_0 11 rfl rfl)
theorem dX7_bitsOf_12 : decode cX7_bitsOf 12 = .ok (.dstore 4, 2) := dk_57 4 (dk_at dksX7_bitsOf_0 12 rfl rfl)
theorem dX7_bitsOf_14 : decode cX7_bitsOf 14 = .ok (.dload 4, 2) := dk_24 4 (dk_at dksX7_bitsOf_0 14 rfl rfl)
theorem dX7_bitsOf_16 : decode cX7_bitsOf 16 = .ok (.dconst 0, 1) := dk_14 (dk_at dksX7_bitsOf_0 16 rfl rfl)
theorem dX7_bitsOf_17 : decode cX7_bitsOf 17 = .ok (.dcmp .l, 1) := dk_151 (dk_at dksX7_bitsOf_0 17 rfl rfl)
theorem dX7_bitsOf_18 : decode cX7_bitsOf 18 = .ok (.ifCond .ne 5, 3) := dk_154 0 5 (dk_at dksX7_bitsOf_0 18 rfl rfl)
theorem dX7_bitsOf_21 : decode cX7_bitsOf 21 = .ok (.lconst 0, 1) := dk_9 (dk_at dksX7_bitsOf_0 21 rfl rfl)
theorem dX7_bitsOf_22 : decode cX7_bitsOf 22 = .ok (.lreturn, 1) := dk_173 (dk_at dksX7_bitsOf_0 22 rfl rfl)
theorem dX7_bitsOf_23 : decode cX7_bitsOf 23 = .ok (.dload 4, 2) := dk_24 4 (dk_at dksX7_bitsOf_1 0 rfl rfl)
theorem dX7_bitsOf_25 : decode cX7_bitsOf 25 = .ok (.ldc2_w 293, 3) := dk_20 1 37 (dk_at dksX7_bitsOf_1 2 rfl rfl)
theorem dX7_bitsOf_28 : decode cX7_bitsOf 28 = .ok (.dcmp .l, 1) := dk_151 (dk_at dksX7_bitsOf_1 5 rfl rfl)
theorem dX7_bitsOf_29 : decode cX7_bitsOf 29 = .ok (.ifCond .le 16, 3) := dk_158 0 16 (dk_at dksX7_bitsOf_1 6 rfl rfl)
theorem dX7_bitsOf_32 : decode cX7_bitsOf 32 = .ok (.ldc2_w 159, 3) := dk_20 0 159 (dk_at dksX7_bitsOf_1 9 rfl rfl)
theorem dX7_bitsOf_35 : decode cX7_bitsOf 35 = .ok (.ldc2_w 233, 3) := dk_20 0 233 (dk_at dksX7_bitsOf_1 12 rfl rfl)
theorem dX7_bitsOf_38 : decode cX7_bitsOf 38 = .ok (.iload_n 3, 1) := dk_29 (dk_at dksX7_bitsOf_1 15 rfl rfl)
theorem dX7_bitsOf_39 : decode cX7_bitsOf 39 = .ok (.i2l, 1) := dk_133 (dk_at dksX7_bitsOf_1 16 rfl rfl)
theorem dX7_bitsOf_40 : decode cX7_bitsOf 40 = .ok (.lmul, 1) := dk_105 (dk_at dksX7_bitsOf_1 17 rfl rfl)
theorem dX7_bitsOf_41 : decode cX7_bitsOf 41 = .ok (.lsub, 1) := dk_101 (dk_at dksX7_bitsOf_1 18 rfl rfl)
theorem dX7_bitsOf_42 : decode cX7_bitsOf 42 = .ok (.iload_n 2, 1) := dk_28 (dk_at dksX7_bitsOf_1 19 rfl rfl)
theorem dX7_bitsOf_43 : decode cX7_bitsOf 43 = .ok (.lshl, 1) := dk_121 (dk_at dksX7_bitsOf_1 20 rfl rfl)
theorem dX7_bitsOf_44 : decode cX7_bitsOf 44 = .ok (.lreturn, 1) := dk_173 (dk_at dksX7_bitsOf_1 21 rfl rfl)
theorem dX7_bitsOf_45 : decode cX7_bitsOf 45 = .ok (.iconst 0, 1) := dk_3 (dk_at dksX7_bitsOf_1 22 rfl rfl)
theorem dX7_bitsOf_46 : decode cX7_bitsOf 46 = .ok (.istore 6, 2) := dk_54 6 (dk_at dksX7_bitsOf_2 0 rfl rfl)
theorem dX7_bitsOf_48 : decode cX7_bitsOf 48 = .ok (.dload 4, 2) := dk_24 4 (dk_at dksX7_bitsOf_2 2 rfl rfl)
theorem dX7_bitsOf_50 : decode cX7_bitsOf 50 = .ok (.ldc2_w 270, 3) := dk_20 1 14 (dk_at dksX7_bitsOf_2 4 rfl rfl)
theorem dX7_bitsOf_53 : decode cX7_bitsOf 53 = .ok (.dcmp .l, 1) := dk_151 (dk_at dksX7_bitsOf_2 7 rfl rfl)
theorem dX7_bitsOf_54 : decode cX7_bitsOf 54 = .ok (.ifCond .lt 17, 3) := dk_155 0 17 (dk_at dksX7_bitsOf_2 8 rfl rfl)
theorem dX7_bitsOf_57 : decode cX7_bitsOf 57 = .ok (.dload 4, 2) := dk_24 4 (dk_at dksX7_bitsOf_2 11 rfl rfl)
theorem dX7_bitsOf_59 : decode cX7_bitsOf 59 = .ok (.ldc2_w 272, 3) := dk_20 1 16 (dk_at dksX7_bitsOf_2 13 rfl rfl)
theorem dX7_bitsOf_62 : decode cX7_bitsOf 62 = .ok (.dmul, 1) := dk_107 (dk_at dksX7_bitsOf_2 16 rfl rfl)
theorem dX7_bitsOf_63 : decode cX7_bitsOf 63 = .ok (.dstore 4, 2) := dk_57 4 (dk_at dksX7_bitsOf_2 17 rfl rfl)
theorem dX7_bitsOf_65 : decode cX7_bitsOf 65 = .ok (.iinc 6 1, 3) := dk_132 6 1 (dk_at dksX7_bitsOf_2 19 rfl rfl)
theorem dX7_bitsOf_68 : decode cX7_bitsOf 68 = .ok (.goto (-20), 3) := dk_167 255 236 (dk_at dksX7_bitsOf_3 0 rfl rfl)
theorem dX7_bitsOf_71 : decode cX7_bitsOf 71 = .ok (.dload 4, 2) := dk_24 4 (dk_at dksX7_bitsOf_3 3 rfl rfl)
theorem dX7_bitsOf_73 : decode cX7_bitsOf 73 = .ok (.dconst 1, 1) := dk_15 (dk_at dksX7_bitsOf_3 5 rfl rfl)
theorem dX7_bitsOf_74 : decode cX7_bitsOf 74 = .ok (.dcmp .g, 1) := dk_152 (dk_at dksX7_bitsOf_3 6 rfl rfl)
theorem dX7_bitsOf_75 : decode cX7_bitsOf 75 = .ok (.ifCond .ge 23, 3) := dk_156 0 23 (dk_at dksX7_bitsOf_3 7 rfl rfl)
theorem dX7_bitsOf_78 : decode cX7_bitsOf 78 = .ok (.iload 6, 2) := dk_21 6 (dk_at dksX7_bitsOf_3 10 rfl rfl)
theorem dX7_bitsOf_80 : decode cX7_bitsOf 80 = .ok (.iload_n 3, 1) := dk_29 (dk_at dksX7_bitsOf_3 12 rfl rfl)
theorem dX7_bitsOf_81 : decode cX7_bitsOf 81 = .ok (.if_icmp .le 17, 3) := dk_164 0 17 (dk_at dksX7_bitsOf_3 13 rfl rfl)
theorem dX7_bitsOf_84 : decode cX7_bitsOf 84 = .ok (.dload 4, 2) := dk_24 4 (dk_at dksX7_bitsOf_3 16 rfl rfl)
theorem dX7_bitsOf_86 : decode cX7_bitsOf 86 = .ok (.ldc2_w 270, 3) := dk_20 1 14 (dk_at dksX7_bitsOf_3 18 rfl rfl)
theorem dX7_bitsOf_89 : decode cX7_bitsOf 89 = .ok (.dmul, 1) := dk_107 (dk_at dksX7_bitsOf_3 21 rfl rfl)
theorem dX7_bitsOf_90 : decode cX7_bitsOf 90 = .ok (.dstore 4, 2) := dk_57 4 (dk_at dksX7_bitsOf_3 22 rfl rfl)
theorem dX7_bitsOf_92 : decode cX7_bitsOf 92 = .ok (.iinc 6 (-1), 3) := dk_132 6 255 (dk_at dksX7_bitsOf_4 0 rfl rfl)
theorem dX7_bitsOf_95 : decode cX7_bitsOf 95 = .ok (.goto (-24), 3) := dk_167 255 232 (dk_at dksX7_bitsOf_4 3 rfl rfl)
theorem dX7_bitsOf_98 : decode cX7_bitsOf 98 = .ok (.lconst 1, 1) := dk_10 (dk_at dksX7_bitsOf_4 6 rfl rfl)
theorem dX7_bitsOf_99 : decode cX7_bitsOf 99 = .ok (.iload_n 2, 1) := dk_28 (dk_at dksX7_bitsOf_4 7 rfl rfl)
theorem dX7_bitsOf_100 : decode cX7_bitsOf 100 = .ok (.lshl, 1) := dk_121 (dk_at dksX7_bitsOf_4 8 rfl rfl)
theorem dX7_bitsOf_101 : decode cX7_bitsOf 101 = .ok (.lstore 7, 2) := dk_55 7 (dk_at dksX7_bitsOf_4 9 rfl rfl)
theorem dX7_bitsOf_103 : decode cX7_bitsOf 103 = .ok (.dload 4, 2) := dk_24 4 (dk_at dksX7_bitsOf_4 11 rfl rfl)
theorem dX7_bitsOf_105 : decode cX7_bitsOf 105 = .ok (.lload 7, 2) := dk_22 7 (dk_at dksX7_bitsOf_4 13 rfl rfl)
theorem dX7_bitsOf_107 : decode cX7_bitsOf 107 = .ok (.l2d, 1) := dk_138 (dk_at dksX7_bitsOf_4 15 rfl rfl)
theorem dX7_bitsOf_108 : decode cX7_bitsOf 108 = .ok (.dmul, 1) := dk_107 (dk_at dksX7_bitsOf_4 16 rfl rfl)
theorem dX7_bitsOf_109 : decode cX7_bitsOf 109 = .ok (.d2l, 1) := dk_143 (dk_at dksX7_bitsOf_4 17 rfl rfl)
theorem dX7_bitsOf_110 : decode cX7_bitsOf 110 = .ok (.lstore 9, 2) := dk_55 9 (dk_at dksX7_bitsOf_4 18 rfl rfl)
theorem dX7_bitsOf_112 : decode cX7_bitsOf 112 = .ok (.lload 9, 2) := dk_22 9 (dk_at dksX7_bitsOf_4 20 rfl rfl)
theorem dX7_bitsOf_114 : decode cX7_bitsOf 114 = .ok (.lload 7, 2) := dk_22 7 (dk_at dksX7_bitsOf_4 22 rfl rfl)
theorem dX7_bitsOf_116 : decode cX7_bitsOf 116 = .ok (.lcmp, 1) := dk_148 (dk_at dksX7_bitsOf_5 0 rfl rfl)
theorem dX7_bitsOf_117 : decode cX7_bitsOf 117 = .ok (.ifCond .ge 8, 3) := dk_156 0 8 (dk_at dksX7_bitsOf_5 1 rfl rfl)
theorem dX7_bitsOf_120 : decode cX7_bitsOf 120 = .ok (.lload 9, 2) := dk_22 9 (dk_at dksX7_bitsOf_5 4 rfl rfl)
theorem dX7_bitsOf_122 : decode cX7_bitsOf 122 = .ok (.goto 19, 3) := dk_167 0 19 (dk_at dksX7_bitsOf_5 6 rfl rfl)
theorem dX7_bitsOf_125 : decode cX7_bitsOf 125 = .ok (.iload 6, 2) := dk_21 6 (dk_at dksX7_bitsOf_5 9 rfl rfl)
theorem dX7_bitsOf_127 : decode cX7_bitsOf 127 = .ok (.i2l, 1) := dk_133 (dk_at dksX7_bitsOf_5 11 rfl rfl)
theorem dX7_bitsOf_128 : decode cX7_bitsOf 128 = .ok (.iload_n 3, 1) := dk_29 (dk_at dksX7_bitsOf_5 12 rfl rfl)
theorem dX7_bitsOf_129 : decode cX7_bitsOf 129 = .ok (.i2l, 1) := dk_133 (dk_at dksX7_bitsOf_5 13 rfl rfl)
theorem dX7_bitsOf_130 : decode cX7_bitsOf 130 = .ok (.lsub, 1) := dk_101 (dk_at dksX7_bitsOf_5 14 rfl rfl)
theorem dX7_bitsOf_131 : decode cX7_bitsOf 131 = .ok (.lconst 1, 1) := dk_10 (dk_at dksX7_bitsOf_5 15 rfl rfl)
theorem dX7_bitsOf_132 : decode cX7_bitsOf 132 = .ok (.ladd, 1) := dk_97 (dk_at dksX7_bitsOf_5 16 rfl rfl)
theorem dX7_bitsOf_133 : decode cX7_bitsOf 133 = .ok (.iload_n 2, 1) := dk_28 (dk_at dksX7_bitsOf_5 17 rfl rfl)
theorem dX7_bitsOf_134 : decode cX7_bitsOf 134 = .ok (.lshl, 1) := dk_121 (dk_at dksX7_bitsOf_5 18 rfl rfl)
theorem dX7_bitsOf_135 : decode cX7_bitsOf 135 = .ok (.lload 9, 2) := dk_22 9 (dk_at dksX7_bitsOf_5 19 rfl rfl)
theorem dX7_bitsOf_137 : decode cX7_bitsOf 137 = .ok (.lload 7, 2) := dk_22 7 (dk_at dksX7_bitsOf_5 21 rfl rfl)
theorem dX7_bitsOf_139 : decode cX7_bitsOf 139 = .ok (.lsub, 1) := dk_101 (dk_at dksX7_bitsOf_5 23 rfl rfl)
theorem dX7_bitsOf_140 : decode cX7_bitsOf 140 = .ok (.lor, 1) := dk_129 (dk_at dksX7_bitsOf_6 0 rfl rfl)
theorem dX7_bitsOf_141 : decode cX7_bitsOf 141 = .ok (.lreturn, 1) := dk_173 (dk_at dksX7_bitsOf_6 1 rfl rfl)
abbrev cX7_isBelow : ByteArray := prog_30_method_62_code
def yX7_isBelow : MethodName := ⟨RX7, "isBelow", "(D)Z"⟩
def dkwX7_isBelow_1 : List UInt8 := [3, 172]
abbrev dktX7_isBelow_1 : List UInt8 := dkwX7_isBelow_1 ++ []
def dkwX7_isBelow_0 : List UInt8 := [38, 14, 152, 155, 0, 17, 38, 14, 151, 154, 0, 15, 15, 38, 111, 14, 152, 156, 0, 7, 4, 167, 0, 4]
abbrev dktX7_isBelow_0 : List UInt8 := dkwX7_isBelow_0 ++ dktX7_isBelow_1
theorem dksX7_isBelow_0 : cX7_isBelow.data.toList.drop 0 = dktX7_isBelow_0 := by decide +kernel
theorem dksX7_isBelow_1 : cX7_isBelow.data.toList.drop 24 = dktX7_isBelow_1 := dk_seg dksX7_isBelow_0 24 rfl rfl
theorem dX7_isBelow_0 : decode cX7_isBelow 0 = .ok (.dload_n 0, 1) := dk_38 (dk_at dksX7_isBelow_0 0 rfl rfl)
theorem dX7_isBelow_1 : decode cX7_isBelow 1 = .ok (.dconst 0, 1) := dk_14 (dk_at dksX7_isBelow_0 1 rfl rfl)
theorem dX7_isBelow_2 : decode cX7_isBelow 2 = .ok (.dcmp .g, 1) := dk_152 (dk_at dksX7_isBelow_0 2 rfl rfl)
theorem dX7_isBelow_3 : decode cX7_isBelow 3 = .ok (.ifCond .lt 17, 3) := dk_155 0 17 (dk_at dksX7_isBelow_0 3 rfl rfl)
theorem dX7_isBelow_6 : decode cX7_isBelow 6 = .ok (.dload_n 0, 1) := dk_38 (dk_at dksX7_isBelow_0 6 rfl rfl)
theorem dX7_isBelow_7 : decode cX7_isBelow 7 = .ok (.dconst 0, 1) := dk_14 (dk_at dksX7_isBelow_0 7 rfl rfl)
theorem dX7_isBelow_8 : decode cX7_isBelow 8 = .ok (.dcmp .l, 1) := dk_151 (dk_at dksX7_isBelow_0 8 rfl rfl)
theorem dX7_isBelow_9 : decode cX7_isBelow 9 = .ok (.ifCond .ne 15, 3) := dk_154 0 15 (dk_at dksX7_isBelow_0 9 rfl rfl)
theorem dX7_isBelow_12 : decode cX7_isBelow 12 = .ok (.dconst 1, 1) := dk_15 (dk_at dksX7_isBelow_0 12 rfl rfl)
theorem dX7_isBelow_13 : decode cX7_isBelow 13 = .ok (.dload_n 0, 1) := dk_38 (dk_at dksX7_isBelow_0 13 rfl rfl)
theorem dX7_isBelow_14 : decode cX7_isBelow 14 = .ok (.ddiv, 1) := dk_111 (dk_at dksX7_isBelow_0 14 rfl rfl)
theorem dX7_isBelow_15 : decode cX7_isBelow 15 = .ok (.dconst 0, 1) := dk_14 (dk_at dksX7_isBelow_0 15 rfl rfl)
theorem dX7_isBelow_16 : decode cX7_isBelow 16 = .ok (.dcmp .g, 1) := dk_152 (dk_at dksX7_isBelow_0 16 rfl rfl)
theorem dX7_isBelow_17 : decode cX7_isBelow 17 = .ok (.ifCond .ge 7, 3) := dk_156 0 7 (dk_at dksX7_isBelow_0 17 rfl rfl)
theorem dX7_isBelow_20 : decode cX7_isBelow 20 = .ok (.iconst 1, 1) := dk_4 (dk_at dksX7_isBelow_0 20 rfl rfl)
theorem dX7_isBelow_21 : decode cX7_isBelow 21 = .ok (.goto 4, 3) := dk_167 0 4 (dk_at dksX7_isBelow_0 21 rfl rfl)
theorem dX7_isBelow_24 : decode cX7_isBelow 24 = .ok (.iconst 0, 1) := dk_3 (dk_at dksX7_isBelow_1 0 rfl rfl)
theorem dX7_isBelow_25 : decode cX7_isBelow 25 = .ok (.ireturn, 1) := dk_172 (dk_at dksX7_isBelow_1 1 rfl rfl)
abbrev cX7_floatBits : ByteArray := prog_30_method_65_code
def yX7_floatBits : MethodName := ⟨RX7, "floatBits", "(F)J"⟩
def dkwX7_floatBits_1 : List UInt8 := [9, 129, 136, 133, 173]
abbrev dktX7_floatBits_1 : List UInt8 := dkwX7_floatBits_1 ++ []
def dkwX7_floatBits_0 : List UInt8 := [34, 141, 72, 39, 16, 23, 16, 130, 184, 1, 39, 39, 184, 1, 43, 153, 0, 9, 20, 1, 35, 167, 0, 4]
abbrev dktX7_floatBits_0 : List UInt8 := dkwX7_floatBits_0 ++ dktX7_floatBits_1
theorem dksX7_floatBits_0 : cX7_floatBits.data.toList.drop 0 = dktX7_floatBits_0 := by decide +kernel
theorem dksX7_floatBits_1 : cX7_floatBits.data.toList.drop 24 = dktX7_floatBits_1 := dk_seg dksX7_floatBits_0 24 rfl rfl
theorem dX7_floatBits_0 : decode cX7_floatBits 0 = .ok (.fload_n 0, 1) := dk_34 (dk_at dksX7_floatBits_0 0 rfl rfl)
theorem dX7_floatBits_1 : decode cX7_floatBits 1 = .ok (.f2d, 1) := dk_141 (dk_at dksX7_floatBits_0 1 rfl rfl)
theorem dX7_floatBits_2 : decode cX7_floatBits 2 = .ok (.dstore_n 1, 1) := dk_72 (dk_at dksX7_floatBits_0 2 rfl rfl)
theorem dX7_floatBits_3 : decode cX7_floatBits 3 = .ok (.dload_n 1, 1) := dk_39 (dk_at dksX7_floatBits_0 3 rfl rfl)
theorem dX7_floatBits_4 : decode cX7_floatBits 4 = .ok (.bipush 23, 2) := dk_16 23 (dk_at dksX7_floatBits_0 4 rfl rfl)
theorem dX7_floatBits_6 : decode cX7_floatBits 6 = .ok (.bipush (-126), 2) := dk_16 130 (dk_at dksX7_floatBits_0 6 rfl rfl)
theorem dX7_floatBits_8 : decode cX7_floatBits 8 = .ok (.invokestatic 295, 3) := dk_184 1 39 (dk_at dksX7_floatBits_0 8 rfl rfl)
theorem dX7_floatBits_11 : decode cX7_floatBits 11 = .ok (.dload_n 1, 1) := dk_39 (dk_at dksX7_floatBits_0 11 rfl rfl)
theorem dX7_floatBits_12 : decode cX7_floatBits 12 = .ok (.invokestatic 299, 3) := dk_184 1 43 (dk_at dksX7_floatBits_0 12 rfl rfl)
theorem dX7_floatBits_15 : decode cX7_floatBits 15 = .ok (.ifCond .eq 9, 3) := dk_153 0 9 (dk_at dksX7_floatBits_0 15 rfl rfl)
theorem dX7_floatBits_18 : decode cX7_floatBits 18 = .ok (.ldc2_w 291, 3) := dk_20 1 35 (dk_at dksX7_floatBits_0 18 rfl rfl)
theorem dX7_floatBits_21 : decode cX7_floatBits 21 = .ok (.goto 4, 3) := dk_167 0 4 (dk_at dksX7_floatBits_0 21 rfl rfl)
theorem dX7_floatBits_24 : decode cX7_floatBits 24 = .ok (.lconst 0, 1) := dk_9 (dk_at dksX7_floatBits_1 0 rfl rfl)
theorem dX7_floatBits_25 : decode cX7_floatBits 25 = .ok (.lor, 1) := dk_129 (dk_at dksX7_floatBits_1 1 rfl rfl)
theorem dX7_floatBits_26 : decode cX7_floatBits 26 = .ok (.l2i, 1) := dk_136 (dk_at dksX7_floatBits_1 2 rfl rfl)
theorem dX7_floatBits_27 : decode cX7_floatBits 27 = .ok (.i2l, 1) := dk_133 (dk_at dksX7_floatBits_1 3 rfl rfl)
theorem dX7_floatBits_28 : decode cX7_floatBits 28 = .ok (.lreturn, 1) := dk_173 (dk_at dksX7_floatBits_1 4 rfl rfl)
abbrev cX7_set : ByteArray := prog_30_method_83_code
def yX7_set : MethodName := ⟨RX7, "set", "(III)I"⟩
def dkwX7_set_6 : List UInt8 := [180, 0, 57, 27, 46, 184, 1, 112, 182, 1, 119, 4, 172]
abbrev dktX7_set_6 : List UInt8 := dkwX7_set_6 ++ []
def dkwX7_set_5 : List UInt8 := [16, 246, 21, 5, 100, 172, 42, 27, 28, 42, 180, 0, 103, 29, 47, 42, 180, 0, 100, 29, 46, 42]
abbrev dktX7_set_5 : List UInt8 := dkwX7_set_5 ++ dktX7_set_6
def dkwX7_set_4 : List UInt8 := [180, 0, 57, 27, 46, 182, 1, 116, 154, 0, 7, 5, 167, 0, 5, 21, 5, 54, 5, 21, 5, 158, 0, 9]
abbrev dktX7_set_4 : List UInt8 := dkwX7_set_4 ++ dktX7_set_5
def dkwX7_set_3 : List UInt8 := [154, 0, 8, 16, 6, 167, 0, 9, 42, 27, 28, 182, 1, 102, 54, 5, 21, 5, 154, 0, 21, 42, 29, 42]
abbrev dktX7_set_3 : List UInt8 := dkwX7_set_3 ++ dktX7_set_4
def dkwX7_set_2 : List UInt8 := [182, 0, 221, 153, 0, 7, 4, 167, 0, 4, 3, 54, 4, 21, 4, 154, 0, 12, 42, 27, 28, 182, 1, 11]
abbrev dktX7_set_2 : List UInt8 := dkwX7_set_2 ++ dktX7_set_3
def dkwX7_set_1 : List UInt8 := [172, 42, 27, 16, 8, 182, 0, 221, 153, 0, 25, 42, 180, 0, 66, 27, 51, 153, 0, 12, 42, 27, 7]
abbrev dktX7_set_1 : List UInt8 := dkwX7_set_1 ++ dktX7_set_2
def dkwX7_set_0 : List UInt8 := [42, 27, 182, 1, 99, 153, 0, 18, 42, 28, 182, 1, 8, 153, 0, 10, 29, 184, 1, 86, 154, 0, 5, 2]
abbrev dktX7_set_0 : List UInt8 := dkwX7_set_0 ++ dktX7_set_1
theorem dksX7_set_0 : cX7_set.data.toList.drop 0 = dktX7_set_0 := by decide +kernel
theorem dksX7_set_1 : cX7_set.data.toList.drop 24 = dktX7_set_1 := dk_seg dksX7_set_0 24 rfl rfl
theorem dksX7_set_2 : cX7_set.data.toList.drop 47 = dktX7_set_2 := dk_seg dksX7_set_1 23 rfl rfl
theorem dksX7_set_3 : cX7_set.data.toList.drop 71 = dktX7_set_3 := dk_seg dksX7_set_2 24 rfl rfl
theorem dksX7_set_4 : cX7_set.data.toList.drop 95 = dktX7_set_4 := dk_seg dksX7_set_3 24 rfl rfl
theorem dksX7_set_5 : cX7_set.data.toList.drop 119 = dktX7_set_5 := dk_seg dksX7_set_4 24 rfl rfl
theorem dksX7_set_6 : cX7_set.data.toList.drop 141 = dktX7_set_6 := dk_seg dksX7_set_5 22 rfl rfl
theorem dX7_set_0 : decode cX7_set 0 = .ok (.aload_n 0, 1) := dk_42 (dk_at dksX7_set_0 0 rfl rfl)
theorem dX7_set_1 : decode cX7_set 1 = .ok (.iload_n 1, 1) := dk_27 (dk_at dksX7_set_0 1 rfl rfl)
theorem dX7_set_2 : decode cX7_set 2 = .ok (.invokevirtual 355, 3) := dk_182 1 99 (dk_at dksX7_set_0 2 rfl rfl)
theorem dX7_set_5 : decode cX7_set 5 = .ok (.ifCond .eq 18, 3) := dk_153 0 18 (dk_at dksX7_set_0 5 rfl rfl)
theorem dX7_set_8 : decode cX7_set 8 = .ok (.aload_n 0, 1) := dk_42 (dk_at dksX7_set_0 8 rfl rfl)
theorem dX7_set_9 : decode cX7_set 9 = .ok (.iload_n 2, 1) := dk_28 (dk_at dksX7_set_0 9 rfl rfl)
theorem dX7_set_10 : decode cX7_set 10 = .ok (.invokevirtual 264, 3) := dk_182 1 8 (dk_at dksX7_set_0 10 rfl rfl)
theorem dX7_set_13 : decode cX7_set 13 = .ok (.ifCond .eq 10, 3) := dk_153 0 10 (dk_at dksX7_set_0 13 rfl rfl)
theorem dX7_set_16 : decode cX7_set 16 = .ok (.iload_n 3, 1) := dk_29 (dk_at dksX7_set_0 16 rfl rfl)
theorem dX7_set_17 : decode cX7_set 17 = .ok (.invokestatic 342, 3) := dk_184 1 86 (dk_at dksX7_set_0 17 rfl rfl)
theorem dX7_set_20 : decode cX7_set 20 = .ok (.ifCond .ne 5, 3) := dk_154 0 5 (dk_at dksX7_set_0 20 rfl rfl)
theorem dX7_set_23 : decode cX7_set 23 = .ok (.iconst (-1), 1) := dk_2 (dk_at dksX7_set_0 23 rfl rfl)
theorem dX7_set_24 : decode cX7_set 24 = .ok (.ireturn, 1) := dk_172 (dk_at dksX7_set_1 0 rfl rfl)
theorem dX7_set_25 : decode cX7_set 25 = .ok (.aload_n 0, 1) := dk_42 (dk_at dksX7_set_1 1 rfl rfl)
theorem dX7_set_26 : decode cX7_set 26 = .ok (.iload_n 1, 1) := dk_27 (dk_at dksX7_set_1 2 rfl rfl)
theorem dX7_set_27 : decode cX7_set 27 = .ok (.bipush 8, 2) := dk_16 8 (dk_at dksX7_set_1 3 rfl rfl)
theorem dX7_set_29 : decode cX7_set 29 = .ok (.invokevirtual 221, 3) := dk_182 0 221 (dk_at dksX7_set_1 5 rfl rfl)
theorem dX7_set_32 : decode cX7_set 32 = .ok (.ifCond .eq 25, 3) := dk_153 0 25 (dk_at dksX7_set_1 8 rfl rfl)
theorem dX7_set_35 : decode cX7_set 35 = .ok (.aload_n 0, 1) := dk_42 (dk_at dksX7_set_1 11 rfl rfl)
theorem dX7_set_36 : decode cX7_set 36 = .ok (.getfield 66, 3) := dk_180 0 66 (dk_at dksX7_set_1 12 rfl rfl)
theorem dX7_set_39 : decode cX7_set 39 = .ok (.iload_n 1, 1) := dk_27 (dk_at dksX7_set_1 15 rfl rfl)
theorem dX7_set_40 : decode cX7_set 40 = .ok (.baload, 1) := dk_51 (dk_at dksX7_set_1 16 rfl rfl)
theorem dX7_set_41 : decode cX7_set 41 = .ok (.ifCond .eq 12, 3) := dk_153 0 12 (dk_at dksX7_set_1 17 rfl rfl)
theorem dX7_set_44 : decode cX7_set 44 = .ok (.aload_n 0, 1) := dk_42 (dk_at dksX7_set_1 20 rfl rfl)
theorem dX7_set_45 : decode cX7_set 45 = .ok (.iload_n 1, 1) := dk_27 (dk_at dksX7_set_1 21 rfl rfl)
theorem dX7_set_46 : decode cX7_set 46 = .ok (.iconst 4, 1) := dk_7 (dk_at dksX7_set_1 22 rfl rfl)
theorem dX7_set_47 : decode cX7_set 47 = .ok (.invokevirtual 221, 3) := dk_182 0 221 (dk_at dksX7_set_2 0 rfl rfl)
theorem dX7_set_50 : decode cX7_set 50 = .ok (.ifCond .eq 7, 3) := dk_153 0 7 (dk_at dksX7_set_2 3 rfl rfl)
theorem dX7_set_53 : decode cX7_set 53 = .ok (.iconst 1, 1) := dk_4 (dk_at dksX7_set_2 6 rfl rfl)
theorem dX7_set_54 : decode cX7_set 54 = .ok (.goto 4, 3) := dk_167 0 4 (dk_at dksX7_set_2 7 rfl rfl)
theorem dX7_set_57 : decode cX7_set 57 = .ok (.iconst 0, 1) := dk_3 (dk_at dksX7_set_2 10 rfl rfl)
theorem dX7_set_58 : decode cX7_set 58 = .ok (.istore 4, 2) := dk_54 4 (dk_at dksX7_set_2 11 rfl rfl)
theorem dX7_set_60 : decode cX7_set 60 = .ok (.iload 4, 2) := dk_21 4 (dk_at dksX7_set_2 13 rfl rfl)
theorem dX7_set_62 : decode cX7_set 62 = .ok (.ifCond .ne 12, 3) := dk_154 0 12 (dk_at dksX7_set_2 15 rfl rfl)
theorem dX7_set_65 : decode cX7_set 65 = .ok (.aload_n 0, 1) := dk_42 (dk_at dksX7_set_2 18 rfl rfl)
theorem dX7_set_66 : decode cX7_set 66 = .ok (.iload_n 1, 1) := dk_27 (dk_at dksX7_set_2 19 rfl rfl)
theorem dX7_set_67 : decode cX7_set 67 = .ok (.iload_n 2, 1) := dk_28 (dk_at dksX7_set_2 20 rfl rfl)
theorem dX7_set_68 : decode cX7_set 68 = .ok (.invokevirtual 267, 3) := dk_182 1 11 (dk_at dksX7_set_2 21 rfl rfl)
theorem dX7_set_71 : decode cX7_set 71 = .ok (.ifCond .ne 8, 3) := dk_154 0 8 (dk_at dksX7_set_3 0 rfl rfl)
theorem dX7_set_74 : decode cX7_set 74 = .ok (.bipush 6, 2) := dk_16 6 (dk_at dksX7_set_3 3 rfl rfl)
theorem dX7_set_76 : decode cX7_set 76 = .ok (.goto 9, 3) := dk_167 0 9 (dk_at dksX7_set_3 5 rfl rfl)
theorem dX7_set_79 : decode cX7_set 79 = .ok (.aload_n 0, 1) := dk_42 (dk_at dksX7_set_3 8 rfl rfl)
theorem dX7_set_80 : decode cX7_set 80 = .ok (.iload_n 1, 1) := dk_27 (dk_at dksX7_set_3 9 rfl rfl)
theorem dX7_set_81 : decode cX7_set 81 = .ok (.iload_n 2, 1) := dk_28 (dk_at dksX7_set_3 10 rfl rfl)
theorem dX7_set_82 : decode cX7_set 82 = .ok (.invokevirtual 358, 3) := dk_182 1 102 (dk_at dksX7_set_3 11 rfl rfl)
theorem dX7_set_85 : decode cX7_set 85 = .ok (.istore 5, 2) := dk_54 5 (dk_at dksX7_set_3 14 rfl rfl)
theorem dX7_set_87 : decode cX7_set 87 = .ok (.iload 5, 2) := dk_21 5 (dk_at dksX7_set_3 16 rfl rfl)
theorem dX7_set_89 : decode cX7_set 89 = .ok (.ifCond .ne 21, 3) := dk_154 0 21 (dk_at dksX7_set_3 18 rfl rfl)
theorem dX7_set_92 : decode cX7_set 92 = .ok (.aload_n 0, 1) := dk_42 (dk_at dksX7_set_3 21 rfl rfl)
theorem dX7_set_93 : decode cX7_set 93 = .ok (.iload_n 3, 1) := dk_29 (dk_at dksX7_set_3 22 rfl rfl)
theorem dX7_set_94 : decode cX7_set 94 = .ok (.aload_n 0, 1) := dk_42 (dk_at dksX7_set_3 23 rfl rfl)
theorem dX7_set_95 : decode cX7_set 95 = .ok (.getfield 57, 3) := dk_180 0 57 (dk_at dksX7_set_4 0 rfl rfl)
theorem dX7_set_98 : decode cX7_set 98 = .ok (.iload_n 1, 1) := dk_27 (dk_at dksX7_set_4 3 rfl rfl)
theorem dX7_set_99 : decode cX7_set 99 = .ok (.iaload, 1) := dk_46 (dk_at dksX7_set_4 4 rfl rfl)
theorem dX7_set_100 : decode cX7_set 100 = .ok (.invokevirtual 372, 3) := dk_182 1 116 (dk_at dksX7_set_4 5 rfl rfl)
theorem dX7_set_103 : decode cX7_set 103 = .ok (.ifCond .ne 7, 3) := dk_154 0 7 (dk_at dksX7_set_4 8 rfl rfl)
theorem dX7_set_106 : decode cX7_set 106 = .ok (.iconst 2, 1) := dk_5 (dk_at dksX7_set_4 11 rfl rfl)
theorem dX7_set_107 : decode cX7_set 107 = .ok (.goto 5, 3) := dk_167 0 5 (dk_at dksX7_set_4 12 rfl rfl)
theorem dX7_set_110 : decode cX7_set 110 = .ok (.iload 5, 2) := dk_21 5 (dk_at dksX7_set_4 15 rfl rfl)
theorem dX7_set_112 : decode cX7_set 112 = .ok (.istore 5, 2) := dk_54 5 (dk_at dksX7_set_4 17 rfl rfl)
theorem dX7_set_114 : decode cX7_set 114 = .ok (.iload 5, 2) := dk_21 5 (dk_at dksX7_set_4 19 rfl rfl)
theorem dX7_set_116 : decode cX7_set 116 = .ok (.ifCond .le 9, 3) := dk_158 0 9 (dk_at dksX7_set_4 21 rfl rfl)
theorem dX7_set_119 : decode cX7_set 119 = .ok (.bipush (-10), 2) := dk_16 246 (dk_at dksX7_set_5 0 rfl rfl)
theorem dX7_set_121 : decode cX7_set 121 = .ok (.iload 5, 2) := dk_21 5 (dk_at dksX7_set_5 2 rfl rfl)
theorem dX7_set_123 : decode cX7_set 123 = .ok (.isub, 1) := dk_100 (dk_at dksX7_set_5 4 rfl rfl)
theorem dX7_set_124 : decode cX7_set 124 = .ok (.ireturn, 1) := dk_172 (dk_at dksX7_set_5 5 rfl rfl)
theorem dX7_set_125 : decode cX7_set 125 = .ok (.aload_n 0, 1) := dk_42 (dk_at dksX7_set_5 6 rfl rfl)
theorem dX7_set_126 : decode cX7_set 126 = .ok (.iload_n 1, 1) := dk_27 (dk_at dksX7_set_5 7 rfl rfl)
theorem dX7_set_127 : decode cX7_set 127 = .ok (.iload_n 2, 1) := dk_28 (dk_at dksX7_set_5 8 rfl rfl)
theorem dX7_set_128 : decode cX7_set 128 = .ok (.aload_n 0, 1) := dk_42 (dk_at dksX7_set_5 9 rfl rfl)
theorem dX7_set_129 : decode cX7_set 129 = .ok (.getfield 103, 3) := dk_180 0 103 (dk_at dksX7_set_5 10 rfl rfl)
theorem dX7_set_132 : decode cX7_set 132 = .ok (.iload_n 3, 1) := dk_29 (dk_at dksX7_set_5 13 rfl rfl)
theorem dX7_set_133 : decode cX7_set 133 = .ok (.laload, 1) := dk_47 (dk_at dksX7_set_5 14 rfl rfl)
theorem dX7_set_134 : decode cX7_set 134 = .ok (.aload_n 0, 1) := dk_42 (dk_at dksX7_set_5 15 rfl rfl)
theorem dX7_set_135 : decode cX7_set 135 = .ok (.getfield 100, 3) := dk_180 0 100 (dk_at dksX7_set_5 16 rfl rfl)
theorem dX7_set_138 : decode cX7_set 138 = .ok (.iload_n 3, 1) := dk_29 (dk_at dksX7_set_5 19 rfl rfl)
theorem dX7_set_139 : decode cX7_set 139 = .ok (.iaload, 1) := dk_46 (dk_at dksX7_set_5 20 rfl rfl)
theorem dX7_set_140 : decode cX7_set 140 = .ok (.aload_n 0, 1) := dk_42 (dk_at dksX7_set_5 21 rfl rfl)
theorem dX7_set_141 : decode cX7_set 141 = .ok (.getfield 57, 3) := dk_180 0 57 (dk_at dksX7_set_6 0 rfl rfl)
theorem dX7_set_144 : decode cX7_set 144 = .ok (.iload_n 1, 1) := dk_27 (dk_at dksX7_set_6 3 rfl rfl)
theorem dX7_set_145 : decode cX7_set 145 = .ok (.iaload, 1) := dk_46 (dk_at dksX7_set_6 4 rfl rfl)
theorem dX7_set_146 : decode cX7_set 146 = .ok (.invokestatic 368, 3) := dk_184 1 112 (dk_at dksX7_set_6 5 rfl rfl)
theorem dX7_set_149 : decode cX7_set 149 = .ok (.invokevirtual 375, 3) := dk_182 1 119 (dk_at dksX7_set_6 8 rfl rfl)
theorem dX7_set_152 : decode cX7_set 152 = .ok (.iconst 1, 1) := dk_4 (dk_at dksX7_set_6 11 rfl rfl)
theorem dX7_set_153 : decode cX7_set 153 = .ok (.ireturn, 1) := dk_172 (dk_at dksX7_set_6 12 rfl rfl)
abbrev cX7_slotGoes : ByteArray := prog_30_method_77_code
def yX7_slotGoes : MethodName := ⟨RX7, "slotGoes", "(II)Z"⟩
def dkwX7_slotGoes_3 : List UInt8 := [153, 0, 7, 4, 167, 0, 4, 3, 172]
abbrev dktX7_slotGoes_3 : List UInt8 := dkwX7_slotGoes_3 ++ []
def dkwX7_slotGoes_2 : List UInt8 := [9, 148, 155, 0, 23, 42, 42, 180, 0, 88, 42, 180, 0, 103, 27, 47, 136, 46, 28, 182, 0, 156]
abbrev dktX7_slotGoes_2 : List UInt8 := dkwX7_slotGoes_2 ++ dktX7_slotGoes_3
def dkwX7_slotGoes_1 : List UInt8 := [184, 0, 153, 153, 0, 7, 4, 167, 0, 4, 3, 172, 28, 16, 8, 161, 0, 38, 42, 180, 0, 103, 27, 47]
abbrev dktX7_slotGoes_1 : List UInt8 := dkwX7_slotGoes_1 ++ dktX7_slotGoes_2
def dkwX7_slotGoes_0 : List UInt8 := [42, 180, 0, 100, 27, 46, 16, 8, 162, 0, 28, 28, 16, 8, 162, 0, 20, 42, 180, 0, 100, 27, 46, 28]
abbrev dktX7_slotGoes_0 : List UInt8 := dkwX7_slotGoes_0 ++ dktX7_slotGoes_1
theorem dksX7_slotGoes_0 : cX7_slotGoes.data.toList.drop 0 = dktX7_slotGoes_0 := by decide +kernel
theorem dksX7_slotGoes_1 : cX7_slotGoes.data.toList.drop 24 = dktX7_slotGoes_1 := dk_seg dksX7_slotGoes_0 24 rfl rfl
theorem dksX7_slotGoes_2 : cX7_slotGoes.data.toList.drop 48 = dktX7_slotGoes_2 := dk_seg dksX7_slotGoes_1 24 rfl rfl
theorem dksX7_slotGoes_3 : cX7_slotGoes.data.toList.drop 70 = dktX7_slotGoes_3 := dk_seg dksX7_slotGoes_2 22 rfl rfl
theorem dX7_slotGoes_0 : decode cX7_slotGoes 0 = .ok (.aload_n 0, 1) := dk_42 (dk_at dksX7_slotGoes_0 0 rfl rfl)
theorem dX7_slotGoes_1 : decode cX7_slotGoes 1 = .ok (.getfield 100, 3) := dk_180 0 100 (dk_at dksX7_slotGoes_0 1 rfl rfl)
theorem dX7_slotGoes_4 : decode cX7_slotGoes 4 = .ok (.iload_n 1, 1) := dk_27 (dk_at dksX7_slotGoes_0 4 rfl rfl)
theorem dX7_slotGoes_5 : decode cX7_slotGoes 5 = .ok (.iaload, 1) := dk_46 (dk_at dksX7_slotGoes_0 5 rfl rfl)
theorem dX7_slotGoes_6 : decode cX7_slotGoes 6 = .ok (.bipush 8, 2) := dk_16 8 (dk_at dksX7_slotGoes_0 6 rfl rfl)
theorem dX7_slotGoes_8 : decode cX7_slotGoes 8 = .ok (.if_icmp .ge 28, 3) := dk_162 0 28 (dk_at dksX7_slotGoes_0 8 rfl rfl)
theorem dX7_slotGoes_11 : decode cX7_slotGoes 11 = .ok (.iload_n 2, 1) := dk_28 (dk_at dksX7_slotGoes_0 11 rfl rfl)
theorem dX7_slotGoes_12 : decode cX7_slotGoes 12 = .ok (.bipush 8, 2) := dk_16 8 (dk_at dksX7_slotGoes_0 12 rfl rfl)
theorem dX7_slotGoes_14 : decode cX7_slotGoes 14 = .ok (.if_icmp .ge 20, 3) := dk_162 0 20 (dk_at dksX7_slotGoes_0 14 rfl rfl)
theorem dX7_slotGoes_17 : decode cX7_slotGoes 17 = .ok (.aload_n 0, 1) := dk_42 (dk_at dksX7_slotGoes_0 17 rfl rfl)
theorem dX7_slotGoes_18 : decode cX7_slotGoes 18 = .ok (.getfield 100, 3) := dk_180 0 100 (dk_at dksX7_slotGoes_0 18 rfl rfl)
theorem dX7_slotGoes_21 : decode cX7_slotGoes 21 = .ok (.iload_n 1, 1) := dk_27 (dk_at dksX7_slotGoes_0 21 rfl rfl)
theorem dX7_slotGoes_22 : decode cX7_slotGoes 22 = .ok (.iaload, 1) := dk_46 (dk_at dksX7_slotGoes_0 22 rfl rfl)
theorem dX7_slotGoes_23 : decode cX7_slotGoes 23 = .ok (.iload_n 2, 1) := dk_28 (dk_at dksX7_slotGoes_0 23 rfl rfl)
theorem dX7_slotGoes_24 : decode cX7_slotGoes 24 = .ok (.invokestatic 153, 3) := dk_184 0 153 (dk_at dksX7_slotGoes_1 0 rfl rfl)
theorem dX7_slotGoes_27 : decode cX7_slotGoes 27 = .ok (.ifCond .eq 7, 3) := dk_153 0 7 (dk_at dksX7_slotGoes_1 3 rfl rfl)
theorem dX7_slotGoes_30 : decode cX7_slotGoes 30 = .ok (.iconst 1, 1) := dk_4 (dk_at dksX7_slotGoes_1 6 rfl rfl)
theorem dX7_slotGoes_31 : decode cX7_slotGoes 31 = .ok (.goto 4, 3) := dk_167 0 4 (dk_at dksX7_slotGoes_1 7 rfl rfl)
theorem dX7_slotGoes_34 : decode cX7_slotGoes 34 = .ok (.iconst 0, 1) := dk_3 (dk_at dksX7_slotGoes_1 10 rfl rfl)
theorem dX7_slotGoes_35 : decode cX7_slotGoes 35 = .ok (.ireturn, 1) := dk_172 (dk_at dksX7_slotGoes_1 11 rfl rfl)
theorem dX7_slotGoes_36 : decode cX7_slotGoes 36 = .ok (.iload_n 2, 1) := dk_28 (dk_at dksX7_slotGoes_1 12 rfl rfl)
theorem dX7_slotGoes_37 : decode cX7_slotGoes 37 = .ok (.bipush 8, 2) := dk_16 8 (dk_at dksX7_slotGoes_1 13 rfl rfl)
theorem dX7_slotGoes_39 : decode cX7_slotGoes 39 = .ok (.if_icmp .lt 38, 3) := dk_161 0 38 (dk_at dksX7_slotGoes_1 15 rfl rfl)
theorem dX7_slotGoes_42 : decode cX7_slotGoes 42 = .ok (.aload_n 0, 1) := dk_42 (dk_at dksX7_slotGoes_1 18 rfl rfl)
theorem dX7_slotGoes_43 : decode cX7_slotGoes 43 = .ok (.getfield 103, 3) := dk_180 0 103 (dk_at dksX7_slotGoes_1 19 rfl rfl)
theorem dX7_slotGoes_46 : decode cX7_slotGoes 46 = .ok (.iload_n 1, 1) := dk_27 (dk_at dksX7_slotGoes_1 22 rfl rfl)
theorem dX7_slotGoes_47 : decode cX7_slotGoes 47 = .ok (.laload, 1) := dk_47 (dk_at dksX7_slotGoes_1 23 rfl rfl)
theorem dX7_slotGoes_48 : decode cX7_slotGoes 48 = .ok (.lconst 0, 1) := dk_9 (dk_at dksX7_slotGoes_2 0 rfl rfl)
theorem dX7_slotGoes_49 : decode cX7_slotGoes 49 = .ok (.lcmp, 1) := dk_148 (dk_at dksX7_slotGoes_2 1 rfl rfl)
theorem dX7_slotGoes_50 : decode cX7_slotGoes 50 = .ok (.ifCond .lt 23, 3) := dk_155 0 23 (dk_at dksX7_slotGoes_2 2 rfl rfl)
theorem dX7_slotGoes_53 : decode cX7_slotGoes 53 = .ok (.aload_n 0, 1) := dk_42 (dk_at dksX7_slotGoes_2 5 rfl rfl)
theorem dX7_slotGoes_54 : decode cX7_slotGoes 54 = .ok (.aload_n 0, 1) := dk_42 (dk_at dksX7_slotGoes_2 6 rfl rfl)
theorem dX7_slotGoes_55 : decode cX7_slotGoes 55 = .ok (.getfield 88, 3) := dk_180 0 88 (dk_at dksX7_slotGoes_2 7 rfl rfl)
theorem dX7_slotGoes_58 : decode cX7_slotGoes 58 = .ok (.aload_n 0, 1) := dk_42 (dk_at dksX7_slotGoes_2 10 rfl rfl)
theorem dX7_slotGoes_59 : decode cX7_slotGoes 59 = .ok (.getfield 103, 3) := dk_180 0 103 (dk_at dksX7_slotGoes_2 11 rfl rfl)
theorem dX7_slotGoes_62 : decode cX7_slotGoes 62 = .ok (.iload_n 1, 1) := dk_27 (dk_at dksX7_slotGoes_2 14 rfl rfl)
theorem dX7_slotGoes_63 : decode cX7_slotGoes 63 = .ok (.laload, 1) := dk_47 (dk_at dksX7_slotGoes_2 15 rfl rfl)
theorem dX7_slotGoes_64 : decode cX7_slotGoes 64 = .ok (.l2i, 1) := dk_136 (dk_at dksX7_slotGoes_2 16 rfl rfl)
theorem dX7_slotGoes_65 : decode cX7_slotGoes 65 = .ok (.iaload, 1) := dk_46 (dk_at dksX7_slotGoes_2 17 rfl rfl)
theorem dX7_slotGoes_66 : decode cX7_slotGoes 66 = .ok (.iload_n 2, 1) := dk_28 (dk_at dksX7_slotGoes_2 18 rfl rfl)
theorem dX7_slotGoes_67 : decode cX7_slotGoes 67 = .ok (.invokevirtual 156, 3) := dk_182 0 156 (dk_at dksX7_slotGoes_2 19 rfl rfl)
theorem dX7_slotGoes_70 : decode cX7_slotGoes 70 = .ok (.ifCond .eq 7, 3) := dk_153 0 7 (dk_at dksX7_slotGoes_3 0 rfl rfl)
theorem dX7_slotGoes_73 : decode cX7_slotGoes 73 = .ok (.iconst 1, 1) := dk_4 (dk_at dksX7_slotGoes_3 3 rfl rfl)
theorem dX7_slotGoes_74 : decode cX7_slotGoes 74 = .ok (.goto 4, 3) := dk_167 0 4 (dk_at dksX7_slotGoes_3 4 rfl rfl)
theorem dX7_slotGoes_77 : decode cX7_slotGoes 77 = .ok (.iconst 0, 1) := dk_3 (dk_at dksX7_slotGoes_3 7 rfl rfl)
theorem dX7_slotGoes_78 : decode cX7_slotGoes 78 = .ok (.ireturn, 1) := dk_172 (dk_at dksX7_slotGoes_3 8 rfl rfl)
abbrev cX7_setField : ByteArray := prog_30_method_81_code
def yX7_setField : MethodName := ⟨RX7, "setField", "(IIJ)V"⟩
def dkwX7_setField_1 : List UInt8 := [16, 100, 28, 104, 27, 96, 33, 80, 177]
abbrev dktX7_setField_1 : List UInt8 := dkwX7_setField_1 ++ []
def dkwX7_setField_0 : List UInt8 := [42, 27, 7, 182, 0, 221, 153, 0, 13, 42, 180, 0, 84, 27, 33, 80, 167, 0, 15, 42, 180, 0, 94]
abbrev dktX7_setField_0 : List UInt8 := dkwX7_setField_0 ++ dktX7_setField_1
theorem dksX7_setField_0 : cX7_setField.data.toList.drop 0 = dktX7_setField_0 := by decide +kernel
theorem dksX7_setField_1 : cX7_setField.data.toList.drop 23 = dktX7_setField_1 := dk_seg dksX7_setField_0 23 rfl rfl
theorem dX7_setField_0 : decode cX7_setField 0 = .ok (.aload_n 0, 1) := dk_42 (dk_at dksX7_setField_0 0 rfl rfl)
theorem dX7_setField_1 : decode cX7_setField 1 = .ok (.iload_n 1, 1) := dk_27 (dk_at dksX7_setField_0 1 rfl rfl)
theorem dX7_setField_2 : decode cX7_setField 2 = .ok (.iconst 4, 1) := dk_7 (dk_at dksX7_setField_0 2 rfl rfl)
theorem dX7_setField_3 : decode cX7_setField 3 = .ok (.invokevirtual 221, 3) := dk_182 0 221 (dk_at dksX7_setField_0 3 rfl rfl)
theorem dX7_setField_6 : decode cX7_setField 6 = .ok (.ifCond .eq 13, 3) := dk_153 0 13 (dk_at dksX7_setField_0 6 rfl rfl)
theorem dX7_setField_9 : decode cX7_setField 9 = .ok (.aload_n 0, 1) := dk_42 (dk_at dksX7_setField_0 9 rfl rfl)
theorem dX7_setField_10 : decode cX7_setField 10 = .ok (.getfield 84, 3) := dk_180 0 84 (dk_at dksX7_setField_0 10 rfl rfl)
theorem dX7_setField_13 : decode cX7_setField 13 = .ok (.iload_n 1, 1) := dk_27 (dk_at dksX7_setField_0 13 rfl rfl)
theorem dX7_setField_14 : decode cX7_setField 14 = .ok (.lload_n 3, 1) := dk_33 (dk_at dksX7_setField_0 14 rfl rfl)
theorem dX7_setField_15 : decode cX7_setField 15 = .ok (.lastore, 1) := dk_80 (dk_at dksX7_setField_0 15 rfl rfl)
theorem dX7_setField_16 : decode cX7_setField 16 = .ok (.goto 15, 3) := dk_167 0 15 (dk_at dksX7_setField_0 16 rfl rfl)
theorem dX7_setField_19 : decode cX7_setField 19 = .ok (.aload_n 0, 1) := dk_42 (dk_at dksX7_setField_0 19 rfl rfl)
theorem dX7_setField_20 : decode cX7_setField 20 = .ok (.getfield 94, 3) := dk_180 0 94 (dk_at dksX7_setField_0 20 rfl rfl)
theorem dX7_setField_23 : decode cX7_setField 23 = .ok (.bipush 100, 2) := dk_16 100 (dk_at dksX7_setField_1 0 rfl rfl)
theorem dX7_setField_25 : decode cX7_setField 25 = .ok (.iload_n 2, 1) := dk_28 (dk_at dksX7_setField_1 2 rfl rfl)
theorem dX7_setField_26 : decode cX7_setField 26 = .ok (.imul, 1) := dk_104 (dk_at dksX7_setField_1 3 rfl rfl)
theorem dX7_setField_27 : decode cX7_setField 27 = .ok (.iload_n 1, 1) := dk_27 (dk_at dksX7_setField_1 4 rfl rfl)
theorem dX7_setField_28 : decode cX7_setField 28 = .ok (.iadd, 1) := dk_96 (dk_at dksX7_setField_1 5 rfl rfl)
theorem dX7_setField_29 : decode cX7_setField 29 = .ok (.lload_n 3, 1) := dk_33 (dk_at dksX7_setField_1 6 rfl rfl)
theorem dX7_setField_30 : decode cX7_setField 30 = .ok (.lastore, 1) := dk_80 (dk_at dksX7_setField_1 7 rfl rfl)
theorem dX7_setField_31 : decode cX7_setField 31 = .ok (.return_, 1) := dk_177 (dk_at dksX7_setField_1 8 rfl rfl)
abbrev cX7_item : ByteArray := prog_30_method_85_code
def yX7_item : MethodName := ⟨RX7, "item", "(IIII)I"⟩
def dkwX7_item_5 : List UInt8 := [27, 46, 46, 29, 184, 1, 112, 182, 1, 95, 4, 172]
abbrev dktX7_item_5 : List UInt8 := dkwX7_item_5 ++ []
def dkwX7_item_4 : List UInt8 := [172, 42, 21, 4, 29, 42, 180, 0, 97, 16, 20, 27, 104, 28, 96, 47, 42, 180, 0, 23, 42, 180, 0, 88]
abbrev dktX7_item_4 : List UInt8 := dkwX7_item_4 ++ dktX7_item_5
def dkwX7_item_3 : List UInt8 := [184, 1, 105, 154, 0, 7, 5, 167, 0, 5, 21, 5, 54, 5, 21, 5, 158, 0, 9, 16, 246, 21, 5, 100]
abbrev dktX7_item_3 : List UInt8 := dkwX7_item_3 ++ dktX7_item_4
def dkwX7_item_2 : List UInt8 := [182, 1, 122, 54, 5, 21, 5, 154, 0, 25, 42, 180, 0, 23, 42, 180, 0, 88, 27, 46, 46, 29]
abbrev dktX7_item_2 : List UInt8 := dkwX7_item_2 ++ dktX7_item_3
def dkwX7_item_1 : List UInt8 := [184, 1, 86, 154, 0, 5, 2, 172, 42, 27, 28, 29, 16, 8, 162, 0, 7, 4, 167, 0, 4, 3]
abbrev dktX7_item_1 : List UInt8 := dkwX7_item_1 ++ dktX7_item_2
def dkwX7_item_0 : List UInt8 := [42, 27, 182, 1, 8, 153, 0, 23, 29, 133, 9, 20, 1, 89, 184, 0, 127, 153, 0, 11, 21, 4]
abbrev dktX7_item_0 : List UInt8 := dkwX7_item_0 ++ dktX7_item_1
theorem dksX7_item_0 : cX7_item.data.toList.drop 0 = dktX7_item_0 := by decide +kernel
theorem dksX7_item_1 : cX7_item.data.toList.drop 22 = dktX7_item_1 := dk_seg dksX7_item_0 22 rfl rfl
theorem dksX7_item_2 : cX7_item.data.toList.drop 44 = dktX7_item_2 := dk_seg dksX7_item_1 22 rfl rfl
theorem dksX7_item_3 : cX7_item.data.toList.drop 66 = dktX7_item_3 := dk_seg dksX7_item_2 22 rfl rfl
theorem dksX7_item_4 : cX7_item.data.toList.drop 90 = dktX7_item_4 := dk_seg dksX7_item_3 24 rfl rfl
theorem dksX7_item_5 : cX7_item.data.toList.drop 114 = dktX7_item_5 := dk_seg dksX7_item_4 24 rfl rfl
theorem dX7_item_0 : decode cX7_item 0 = .ok (.aload_n 0, 1) := dk_42 (dk_at dksX7_item_0 0 rfl rfl)
theorem dX7_item_1 : decode cX7_item 1 = .ok (.iload_n 1, 1) := dk_27 (dk_at dksX7_item_0 1 rfl rfl)
theorem dX7_item_2 : decode cX7_item 2 = .ok (.invokevirtual 264, 3) := dk_182 1 8 (dk_at dksX7_item_0 2 rfl rfl)
theorem dX7_item_5 : decode cX7_item 5 = .ok (.ifCond .eq 23, 3) := dk_153 0 23 (dk_at dksX7_item_0 5 rfl rfl)
theorem dX7_item_8 : decode cX7_item 8 = .ok (.iload_n 3, 1) := dk_29 (dk_at dksX7_item_0 8 rfl rfl)
theorem dX7_item_9 : decode cX7_item 9 = .ok (.i2l, 1) := dk_133 (dk_at dksX7_item_0 9 rfl rfl)
theorem dX7_item_10 : decode cX7_item 10 = .ok (.lconst 0, 1) := dk_9 (dk_at dksX7_item_0 10 rfl rfl)
theorem dX7_item_11 : decode cX7_item 11 = .ok (.ldc2_w 345, 3) := dk_20 1 89 (dk_at dksX7_item_0 11 rfl rfl)
theorem dX7_item_14 : decode cX7_item 14 = .ok (.invokestatic 127, 3) := dk_184 0 127 (dk_at dksX7_item_0 14 rfl rfl)
theorem dX7_item_17 : decode cX7_item 17 = .ok (.ifCond .eq 11, 3) := dk_153 0 11 (dk_at dksX7_item_0 17 rfl rfl)
theorem dX7_item_20 : decode cX7_item 20 = .ok (.iload 4, 2) := dk_21 4 (dk_at dksX7_item_0 20 rfl rfl)
theorem dX7_item_22 : decode cX7_item 22 = .ok (.invokestatic 342, 3) := dk_184 1 86 (dk_at dksX7_item_1 0 rfl rfl)
theorem dX7_item_25 : decode cX7_item 25 = .ok (.ifCond .ne 5, 3) := dk_154 0 5 (dk_at dksX7_item_1 3 rfl rfl)
theorem dX7_item_28 : decode cX7_item 28 = .ok (.iconst (-1), 1) := dk_2 (dk_at dksX7_item_1 6 rfl rfl)
theorem dX7_item_29 : decode cX7_item 29 = .ok (.ireturn, 1) := dk_172 (dk_at dksX7_item_1 7 rfl rfl)
theorem dX7_item_30 : decode cX7_item 30 = .ok (.aload_n 0, 1) := dk_42 (dk_at dksX7_item_1 8 rfl rfl)
theorem dX7_item_31 : decode cX7_item 31 = .ok (.iload_n 1, 1) := dk_27 (dk_at dksX7_item_1 9 rfl rfl)
theorem dX7_item_32 : decode cX7_item 32 = .ok (.iload_n 2, 1) := dk_28 (dk_at dksX7_item_1 10 rfl rfl)
theorem dX7_item_33 : decode cX7_item 33 = .ok (.iload_n 3, 1) := dk_29 (dk_at dksX7_item_1 11 rfl rfl)
theorem dX7_item_34 : decode cX7_item 34 = .ok (.bipush 8, 2) := dk_16 8 (dk_at dksX7_item_1 12 rfl rfl)
theorem dX7_item_36 : decode cX7_item 36 = .ok (.if_icmp .ge 7, 3) := dk_162 0 7 (dk_at dksX7_item_1 14 rfl rfl)
theorem dX7_item_39 : decode cX7_item 39 = .ok (.iconst 1, 1) := dk_4 (dk_at dksX7_item_1 17 rfl rfl)
theorem dX7_item_40 : decode cX7_item 40 = .ok (.goto 4, 3) := dk_167 0 4 (dk_at dksX7_item_1 18 rfl rfl)
theorem dX7_item_43 : decode cX7_item 43 = .ok (.iconst 0, 1) := dk_3 (dk_at dksX7_item_1 21 rfl rfl)
theorem dX7_item_44 : decode cX7_item 44 = .ok (.invokevirtual 378, 3) := dk_182 1 122 (dk_at dksX7_item_2 0 rfl rfl)
theorem dX7_item_47 : decode cX7_item 47 = .ok (.istore 5, 2) := dk_54 5 (dk_at dksX7_item_2 3 rfl rfl)
theorem dX7_item_49 : decode cX7_item 49 = .ok (.iload 5, 2) := dk_21 5 (dk_at dksX7_item_2 5 rfl rfl)
theorem dX7_item_51 : decode cX7_item 51 = .ok (.ifCond .ne 25, 3) := dk_154 0 25 (dk_at dksX7_item_2 7 rfl rfl)
theorem dX7_item_54 : decode cX7_item 54 = .ok (.aload_n 0, 1) := dk_42 (dk_at dksX7_item_2 10 rfl rfl)
theorem dX7_item_55 : decode cX7_item 55 = .ok (.getfield 23, 3) := dk_180 0 23 (dk_at dksX7_item_2 11 rfl rfl)
theorem dX7_item_58 : decode cX7_item 58 = .ok (.aload_n 0, 1) := dk_42 (dk_at dksX7_item_2 14 rfl rfl)
theorem dX7_item_59 : decode cX7_item 59 = .ok (.getfield 88, 3) := dk_180 0 88 (dk_at dksX7_item_2 15 rfl rfl)
theorem dX7_item_62 : decode cX7_item 62 = .ok (.iload_n 1, 1) := dk_27 (dk_at dksX7_item_2 18 rfl rfl)
theorem dX7_item_63 : decode cX7_item 63 = .ok (.iaload, 1) := dk_46 (dk_at dksX7_item_2 19 rfl rfl)
theorem dX7_item_64 : decode cX7_item 64 = .ok (.iaload, 1) := dk_46 (dk_at dksX7_item_2 20 rfl rfl)
theorem dX7_item_65 : decode cX7_item 65 = .ok (.iload_n 3, 1) := dk_29 (dk_at dksX7_item_2 21 rfl rfl)
theorem dX7_item_66 : decode cX7_item 66 = .ok (.invokestatic 361, 3) := dk_184 1 105 (dk_at dksX7_item_3 0 rfl rfl)
theorem dX7_item_69 : decode cX7_item 69 = .ok (.ifCond .ne 7, 3) := dk_154 0 7 (dk_at dksX7_item_3 3 rfl rfl)
theorem dX7_item_72 : decode cX7_item 72 = .ok (.iconst 2, 1) := dk_5 (dk_at dksX7_item_3 6 rfl rfl)
theorem dX7_item_73 : decode cX7_item 73 = .ok (.goto 5, 3) := dk_167 0 5 (dk_at dksX7_item_3 7 rfl rfl)
theorem dX7_item_76 : decode cX7_item 76 = .ok (.iload 5, 2) := dk_21 5 (dk_at dksX7_item_3 10 rfl rfl)
theorem dX7_item_78 : decode cX7_item 78 = .ok (.istore 5, 2) := dk_54 5 (dk_at dksX7_item_3 12 rfl rfl)
theorem dX7_item_80 : decode cX7_item 80 = .ok (.iload 5, 2) := dk_21 5 (dk_at dksX7_item_3 14 rfl rfl)
theorem dX7_item_82 : decode cX7_item 82 = .ok (.ifCond .le 9, 3) := dk_158 0 9 (dk_at dksX7_item_3 16 rfl rfl)
theorem dX7_item_85 : decode cX7_item 85 = .ok (.bipush (-10), 2) := dk_16 246 (dk_at dksX7_item_3 19 rfl rfl)
theorem dX7_item_87 : decode cX7_item 87 = .ok (.iload 5, 2) := dk_21 5 (dk_at dksX7_item_3 21 rfl rfl)
theorem dX7_item_89 : decode cX7_item 89 = .ok (.isub, 1) := dk_100 (dk_at dksX7_item_3 23 rfl rfl)
theorem dX7_item_90 : decode cX7_item 90 = .ok (.ireturn, 1) := dk_172 (dk_at dksX7_item_4 0 rfl rfl)
theorem dX7_item_91 : decode cX7_item 91 = .ok (.aload_n 0, 1) := dk_42 (dk_at dksX7_item_4 1 rfl rfl)
theorem dX7_item_92 : decode cX7_item 92 = .ok (.iload 4, 2) := dk_21 4 (dk_at dksX7_item_4 2 rfl rfl)
theorem dX7_item_94 : decode cX7_item 94 = .ok (.iload_n 3, 1) := dk_29 (dk_at dksX7_item_4 4 rfl rfl)
theorem dX7_item_95 : decode cX7_item 95 = .ok (.aload_n 0, 1) := dk_42 (dk_at dksX7_item_4 5 rfl rfl)
theorem dX7_item_96 : decode cX7_item 96 = .ok (.getfield 97, 3) := dk_180 0 97 (dk_at dksX7_item_4 6 rfl rfl)
theorem dX7_item_99 : decode cX7_item 99 = .ok (.bipush 20, 2) := dk_16 20 (dk_at dksX7_item_4 9 rfl rfl)
theorem dX7_item_101 : decode cX7_item 101 = .ok (.iload_n 1, 1) := dk_27 (dk_at dksX7_item_4 11 rfl rfl)
theorem dX7_item_102 : decode cX7_item 102 = .ok (.imul, 1) := dk_104 (dk_at dksX7_item_4 12 rfl rfl)
theorem dX7_item_103 : decode cX7_item 103 = .ok (.iload_n 2, 1) := dk_28 (dk_at dksX7_item_4 13 rfl rfl)
theorem dX7_item_104 : decode cX7_item 104 = .ok (.iadd, 1) := dk_96 (dk_at dksX7_item_4 14 rfl rfl)
theorem dX7_item_105 : decode cX7_item 105 = .ok (.laload, 1) := dk_47 (dk_at dksX7_item_4 15 rfl rfl)
theorem dX7_item_106 : decode cX7_item 106 = .ok (.aload_n 0, 1) := dk_42 (dk_at dksX7_item_4 16 rfl rfl)
theorem dX7_item_107 : decode cX7_item 107 = .ok (.getfield 23, 3) := dk_180 0 23 (dk_at dksX7_item_4 17 rfl rfl)
theorem dX7_item_110 : decode cX7_item 110 = .ok (.aload_n 0, 1) := dk_42 (dk_at dksX7_item_4 20 rfl rfl)
theorem dX7_item_111 : decode cX7_item 111 = .ok (.getfield 88, 3) := dk_180 0 88 (dk_at dksX7_item_4 21 rfl rfl)
theorem dX7_item_114 : decode cX7_item 114 = .ok (.iload_n 1, 1) := dk_27 (dk_at dksX7_item_5 0 rfl rfl)
theorem dX7_item_115 : decode cX7_item 115 = .ok (.iaload, 1) := dk_46 (dk_at dksX7_item_5 1 rfl rfl)
theorem dX7_item_116 : decode cX7_item 116 = .ok (.iaload, 1) := dk_46 (dk_at dksX7_item_5 2 rfl rfl)
theorem dX7_item_117 : decode cX7_item 117 = .ok (.iload_n 3, 1) := dk_29 (dk_at dksX7_item_5 3 rfl rfl)
theorem dX7_item_118 : decode cX7_item 118 = .ok (.invokestatic 368, 3) := dk_184 1 112 (dk_at dksX7_item_5 4 rfl rfl)
theorem dX7_item_121 : decode cX7_item 121 = .ok (.invokevirtual 351, 3) := dk_182 1 95 (dk_at dksX7_item_5 7 rfl rfl)
theorem dX7_item_124 : decode cX7_item 124 = .ok (.iconst 1, 1) := dk_4 (dk_at dksX7_item_5 10 rfl rfl)
theorem dX7_item_125 : decode cX7_item 125 = .ok (.ireturn, 1) := dk_172 (dk_at dksX7_item_5 11 rfl rfl)
abbrev cX7_againstItem : ByteArray := prog_30_method_84_code
def yX7_againstItem : MethodName := ⟨RX7, "againstItem", "(IIZ)I"⟩
def dkwX7_againstItem_2 : List UInt8 := [9, 42, 180, 0, 91, 27, 46, 4, 100, 133, 184, 0, 127, 153, 0, 7, 3, 167, 0, 4, 6, 172]
abbrev dktX7_againstItem_2 : List UInt8 := dkwX7_againstItem_2 ++ []
def dkwX7_againstItem_1 : List UInt8 := [180, 0, 88, 27, 46, 46, 16, 8, 162, 0, 7, 4, 167, 0, 4, 3, 29, 159, 0, 5, 5, 172, 28, 133]
abbrev dktX7_againstItem_1 : List UInt8 := dkwX7_againstItem_1 ++ dktX7_againstItem_2
def dkwX7_againstItem_0 : List UInt8 := [27, 2, 160, 0, 5, 4, 172, 42, 180, 0, 91, 27, 46, 2, 159, 0, 28, 42, 180, 0, 23, 42]
abbrev dktX7_againstItem_0 : List UInt8 := dkwX7_againstItem_0 ++ dktX7_againstItem_1
theorem dksX7_againstItem_0 : cX7_againstItem.data.toList.drop 0 = dktX7_againstItem_0 := by decide +kernel
theorem dksX7_againstItem_1 : cX7_againstItem.data.toList.drop 22 = dktX7_againstItem_1 := dk_seg dksX7_againstItem_0 22 rfl rfl
theorem dksX7_againstItem_2 : cX7_againstItem.data.toList.drop 46 = dktX7_againstItem_2 := dk_seg dksX7_againstItem_1 24 rfl rfl
theorem dX7_againstItem_0 : decode cX7_againstItem 0 = .ok (.iload_n 1, 1) := dk_27 (dk_at dksX7_againstItem_0 0 rfl rfl)
theorem dX7_againstItem_1 : decode cX7_againstItem 1 = .ok (.iconst (-1), 1) := dk_2 (dk_at dksX7_againstItem_0 1 rfl rfl)
theorem dX7_againstItem_2 : decode cX7_againstItem 2 = .ok (.if_icmp .ne 5, 3) := dk_160 0 5 (dk_at dksX7_againstItem_0 2 rfl rfl)
theorem dX7_againstItem_5 : decode cX7_againstItem 5 = .ok (.iconst 1, 1) := dk_4 (dk_at dksX7_againstItem_0 5 rfl rfl)
theorem dX7_againstItem_6 : decode cX7_againstItem 6 = .ok (.ireturn, 1) := dk_172 (dk_at dksX7_againstItem_0 6 rfl rfl)
theorem dX7_againstItem_7 : decode cX7_againstItem 7 = .ok (.aload_n 0, 1) := dk_42 (dk_at dksX7_againstItem_0 7 rfl rfl)
theorem dX7_againstItem_8 : decode cX7_againstItem 8 = .ok (.getfield 91, 3) := dk_180 0 91 (dk_at dksX7_againstItem_0 8 rfl rfl)
theorem dX7_againstItem_11 : decode cX7_againstItem 11 = .ok (.iload_n 1, 1) := dk_27 (dk_at dksX7_againstItem_0 11 rfl rfl)
theorem dX7_againstItem_12 : decode cX7_againstItem 12 = .ok (.iaload, 1) := dk_46 (dk_at dksX7_againstItem_0 12 rfl rfl)
theorem dX7_againstItem_13 : decode cX7_againstItem 13 = .ok (.iconst (-1), 1) := dk_2 (dk_at dksX7_againstItem_0 13 rfl rfl)
theorem dX7_againstItem_14 : decode cX7_againstItem 14 = .ok (.if_icmp .eq 28, 3) := dk_159 0 28 (dk_at dksX7_againstItem_0 14 rfl rfl)
theorem dX7_againstItem_17 : decode cX7_againstItem 17 = .ok (.aload_n 0, 1) := dk_42 (dk_at dksX7_againstItem_0 17 rfl rfl)
theorem dX7_againstItem_18 : decode cX7_againstItem 18 = .ok (.getfield 23, 3) := dk_180 0 23 (dk_at dksX7_againstItem_0 18 rfl rfl)
theorem dX7_againstItem_21 : decode cX7_againstItem 21 = .ok (.aload_n 0, 1) := dk_42 (dk_at dksX7_againstItem_0 21 rfl rfl)
theorem dX7_againstItem_22 : decode cX7_againstItem 22 = .ok (.getfield 88, 3) := dk_180 0 88 (dk_at dksX7_againstItem_1 0 rfl rfl)
theorem dX7_againstItem_25 : decode cX7_againstItem 25 = .ok (.iload_n 1, 1) := dk_27 (dk_at dksX7_againstItem_1 3 rfl rfl)
theorem dX7_againstItem_26 : decode cX7_againstItem 26 = .ok (.iaload, 1) := dk_46 (dk_at dksX7_againstItem_1 4 rfl rfl)
theorem dX7_againstItem_27 : decode cX7_againstItem 27 = .ok (.iaload, 1) := dk_46 (dk_at dksX7_againstItem_1 5 rfl rfl)
theorem dX7_againstItem_28 : decode cX7_againstItem 28 = .ok (.bipush 8, 2) := dk_16 8 (dk_at dksX7_againstItem_1 6 rfl rfl)
theorem dX7_againstItem_30 : decode cX7_againstItem 30 = .ok (.if_icmp .ge 7, 3) := dk_162 0 7 (dk_at dksX7_againstItem_1 8 rfl rfl)
theorem dX7_againstItem_33 : decode cX7_againstItem 33 = .ok (.iconst 1, 1) := dk_4 (dk_at dksX7_againstItem_1 11 rfl rfl)
theorem dX7_againstItem_34 : decode cX7_againstItem 34 = .ok (.goto 4, 3) := dk_167 0 4 (dk_at dksX7_againstItem_1 12 rfl rfl)
theorem dX7_againstItem_37 : decode cX7_againstItem 37 = .ok (.iconst 0, 1) := dk_3 (dk_at dksX7_againstItem_1 15 rfl rfl)
theorem dX7_againstItem_38 : decode cX7_againstItem 38 = .ok (.iload_n 3, 1) := dk_29 (dk_at dksX7_againstItem_1 16 rfl rfl)
theorem dX7_againstItem_39 : decode cX7_againstItem 39 = .ok (.if_icmp .eq 5, 3) := dk_159 0 5 (dk_at dksX7_againstItem_1 17 rfl rfl)
theorem dX7_againstItem_42 : decode cX7_againstItem 42 = .ok (.iconst 2, 1) := dk_5 (dk_at dksX7_againstItem_1 20 rfl rfl)
theorem dX7_againstItem_43 : decode cX7_againstItem 43 = .ok (.ireturn, 1) := dk_172 (dk_at dksX7_againstItem_1 21 rfl rfl)
theorem dX7_againstItem_44 : decode cX7_againstItem 44 = .ok (.iload_n 2, 1) := dk_28 (dk_at dksX7_againstItem_1 22 rfl rfl)
theorem dX7_againstItem_45 : decode cX7_againstItem 45 = .ok (.i2l, 1) := dk_133 (dk_at dksX7_againstItem_1 23 rfl rfl)
theorem dX7_againstItem_46 : decode cX7_againstItem 46 = .ok (.lconst 0, 1) := dk_9 (dk_at dksX7_againstItem_2 0 rfl rfl)
theorem dX7_againstItem_47 : decode cX7_againstItem 47 = .ok (.aload_n 0, 1) := dk_42 (dk_at dksX7_againstItem_2 1 rfl rfl)
theorem dX7_againstItem_48 : decode cX7_againstItem 48 = .ok (.getfield 91, 3) := dk_180 0 91 (dk_at dksX7_againstItem_2 2 rfl rfl)
theorem dX7_againstItem_51 : decode cX7_againstItem 51 = .ok (.iload_n 1, 1) := dk_27 (dk_at dksX7_againstItem_2 5 rfl rfl)
theorem dX7_againstItem_52 : decode cX7_againstItem 52 = .ok (.iaload, 1) := dk_46 (dk_at dksX7_againstItem_2 6 rfl rfl)
theorem dX7_againstItem_53 : decode cX7_againstItem 53 = .ok (.iconst 1, 1) := dk_4 (dk_at dksX7_againstItem_2 7 rfl rfl)
theorem dX7_againstItem_54 : decode cX7_againstItem 54 = .ok (.isub, 1) := dk_100 (dk_at dksX7_againstItem_2 8 rfl rfl)
theorem dX7_againstItem_55 : decode cX7_againstItem 55 = .ok (.i2l, 1) := dk_133 (dk_at dksX7_againstItem_2 9 rfl rfl)
theorem dX7_againstItem_56 : decode cX7_againstItem 56 = .ok (.invokestatic 127, 3) := dk_184 0 127 (dk_at dksX7_againstItem_2 10 rfl rfl)
theorem dX7_againstItem_59 : decode cX7_againstItem 59 = .ok (.ifCond .eq 7, 3) := dk_153 0 7 (dk_at dksX7_againstItem_2 13 rfl rfl)
theorem dX7_againstItem_62 : decode cX7_againstItem 62 = .ok (.iconst 0, 1) := dk_3 (dk_at dksX7_againstItem_2 16 rfl rfl)
theorem dX7_againstItem_63 : decode cX7_againstItem 63 = .ok (.goto 4, 3) := dk_167 0 4 (dk_at dksX7_againstItem_2 17 rfl rfl)
theorem dX7_againstItem_66 : decode cX7_againstItem 66 = .ok (.iconst 3, 1) := dk_6 (dk_at dksX7_againstItem_2 20 rfl rfl)
theorem dX7_againstItem_67 : decode cX7_againstItem 67 = .ok (.ireturn, 1) := dk_172 (dk_at dksX7_againstItem_2 21 rfl rfl)
abbrev cX7_put : ByteArray := prog_30_method_86_code
def yX7_put : MethodName := ⟨RX7, "put", "(III)I"⟩
def dkwX7_put_5 : List UInt8 := [184, 1, 112, 80, 4, 172]
abbrev dktX7_put_5 : List UInt8 := dkwX7_put_5 ++ []
def dkwX7_put_4 : List UInt8 := [180, 0, 103, 29, 47, 42, 180, 0, 100, 29, 46, 42, 180, 0, 23, 42, 180, 0, 88, 27, 46, 46]
abbrev dktX7_put_4 : List UInt8 := dkwX7_put_4 ++ dktX7_put_5
def dkwX7_put_3 : List UInt8 := [54, 4, 21, 4, 158, 0, 9, 16, 246, 21, 4, 100, 172, 42, 180, 0, 97, 16, 20, 27, 104, 28, 96, 42]
abbrev dktX7_put_3 : List UInt8 := dkwX7_put_3 ++ dktX7_put_4
def dkwX7_put_2 : List UInt8 := [42, 180, 0, 23, 42, 180, 0, 88, 27, 46, 46, 182, 1, 116, 154, 0, 7, 5, 167, 0, 5, 21, 4]
abbrev dktX7_put_2 : List UInt8 := dkwX7_put_2 ++ dktX7_put_3
def dkwX7_put_1 : List UInt8 := [29, 46, 16, 8, 162, 0, 7, 4, 167, 0, 4, 3, 182, 1, 122, 54, 4, 21, 4, 154, 0, 26, 42, 29]
abbrev dktX7_put_1 : List UInt8 := dkwX7_put_1 ++ dktX7_put_2
def dkwX7_put_0 : List UInt8 := [42, 27, 182, 1, 8, 153, 0, 10, 29, 184, 1, 86, 154, 0, 5, 2, 172, 42, 27, 28, 42, 180, 0, 100]
abbrev dktX7_put_0 : List UInt8 := dkwX7_put_0 ++ dktX7_put_1
theorem dksX7_put_0 : cX7_put.data.toList.drop 0 = dktX7_put_0 := by decide +kernel
theorem dksX7_put_1 : cX7_put.data.toList.drop 24 = dktX7_put_1 := dk_seg dksX7_put_0 24 rfl rfl
theorem dksX7_put_2 : cX7_put.data.toList.drop 48 = dktX7_put_2 := dk_seg dksX7_put_1 24 rfl rfl
theorem dksX7_put_3 : cX7_put.data.toList.drop 71 = dktX7_put_3 := dk_seg dksX7_put_2 23 rfl rfl
theorem dksX7_put_4 : cX7_put.data.toList.drop 95 = dktX7_put_4 := dk_seg dksX7_put_3 24 rfl rfl
theorem dksX7_put_5 : cX7_put.data.toList.drop 117 = dktX7_put_5 := dk_seg dksX7_put_4 22 rfl rfl
theorem dX7_put_0 : decode cX7_put 0 = .ok (.aload_n 0, 1) := dk_42 (dk_at dksX7_put_0 0 rfl rfl)
theorem dX7_put_1 : decode cX7_put 1 = .ok (.iload_n 1, 1) := dk_27 (dk_at dksX7_put_0 1 rfl rfl)
theorem dX7_put_2 : decode cX7_put 2 = .ok (.invokevirtual 264, 3) := dk_182 1 8 (dk_at dksX7_put_0 2 rfl rfl)
theorem dX7_put_5 : decode cX7_put 5 = .ok (.ifCond .eq 10, 3) := dk_153 0 10 (dk_at dksX7_put_0 5 rfl rfl)
theorem dX7_put_8 : decode cX7_put 8 = .ok (.iload_n 3, 1) := dk_29 (dk_at dksX7_put_0 8 rfl rfl)
theorem dX7_put_9 : decode cX7_put 9 = .ok (.invokestatic 342, 3) := dk_184 1 86 (dk_at dksX7_put_0 9 rfl rfl)
theorem dX7_put_12 : decode cX7_put 12 = .ok (.ifCond .ne 5, 3) := dk_154 0 5 (dk_at dksX7_put_0 12 rfl rfl)
theorem dX7_put_15 : decode cX7_put 15 = .ok (.iconst (-1), 1) := dk_2 (dk_at dksX7_put_0 15 rfl rfl)
theorem dX7_put_16 : decode cX7_put 16 = .ok (.ireturn, 1) := dk_172 (dk_at dksX7_put_0 16 rfl rfl)
theorem dX7_put_17 : decode cX7_put 17 = .ok (.aload_n 0, 1) := dk_42 (dk_at dksX7_put_0 17 rfl rfl)
theorem dX7_put_18 : decode cX7_put 18 = .ok (.iload_n 1, 1) := dk_27 (dk_at dksX7_put_0 18 rfl rfl)
theorem dX7_put_19 : decode cX7_put 19 = .ok (.iload_n 2, 1) := dk_28 (dk_at dksX7_put_0 19 rfl rfl)
theorem dX7_put_20 : decode cX7_put 20 = .ok (.aload_n 0, 1) := dk_42 (dk_at dksX7_put_0 20 rfl rfl)
theorem dX7_put_21 : decode cX7_put 21 = .ok (.getfield 100, 3) := dk_180 0 100 (dk_at dksX7_put_0 21 rfl rfl)
theorem dX7_put_24 : decode cX7_put 24 = .ok (.iload_n 3, 1) := dk_29 (dk_at dksX7_put_1 0 rfl rfl)
theorem dX7_put_25 : decode cX7_put 25 = .ok (.iaload, 1) := dk_46 (dk_at dksX7_put_1 1 rfl rfl)
theorem dX7_put_26 : decode cX7_put 26 = .ok (.bipush 8, 2) := dk_16 8 (dk_at dksX7_put_1 2 rfl rfl)
theorem dX7_put_28 : decode cX7_put 28 = .ok (.if_icmp .ge 7, 3) := dk_162 0 7 (dk_at dksX7_put_1 4 rfl rfl)
theorem dX7_put_31 : decode cX7_put 31 = .ok (.iconst 1, 1) := dk_4 (dk_at dksX7_put_1 7 rfl rfl)
theorem dX7_put_32 : decode cX7_put 32 = .ok (.goto 4, 3) := dk_167 0 4 (dk_at dksX7_put_1 8 rfl rfl)
theorem dX7_put_35 : decode cX7_put 35 = .ok (.iconst 0, 1) := dk_3 (dk_at dksX7_put_1 11 rfl rfl)
theorem dX7_put_36 : decode cX7_put 36 = .ok (.invokevirtual 378, 3) := dk_182 1 122 (dk_at dksX7_put_1 12 rfl rfl)
theorem dX7_put_39 : decode cX7_put 39 = .ok (.istore 4, 2) := dk_54 4 (dk_at dksX7_put_1 15 rfl rfl)
theorem dX7_put_41 : decode cX7_put 41 = .ok (.iload 4, 2) := dk_21 4 (dk_at dksX7_put_1 17 rfl rfl)
theorem dX7_put_43 : decode cX7_put 43 = .ok (.ifCond .ne 26, 3) := dk_154 0 26 (dk_at dksX7_put_1 19 rfl rfl)
theorem dX7_put_46 : decode cX7_put 46 = .ok (.aload_n 0, 1) := dk_42 (dk_at dksX7_put_1 22 rfl rfl)
theorem dX7_put_47 : decode cX7_put 47 = .ok (.iload_n 3, 1) := dk_29 (dk_at dksX7_put_1 23 rfl rfl)
theorem dX7_put_48 : decode cX7_put 48 = .ok (.aload_n 0, 1) := dk_42 (dk_at dksX7_put_2 0 rfl rfl)
theorem dX7_put_49 : decode cX7_put 49 = .ok (.getfield 23, 3) := dk_180 0 23 (dk_at dksX7_put_2 1 rfl rfl)
theorem dX7_put_52 : decode cX7_put 52 = .ok (.aload_n 0, 1) := dk_42 (dk_at dksX7_put_2 4 rfl rfl)
theorem dX7_put_53 : decode cX7_put 53 = .ok (.getfield 88, 3) := dk_180 0 88 (dk_at dksX7_put_2 5 rfl rfl)
theorem dX7_put_56 : decode cX7_put 56 = .ok (.iload_n 1, 1) := dk_27 (dk_at dksX7_put_2 8 rfl rfl)
theorem dX7_put_57 : decode cX7_put 57 = .ok (.iaload, 1) := dk_46 (dk_at dksX7_put_2 9 rfl rfl)
theorem dX7_put_58 : decode cX7_put 58 = .ok (.iaload, 1) := dk_46 (dk_at dksX7_put_2 10 rfl rfl)
theorem dX7_put_59 : decode cX7_put 59 = .ok (.invokevirtual 372, 3) := dk_182 1 116 (dk_at dksX7_put_2 11 rfl rfl)
theorem dX7_put_62 : decode cX7_put 62 = .ok (.ifCond .ne 7, 3) := dk_154 0 7 (dk_at dksX7_put_2 14 rfl rfl)
theorem dX7_put_65 : decode cX7_put 65 = .ok (.iconst 2, 1) := dk_5 (dk_at dksX7_put_2 17 rfl rfl)
theorem dX7_put_66 : decode cX7_put 66 = .ok (.goto 5, 3) := dk_167 0 5 (dk_at dksX7_put_2 18 rfl rfl)
theorem dX7_put_69 : decode cX7_put 69 = .ok (.iload 4, 2) := dk_21 4 (dk_at dksX7_put_2 21 rfl rfl)
theorem dX7_put_71 : decode cX7_put 71 = .ok (.istore 4, 2) := dk_54 4 (dk_at dksX7_put_3 0 rfl rfl)
theorem dX7_put_73 : decode cX7_put 73 = .ok (.iload 4, 2) := dk_21 4 (dk_at dksX7_put_3 2 rfl rfl)
theorem dX7_put_75 : decode cX7_put 75 = .ok (.ifCond .le 9, 3) := dk_158 0 9 (dk_at dksX7_put_3 4 rfl rfl)
theorem dX7_put_78 : decode cX7_put 78 = .ok (.bipush (-10), 2) := dk_16 246 (dk_at dksX7_put_3 7 rfl rfl)
theorem dX7_put_80 : decode cX7_put 80 = .ok (.iload 4, 2) := dk_21 4 (dk_at dksX7_put_3 9 rfl rfl)
theorem dX7_put_82 : decode cX7_put 82 = .ok (.isub, 1) := dk_100 (dk_at dksX7_put_3 11 rfl rfl)
theorem dX7_put_83 : decode cX7_put 83 = .ok (.ireturn, 1) := dk_172 (dk_at dksX7_put_3 12 rfl rfl)
theorem dX7_put_84 : decode cX7_put 84 = .ok (.aload_n 0, 1) := dk_42 (dk_at dksX7_put_3 13 rfl rfl)
theorem dX7_put_85 : decode cX7_put 85 = .ok (.getfield 97, 3) := dk_180 0 97 (dk_at dksX7_put_3 14 rfl rfl)
theorem dX7_put_88 : decode cX7_put 88 = .ok (.bipush 20, 2) := dk_16 20 (dk_at dksX7_put_3 17 rfl rfl)
theorem dX7_put_90 : decode cX7_put 90 = .ok (.iload_n 1, 1) := dk_27 (dk_at dksX7_put_3 19 rfl rfl)
theorem dX7_put_91 : decode cX7_put 91 = .ok (.imul, 1) := dk_104 (dk_at dksX7_put_3 20 rfl rfl)
theorem dX7_put_92 : decode cX7_put 92 = .ok (.iload_n 2, 1) := dk_28 (dk_at dksX7_put_3 21 rfl rfl)
theorem dX7_put_93 : decode cX7_put 93 = .ok (.iadd, 1) := dk_96 (dk_at dksX7_put_3 22 rfl rfl)
theorem dX7_put_94 : decode cX7_put 94 = .ok (.aload_n 0, 1) := dk_42 (dk_at dksX7_put_3 23 rfl rfl)
theorem dX7_put_95 : decode cX7_put 95 = .ok (.getfield 103, 3) := dk_180 0 103 (dk_at dksX7_put_4 0 rfl rfl)
theorem dX7_put_98 : decode cX7_put 98 = .ok (.iload_n 3, 1) := dk_29 (dk_at dksX7_put_4 3 rfl rfl)
theorem dX7_put_99 : decode cX7_put 99 = .ok (.laload, 1) := dk_47 (dk_at dksX7_put_4 4 rfl rfl)
theorem dX7_put_100 : decode cX7_put 100 = .ok (.aload_n 0, 1) := dk_42 (dk_at dksX7_put_4 5 rfl rfl)
theorem dX7_put_101 : decode cX7_put 101 = .ok (.getfield 100, 3) := dk_180 0 100 (dk_at dksX7_put_4 6 rfl rfl)
theorem dX7_put_104 : decode cX7_put 104 = .ok (.iload_n 3, 1) := dk_29 (dk_at dksX7_put_4 9 rfl rfl)
theorem dX7_put_105 : decode cX7_put 105 = .ok (.iaload, 1) := dk_46 (dk_at dksX7_put_4 10 rfl rfl)
theorem dX7_put_106 : decode cX7_put 106 = .ok (.aload_n 0, 1) := dk_42 (dk_at dksX7_put_4 11 rfl rfl)
theorem dX7_put_107 : decode cX7_put 107 = .ok (.getfield 23, 3) := dk_180 0 23 (dk_at dksX7_put_4 12 rfl rfl)
theorem dX7_put_110 : decode cX7_put 110 = .ok (.aload_n 0, 1) := dk_42 (dk_at dksX7_put_4 15 rfl rfl)
theorem dX7_put_111 : decode cX7_put 111 = .ok (.getfield 88, 3) := dk_180 0 88 (dk_at dksX7_put_4 16 rfl rfl)
theorem dX7_put_114 : decode cX7_put 114 = .ok (.iload_n 1, 1) := dk_27 (dk_at dksX7_put_4 19 rfl rfl)
theorem dX7_put_115 : decode cX7_put 115 = .ok (.iaload, 1) := dk_46 (dk_at dksX7_put_4 20 rfl rfl)
theorem dX7_put_116 : decode cX7_put 116 = .ok (.iaload, 1) := dk_46 (dk_at dksX7_put_4 21 rfl rfl)
theorem dX7_put_117 : decode cX7_put 117 = .ok (.invokestatic 368, 3) := dk_184 1 112 (dk_at dksX7_put_5 0 rfl rfl)
theorem dX7_put_120 : decode cX7_put 120 = .ok (.lastore, 1) := dk_80 (dk_at dksX7_put_5 3 rfl rfl)
theorem dX7_put_121 : decode cX7_put 121 = .ok (.iconst 1, 1) := dk_4 (dk_at dksX7_put_5 4 rfl rfl)
theorem dX7_put_122 : decode cX7_put 122 = .ok (.ireturn, 1) := dk_172 (dk_at dksX7_put_5 5 rfl rfl)
abbrev cX7_store : ByteArray := prog_30_method_87_code
def yX7_store : MethodName := ⟨RX7, "store", "(III)I"⟩
def dkwX7_store_4 : List UInt8 := [180, 0, 97, 16, 20, 27, 104, 28, 96, 42, 180, 0, 103, 29, 47, 80, 4, 172]
abbrev dktX7_store_4 : List UInt8 := dkwX7_store_4 ++ []
def dkwX7_store_3 : List UInt8 := [154, 0, 7, 7, 167, 0, 5, 21, 4, 54, 4, 21, 4, 158, 0, 9, 16, 246, 21, 4, 100, 172, 42]
abbrev dktX7_store_3 : List UInt8 := dkwX7_store_3 ++ dktX7_store_4
def dkwX7_store_2 : List UInt8 := [167, 0, 33, 21, 4, 154, 0, 26, 42, 29, 42, 180, 0, 23, 42, 180, 0, 88, 27, 46, 46, 182, 1, 116]
abbrev dktX7_store_2 : List UInt8 := dkwX7_store_2 ++ dktX7_store_3
def dkwX7_store_1 : List UInt8 := [162, 0, 5, 2, 172, 42, 27, 28, 3, 182, 1, 122, 54, 4, 21, 4, 5, 160, 0, 8, 16, 8]
abbrev dktX7_store_1 : List UInt8 := dkwX7_store_1 ++ dktX7_store_2
def dkwX7_store_0 : List UInt8 := [42, 27, 182, 1, 8, 153, 0, 21, 29, 184, 1, 86, 153, 0, 14, 42, 180, 0, 100, 29, 46, 16, 8]
abbrev dktX7_store_0 : List UInt8 := dkwX7_store_0 ++ dktX7_store_1
theorem dksX7_store_0 : cX7_store.data.toList.drop 0 = dktX7_store_0 := by decide +kernel
theorem dksX7_store_1 : cX7_store.data.toList.drop 23 = dktX7_store_1 := dk_seg dksX7_store_0 23 rfl rfl
theorem dksX7_store_2 : cX7_store.data.toList.drop 45 = dktX7_store_2 := dk_seg dksX7_store_1 22 rfl rfl
theorem dksX7_store_3 : cX7_store.data.toList.drop 69 = dktX7_store_3 := dk_seg dksX7_store_2 24 rfl rfl
theorem dksX7_store_4 : cX7_store.data.toList.drop 92 = dktX7_store_4 := dk_seg dksX7_store_3 23 rfl rfl
theorem dX7_store_0 : decode cX7_store 0 = .ok (.aload_n 0, 1) := dk_42 (dk_at dksX7_store_0 0 rfl rfl)
theorem dX7_store_1 : decode cX7_store 1 = .ok (.iload_n 1, 1) := dk_27 (dk_at dksX7_store_0 1 rfl rfl)
theorem dX7_store_2 : decode cX7_store 2 = .ok (.invokevirtual 264, 3) := dk_182 1 8 (dk_at dksX7_store_0 2 rfl rfl)
theorem dX7_store_5 : decode cX7_store 5 = .ok (.ifCond .eq 21, 3) := dk_153 0 21 (dk_at dksX7_store_0 5 rfl rfl)
theorem dX7_store_8 : decode cX7_store 8 = .ok (.iload_n 3, 1) := dk_29 (dk_at dksX7_store_0 8 rfl rfl)
theorem dX7_store_9 : decode cX7_store 9 = .ok (.invokestatic 342, 3) := dk_184 1 86 (dk_at dksX7_store_0 9 rfl rfl)
theorem dX7_store_12 : decode cX7_store 12 = .ok (.ifCond .eq 14, 3) := dk_153 0 14 (dk_at dksX7_store_0 12 rfl rfl)
theorem dX7_store_15 : decode cX7_store 15 = .ok (.aload_n 0, 1) := dk_42 (dk_at dksX7_store_0 15 rfl rfl)
theorem dX7_store_16 : decode cX7_store 16 = .ok (.getfield 100, 3) := dk_180 0 100 (dk_at dksX7_store_0 16 rfl rfl)
theorem dX7_store_19 : decode cX7_store 19 = .ok (.iload_n 3, 1) := dk_29 (dk_at dksX7_store_0 19 rfl rfl)
theorem dX7_store_20 : decode cX7_store 20 = .ok (.iaload, 1) := dk_46 (dk_at dksX7_store_0 20 rfl rfl)
theorem dX7_store_21 : decode cX7_store 21 = .ok (.bipush 8, 2) := dk_16 8 (dk_at dksX7_store_0 21 rfl rfl)
theorem dX7_store_23 : decode cX7_store 23 = .ok (.if_icmp .ge 5, 3) := dk_162 0 5 (dk_at dksX7_store_1 0 rfl rfl)
theorem dX7_store_26 : decode cX7_store 26 = .ok (.iconst (-1), 1) := dk_2 (dk_at dksX7_store_1 3 rfl rfl)
theorem dX7_store_27 : decode cX7_store 27 = .ok (.ireturn, 1) := dk_172 (dk_at dksX7_store_1 4 rfl rfl)
theorem dX7_store_28 : decode cX7_store 28 = .ok (.aload_n 0, 1) := dk_42 (dk_at dksX7_store_1 5 rfl rfl)
theorem dX7_store_29 : decode cX7_store 29 = .ok (.iload_n 1, 1) := dk_27 (dk_at dksX7_store_1 6 rfl rfl)
theorem dX7_store_30 : decode cX7_store 30 = .ok (.iload_n 2, 1) := dk_28 (dk_at dksX7_store_1 7 rfl rfl)
theorem dX7_store_31 : decode cX7_store 31 = .ok (.iconst 0, 1) := dk_3 (dk_at dksX7_store_1 8 rfl rfl)
theorem dX7_store_32 : decode cX7_store 32 = .ok (.invokevirtual 378, 3) := dk_182 1 122 (dk_at dksX7_store_1 9 rfl rfl)
theorem dX7_store_35 : decode cX7_store 35 = .ok (.istore 4, 2) := dk_54 4 (dk_at dksX7_store_1 12 rfl rfl)
theorem dX7_store_37 : decode cX7_store 37 = .ok (.iload 4, 2) := dk_21 4 (dk_at dksX7_store_1 14 rfl rfl)
theorem dX7_store_39 : decode cX7_store 39 = .ok (.iconst 2, 1) := dk_5 (dk_at dksX7_store_1 16 rfl rfl)
theorem dX7_store_40 : decode cX7_store 40 = .ok (.if_icmp .ne 8, 3) := dk_160 0 8 (dk_at dksX7_store_1 17 rfl rfl)
theorem dX7_store_43 : decode cX7_store 43 = .ok (.bipush 8, 2) := dk_16 8 (dk_at dksX7_store_1 20 rfl rfl)
theorem dX7_store_45 : decode cX7_store 45 = .ok (.goto 33, 3) := dk_167 0 33 (dk_at dksX7_store_2 0 rfl rfl)
theorem dX7_store_48 : decode cX7_store 48 = .ok (.iload 4, 2) := dk_21 4 (dk_at dksX7_store_2 3 rfl rfl)
theorem dX7_store_50 : decode cX7_store 50 = .ok (.ifCond .ne 26, 3) := dk_154 0 26 (dk_at dksX7_store_2 5 rfl rfl)
theorem dX7_store_53 : decode cX7_store 53 = .ok (.aload_n 0, 1) := dk_42 (dk_at dksX7_store_2 8 rfl rfl)
theorem dX7_store_54 : decode cX7_store 54 = .ok (.iload_n 3, 1) := dk_29 (dk_at dksX7_store_2 9 rfl rfl)
theorem dX7_store_55 : decode cX7_store 55 = .ok (.aload_n 0, 1) := dk_42 (dk_at dksX7_store_2 10 rfl rfl)
theorem dX7_store_56 : decode cX7_store 56 = .ok (.getfield 23, 3) := dk_180 0 23 (dk_at dksX7_store_2 11 rfl rfl)
theorem dX7_store_59 : decode cX7_store 59 = .ok (.aload_n 0, 1) := dk_42 (dk_at dksX7_store_2 14 rfl rfl)
theorem dX7_store_60 : decode cX7_store 60 = .ok (.getfield 88, 3) := dk_180 0 88 (dk_at dksX7_store_2 15 rfl rfl)
theorem dX7_store_63 : decode cX7_store 63 = .ok (.iload_n 1, 1) := dk_27 (dk_at dksX7_store_2 18 rfl rfl)
theorem dX7_store_64 : decode cX7_store 64 = .ok (.iaload, 1) := dk_46 (dk_at dksX7_store_2 19 rfl rfl)
theorem dX7_store_65 : decode cX7_store 65 = .ok (.iaload, 1) := dk_46 (dk_at dksX7_store_2 20 rfl rfl)
theorem dX7_store_66 : decode cX7_store 66 = .ok (.invokevirtual 372, 3) := dk_182 1 116 (dk_at dksX7_store_2 21 rfl rfl)
theorem dX7_store_69 : decode cX7_store 69 = .ok (.ifCond .ne 7, 3) := dk_154 0 7 (dk_at dksX7_store_3 0 rfl rfl)
theorem dX7_store_72 : decode cX7_store 72 = .ok (.iconst 4, 1) := dk_7 (dk_at dksX7_store_3 3 rfl rfl)
theorem dX7_store_73 : decode cX7_store 73 = .ok (.goto 5, 3) := dk_167 0 5 (dk_at dksX7_store_3 4 rfl rfl)
theorem dX7_store_76 : decode cX7_store 76 = .ok (.iload 4, 2) := dk_21 4 (dk_at dksX7_store_3 7 rfl rfl)
theorem dX7_store_78 : decode cX7_store 78 = .ok (.istore 4, 2) := dk_54 4 (dk_at dksX7_store_3 9 rfl rfl)
theorem dX7_store_80 : decode cX7_store 80 = .ok (.iload 4, 2) := dk_21 4 (dk_at dksX7_store_3 11 rfl rfl)
theorem dX7_store_82 : decode cX7_store 82 = .ok (.ifCond .le 9, 3) := dk_158 0 9 (dk_at dksX7_store_3 13 rfl rfl)
theorem dX7_store_85 : decode cX7_store 85 = .ok (.bipush (-10), 2) := dk_16 246 (dk_at dksX7_store_3 16 rfl rfl)
theorem dX7_store_87 : decode cX7_store 87 = .ok (.iload 4, 2) := dk_21 4 (dk_at dksX7_store_3 18 rfl rfl)
theorem dX7_store_89 : decode cX7_store 89 = .ok (.isub, 1) := dk_100 (dk_at dksX7_store_3 20 rfl rfl)
theorem dX7_store_90 : decode cX7_store 90 = .ok (.ireturn, 1) := dk_172 (dk_at dksX7_store_3 21 rfl rfl)
theorem dX7_store_91 : decode cX7_store 91 = .ok (.aload_n 0, 1) := dk_42 (dk_at dksX7_store_3 22 rfl rfl)
theorem dX7_store_92 : decode cX7_store 92 = .ok (.getfield 97, 3) := dk_180 0 97 (dk_at dksX7_store_4 0 rfl rfl)
theorem dX7_store_95 : decode cX7_store 95 = .ok (.bipush 20, 2) := dk_16 20 (dk_at dksX7_store_4 3 rfl rfl)
theorem dX7_store_97 : decode cX7_store 97 = .ok (.iload_n 1, 1) := dk_27 (dk_at dksX7_store_4 5 rfl rfl)
theorem dX7_store_98 : decode cX7_store 98 = .ok (.imul, 1) := dk_104 (dk_at dksX7_store_4 6 rfl rfl)
theorem dX7_store_99 : decode cX7_store 99 = .ok (.iload_n 2, 1) := dk_28 (dk_at dksX7_store_4 7 rfl rfl)
theorem dX7_store_100 : decode cX7_store 100 = .ok (.iadd, 1) := dk_96 (dk_at dksX7_store_4 8 rfl rfl)
theorem dX7_store_101 : decode cX7_store 101 = .ok (.aload_n 0, 1) := dk_42 (dk_at dksX7_store_4 9 rfl rfl)
theorem dX7_store_102 : decode cX7_store 102 = .ok (.getfield 103, 3) := dk_180 0 103 (dk_at dksX7_store_4 10 rfl rfl)
theorem dX7_store_105 : decode cX7_store 105 = .ok (.iload_n 3, 1) := dk_29 (dk_at dksX7_store_4 13 rfl rfl)
theorem dX7_store_106 : decode cX7_store 106 = .ok (.laload, 1) := dk_47 (dk_at dksX7_store_4 14 rfl rfl)
theorem dX7_store_107 : decode cX7_store 107 = .ok (.lastore, 1) := dk_80 (dk_at dksX7_store_4 15 rfl rfl)
theorem dX7_store_108 : decode cX7_store 108 = .ok (.iconst 1, 1) := dk_4 (dk_at dksX7_store_4 16 rfl rfl)
theorem dX7_store_109 : decode cX7_store 109 = .ok (.ireturn, 1) := dk_172 (dk_at dksX7_store_4 17 rfl rfl)
abbrev cX7_copy : ByteArray := prog_30_method_88_code
def yX7_copy : MethodName := ⟨RX7, "copy", "(IIIII)I"⟩
def dkwX7_copy_11 : List UInt8 := [180, 0, 115, 21, 8, 47, 80, 132, 8, 1, 167, 255, 180, 4, 172]
abbrev dktX7_copy_11 : List UInt8 := dkwX7_copy_11 ++ []
def dkwX7_copy_10 : List UInt8 := [182, 0, 156, 154, 0, 6, 16, 242, 172, 42, 180, 0, 97, 16, 20, 29, 104, 21, 4, 96, 21, 8, 96, 42]
abbrev dktX7_copy_10 : List UInt8 := dkwX7_copy_10 ++ dktX7_copy_11
def dkwX7_copy_9 : List UInt8 := [21, 8, 47, 9, 148, 155, 0, 28, 42, 42, 180, 0, 88, 42, 180, 0, 115, 21, 8, 47, 136, 46, 21, 7]
abbrev dktX7_copy_9 : List UInt8 := dkwX7_copy_9 ++ dktX7_copy_10
def dkwX7_copy_8 : List UInt8 := [167, 255, 225, 3, 54, 8, 21, 8, 21, 5, 162, 0, 75, 21, 7, 16, 8, 161, 0, 40, 42, 180, 0, 115]
abbrev dktX7_copy_8 : List UInt8 := dkwX7_copy_8 ++ dktX7_copy_9
def dkwX7_copy_7 : List UInt8 := [180, 0, 115, 21, 8, 42, 180, 0, 97, 16, 20, 27, 104, 28, 96, 21, 8, 96, 47, 80, 132, 8, 1]
abbrev dktX7_copy_7 : List UInt8 := dkwX7_copy_7 ++ dktX7_copy_8
def dkwX7_copy_6 : List UInt8 := [180, 0, 91, 29, 46, 133, 148, 158, 0, 6, 16, 243, 172, 3, 54, 8, 21, 8, 21, 5, 162, 0, 30, 42]
abbrev dktX7_copy_6 : List UInt8 := dkwX7_copy_6 ++ dktX7_copy_7
def dkwX7_copy_5 : List UInt8 := [21, 5, 133, 97, 42, 180, 0, 91, 27, 46, 133, 148, 157, 0, 21, 21, 4, 133, 21, 5, 133, 97, 42]
abbrev dktX7_copy_5 : List UInt8 := dkwX7_copy_5 ++ dktX7_copy_6
def dkwX7_copy_4 : List UInt8 := [21, 7, 159, 0, 6, 16, 242, 172, 28, 155, 0, 48, 21, 4, 155, 0, 43, 21, 5, 155, 0, 38, 28, 133]
abbrev dktX7_copy_4 : List UInt8 := dkwX7_copy_4 ++ dktX7_copy_5
def dkwX7_copy_3 : List UInt8 := [180, 0, 88, 29, 46, 46, 54, 7, 21, 6, 16, 8, 161, 0, 10, 21, 7, 16, 8, 162, 0, 13, 21, 6]
abbrev dktX7_copy_3 : List UInt8 := dkwX7_copy_3 ++ dktX7_copy_4
def dkwX7_copy_2 : List UInt8 := [160, 0, 6, 16, 242, 172, 42, 180, 0, 23, 42, 180, 0, 88, 27, 46, 46, 54, 6, 42, 180, 0, 23, 42]
abbrev dktX7_copy_2 : List UInt8 := dkwX7_copy_2 ++ dktX7_copy_3
def dkwX7_copy_1 : List UInt8 := [2, 160, 0, 6, 16, 245, 172, 42, 180, 0, 91, 27, 46, 2, 159, 0, 13, 42, 180, 0, 91, 29, 46, 2]
abbrev dktX7_copy_1 : List UInt8 := dkwX7_copy_1 ++ dktX7_copy_2
def dkwX7_copy_0 : List UInt8 := [42, 27, 182, 1, 8, 153, 0, 11, 42, 29, 182, 1, 8, 154, 0, 5, 2, 172, 27, 2, 159, 0, 8, 29]
abbrev dktX7_copy_0 : List UInt8 := dkwX7_copy_0 ++ dktX7_copy_1
theorem dksX7_copy_0 : cX7_copy.data.toList.drop 0 = dktX7_copy_0 := by decide +kernel
theorem dksX7_copy_1 : cX7_copy.data.toList.drop 24 = dktX7_copy_1 := dk_seg dksX7_copy_0 24 rfl rfl
theorem dksX7_copy_2 : cX7_copy.data.toList.drop 48 = dktX7_copy_2 := dk_seg dksX7_copy_1 24 rfl rfl
theorem dksX7_copy_3 : cX7_copy.data.toList.drop 72 = dktX7_copy_3 := dk_seg dksX7_copy_2 24 rfl rfl
theorem dksX7_copy_4 : cX7_copy.data.toList.drop 96 = dktX7_copy_4 := dk_seg dksX7_copy_3 24 rfl rfl
theorem dksX7_copy_5 : cX7_copy.data.toList.drop 120 = dktX7_copy_5 := dk_seg dksX7_copy_4 24 rfl rfl
theorem dksX7_copy_6 : cX7_copy.data.toList.drop 143 = dktX7_copy_6 := dk_seg dksX7_copy_5 23 rfl rfl
theorem dksX7_copy_7 : cX7_copy.data.toList.drop 167 = dktX7_copy_7 := dk_seg dksX7_copy_6 24 rfl rfl
theorem dksX7_copy_8 : cX7_copy.data.toList.drop 190 = dktX7_copy_8 := dk_seg dksX7_copy_7 23 rfl rfl
theorem dksX7_copy_9 : cX7_copy.data.toList.drop 214 = dktX7_copy_9 := dk_seg dksX7_copy_8 24 rfl rfl
theorem dksX7_copy_10 : cX7_copy.data.toList.drop 238 = dktX7_copy_10 := dk_seg dksX7_copy_9 24 rfl rfl
theorem dksX7_copy_11 : cX7_copy.data.toList.drop 262 = dktX7_copy_11 := dk_seg dksX7_copy_10 24 rfl rfl
theorem dX7_copy_0 : decode cX7_copy 0 = .ok (.aload_n 0, 1) := dk_42 (dk_at dksX7_copy_0 0 rfl rfl)
theorem dX7_copy_1 : decode cX7_copy 1 = .ok (.iload_n 1, 1) := dk_27 (dk_at dksX7_copy_0 1 rfl rfl)
theorem dX7_copy_2 : decode cX7_copy 2 = .ok (.invokevirtual 264, 3) := dk_182 1 8 (dk_at dksX7_copy_0 2 rfl rfl)
theorem dX7_copy_5 : decode cX7_copy 5 = .ok (.ifCond .eq 11, 3) := dk_153 0 11 (dk_at dksX7_copy_0 5 rfl rfl)
theorem dX7_copy_8 : decode cX7_copy 8 = .ok (.aload_n 0, 1) := dk_42 (dk_at dksX7_copy_0 8 rfl rfl)
theorem dX7_copy_9 : decode cX7_copy 9 = .ok (.iload_n 3, 1) := dk_29 (dk_at dksX7_copy_0 9 rfl rfl)
theorem dX7_copy_10 : decode cX7_copy 10 = .ok (.invokevirtual 264, 3) := dk_182 1 8 (dk_at dksX7_copy_0 10 rfl rfl)
theorem dX7_copy_13 : decode cX7_copy 13 = .ok (.ifCond .ne 5, 3) := dk_154 0 5 (dk_at dksX7_copy_0 13 rfl rfl)
theorem dX7_copy_16 : decode cX7_copy 16 = .ok (.iconst (-1), 1) := dk_2 (dk_at dksX7_copy_0 16 rfl rfl)
theorem dX7_copy_17 : decode cX7_copy 17 = .ok (.ireturn, 1) := dk_172 (dk_at dksX7_copy_0 17 rfl rfl)
theorem dX7_copy_18 : decode cX7_copy 18 = .ok (.iload_n 1, 1) := dk_27 (dk_at dksX7_copy_0 18 rfl rfl)
theorem dX7_copy_19 : decode cX7_copy 19 = .ok (.iconst (-1), 1) := dk_2 (dk_at dksX7_copy_0 19 rfl rfl)
theorem dX7_copy_20 : decode cX7_copy 20 = .ok (.if_icmp .eq 8, 3) := dk_159 0 8 (dk_at dksX7_copy_0 20 rfl rfl)
theorem dX7_copy_23 : decode cX7_copy 23 = .ok (.iload_n 3, 1) := dk_29 (dk_at dksX7_copy_0 23 rfl rfl)
theorem dX7_copy_24 : decode cX7_copy 24 = .ok (.iconst (-1), 1) := dk_2 (dk_at dksX7_copy_1 0 rfl rfl)
theorem dX7_copy_25 : decode cX7_copy 25 = .ok (.if_icmp .ne 6, 3) := dk_160 0 6 (dk_at dksX7_copy_1 1 rfl rfl)
theorem dX7_copy_28 : decode cX7_copy 28 = .ok (.bipush (-11), 2) := dk_16 245 (dk_at dksX7_copy_1 4 rfl rfl)
theorem dX7_copy_30 : decode cX7_copy 30 = .ok (.ireturn, 1) := dk_172 (dk_at dksX7_copy_1 6 rfl rfl)
theorem dX7_copy_31 : decode cX7_copy 31 = .ok (.aload_n 0, 1) := dk_42 (dk_at dksX7_copy_1 7 rfl rfl)
theorem dX7_copy_32 : decode cX7_copy 32 = .ok (.getfield 91, 3) := dk_180 0 91 (dk_at dksX7_copy_1 8 rfl rfl)
theorem dX7_copy_35 : decode cX7_copy 35 = .ok (.iload_n 1, 1) := dk_27 (dk_at dksX7_copy_1 11 rfl rfl)
theorem dX7_copy_36 : decode cX7_copy 36 = .ok (.iaload, 1) := dk_46 (dk_at dksX7_copy_1 12 rfl rfl)
theorem dX7_copy_37 : decode cX7_copy 37 = .ok (.iconst (-1), 1) := dk_2 (dk_at dksX7_copy_1 13 rfl rfl)
theorem dX7_copy_38 : decode cX7_copy 38 = .ok (.if_icmp .eq 13, 3) := dk_159 0 13 (dk_at dksX7_copy_1 14 rfl rfl)
theorem dX7_copy_41 : decode cX7_copy 41 = .ok (.aload_n 0, 1) := dk_42 (dk_at dksX7_copy_1 17 rfl rfl)
theorem dX7_copy_42 : decode cX7_copy 42 = .ok (.getfield 91, 3) := dk_180 0 91 (dk_at dksX7_copy_1 18 rfl rfl)
theorem dX7_copy_45 : decode cX7_copy 45 = .ok (.iload_n 3, 1) := dk_29 (dk_at dksX7_copy_1 21 rfl rfl)
theorem dX7_copy_46 : decode cX7_copy 46 = .ok (.iaload, 1) := dk_46 (dk_at dksX7_copy_1 22 rfl rfl)
theorem dX7_copy_47 : decode cX7_copy 47 = .ok (.iconst (-1), 1) := dk_2 (dk_at dksX7_copy_1 23 rfl rfl)
theorem dX7_copy_48 : decode cX7_copy 48 = .ok (.if_icmp .ne 6, 3) := dk_160 0 6 (dk_at dksX7_copy_2 0 rfl rfl)
theorem dX7_copy_51 : decode cX7_copy 51 = .ok (.bipush (-14), 2) := dk_16 242 (dk_at dksX7_copy_2 3 rfl rfl)
theorem dX7_copy_53 : decode cX7_copy 53 = .ok (.ireturn, 1) := dk_172 (dk_at dksX7_copy_2 5 rfl rfl)
theorem dX7_copy_54 : decode cX7_copy 54 = .ok (.aload_n 0, 1) := dk_42 (dk_at dksX7_copy_2 6 rfl rfl)
theorem dX7_copy_55 : decode cX7_copy 55 = .ok (.getfield 23, 3) := dk_180 0 23 (dk_at dksX7_copy_2 7 rfl rfl)
theorem dX7_copy_58 : decode cX7_copy 58 = .ok (.aload_n 0, 1) := dk_42 (dk_at dksX7_copy_2 10 rfl rfl)
theorem dX7_copy_59 : decode cX7_copy 59 = .ok (.getfield 88, 3) := dk_180 0 88 (dk_at dksX7_copy_2 11 rfl rfl)
theorem dX7_copy_62 : decode cX7_copy 62 = .ok (.iload_n 1, 1) := dk_27 (dk_at dksX7_copy_2 14 rfl rfl)
theorem dX7_copy_63 : decode cX7_copy 63 = .ok (.iaload, 1) := dk_46 (dk_at dksX7_copy_2 15 rfl rfl)
theorem dX7_copy_64 : decode cX7_copy 64 = .ok (.iaload, 1) := dk_46 (dk_at dksX7_copy_2 16 rfl rfl)
theorem dX7_copy_65 : decode cX7_copy 65 = .ok (.istore 6, 2) := dk_54 6 (dk_at dksX7_copy_2 17 rfl rfl)
theorem dX7_copy_67 : decode cX7_copy 67 = .ok (.aload_n 0, 1) := dk_42 (dk_at dksX7_copy_2 19 rfl rfl)
theorem dX7_copy_68 : decode cX7_copy 68 = .ok (.getfield 23, 3) := dk_180 0 23 (dk_at dksX7_copy_2 20 rfl rfl)
theorem dX7_copy_71 : decode cX7_copy 71 = .ok (.aload_n 0, 1) := dk_42 (dk_at dksX7_copy_2 23 rfl rfl)
theorem dX7_copy_72 : decode cX7_copy 72 = .ok (.getfield 88, 3) := dk_180 0 88 (dk_at dksX7_copy_3 0 rfl rfl)
theorem dX7_copy_75 : decode cX7_copy 75 = .ok (.iload_n 3, 1) := dk_29 (dk_at dksX7_copy_3 3 rfl rfl)
theorem dX7_copy_76 : decode cX7_copy 76 = .ok (.iaload, 1) := dk_46 (dk_at dksX7_copy_3 4 rfl rfl)
theorem dX7_copy_77 : decode cX7_copy 77 = .ok (.iaload, 1) := dk_46 (dk_at dksX7_copy_3 5 rfl rfl)
theorem dX7_copy_78 : decode cX7_copy 78 = .ok (.istore 7, 2) := dk_54 7 (dk_at dksX7_copy_3 6 rfl rfl)
theorem dX7_copy_80 : decode cX7_copy 80 = .ok (.iload 6, 2) := dk_21 6 (dk_at dksX7_copy_3 8 rfl rfl)
theorem dX7_copy_82 : decode cX7_copy 82 = .ok (.bipush 8, 2) := dk_16 8 (dk_at dksX7_copy_3 10 rfl rfl)
theorem dX7_copy_84 : decode cX7_copy 84 = .ok (.if_icmp .lt 10, 3) := dk_161 0 10 (dk_at dksX7_copy_3 12 rfl rfl)
theorem dX7_copy_87 : decode cX7_copy 87 = .ok (.iload 7, 2) := dk_21 7 (dk_at dksX7_copy_3 15 rfl rfl)
theorem dX7_copy_89 : decode cX7_copy 89 = .ok (.bipush 8, 2) := dk_16 8 (dk_at dksX7_copy_3 17 rfl rfl)
theorem dX7_copy_91 : decode cX7_copy 91 = .ok (.if_icmp .ge 13, 3) := dk_162 0 13 (dk_at dksX7_copy_3 19 rfl rfl)
theorem dX7_copy_94 : decode cX7_copy 94 = .ok (.iload 6, 2) := dk_21 6 (dk_at dksX7_copy_3 22 rfl rfl)
theorem dX7_copy_96 : decode cX7_copy 96 = .ok (.iload 7, 2) := dk_21 7 (dk_at dksX7_copy_4 0 rfl rfl)
theorem dX7_copy_98 : decode cX7_copy 98 = .ok (.if_icmp .eq 6, 3) := dk_159 0 6 (dk_at dksX7_copy_4 2 rfl rfl)
theorem dX7_copy_101 : decode cX7_copy 101 = .ok (.bipush (-14), 2) := dk_16 242 (dk_at dksX7_copy_4 5 rfl rfl)
theorem dX7_copy_103 : decode cX7_copy 103 = .ok (.ireturn, 1) := dk_172 (dk_at dksX7_copy_4 7 rfl rfl)
theorem dX7_copy_104 : decode cX7_copy 104 = .ok (.iload_n 2, 1) := dk_28 (dk_at dksX7_copy_4 8 rfl rfl)
theorem dX7_copy_105 : decode cX7_copy 105 = .ok (.ifCond .lt 48, 3) := dk_155 0 48 (dk_at dksX7_copy_4 9 rfl rfl)
theorem dX7_copy_108 : decode cX7_copy 108 = .ok (.iload 4, 2) := dk_21 4 (dk_at dksX7_copy_4 12 rfl rfl)
theorem dX7_copy_110 : decode cX7_copy 110 = .ok (.ifCond .lt 43, 3) := dk_155 0 43 (dk_at dksX7_copy_4 14 rfl rfl)
theorem dX7_copy_113 : decode cX7_copy 113 = .ok (.iload 5, 2) := dk_21 5 (dk_at dksX7_copy_4 17 rfl rfl)
theorem dX7_copy_115 : decode cX7_copy 115 = .ok (.ifCond .lt 38, 3) := dk_155 0 38 (dk_at dksX7_copy_4 19 rfl rfl)
theorem dX7_copy_118 : decode cX7_copy 118 = .ok (.iload_n 2, 1) := dk_28 (dk_at dksX7_copy_4 22 rfl rfl)
theorem dX7_copy_119 : decode cX7_copy 119 = .ok (.i2l, 1) := dk_133 (dk_at dksX7_copy_4 23 rfl rfl)
theorem dX7_copy_120 : decode cX7_copy 120 = .ok (.iload 5, 2) := dk_21 5 (dk_at dksX7_copy_5 0 rfl rfl)
theorem dX7_copy_122 : decode cX7_copy 122 = .ok (.i2l, 1) := dk_133 (dk_at dksX7_copy_5 2 rfl rfl)
theorem dX7_copy_123 : decode cX7_copy 123 = .ok (.ladd, 1) := dk_97 (dk_at dksX7_copy_5 3 rfl rfl)
theorem dX7_copy_124 : decode cX7_copy 124 = .ok (.aload_n 0, 1) := dk_42 (dk_at dksX7_copy_5 4 rfl rfl)
theorem dX7_copy_125 : decode cX7_copy 125 = .ok (.getfield 91, 3) := dk_180 0 91 (dk_at dksX7_copy_5 5 rfl rfl)
theorem dX7_copy_128 : decode cX7_copy 128 = .ok (.iload_n 1, 1) := dk_27 (dk_at dksX7_copy_5 8 rfl rfl)
theorem dX7_copy_129 : decode cX7_copy 129 = .ok (.iaload, 1) := dk_46 (dk_at dksX7_copy_5 9 rfl rfl)
theorem dX7_copy_130 : decode cX7_copy 130 = .ok (.i2l, 1) := dk_133 (dk_at dksX7_copy_5 10 rfl rfl)
theorem dX7_copy_131 : decode cX7_copy 131 = .ok (.lcmp, 1) := dk_148 (dk_at dksX7_copy_5 11 rfl rfl)
theorem dX7_copy_132 : decode cX7_copy 132 = .ok (.ifCond .gt 21, 3) := dk_157 0 21 (dk_at dksX7_copy_5 12 rfl rfl)
theorem dX7_copy_135 : decode cX7_copy 135 = .ok (.iload 4, 2) := dk_21 4 (dk_at dksX7_copy_5 15 rfl rfl)
theorem dX7_copy_137 : decode cX7_copy 137 = .ok (.i2l, 1) := dk_133 (dk_at dksX7_copy_5 17 rfl rfl)
theorem dX7_copy_138 : decode cX7_copy 138 = .ok (.iload 5, 2) := dk_21 5 (dk_at dksX7_copy_5 18 rfl rfl)
theorem dX7_copy_140 : decode cX7_copy 140 = .ok (.i2l, 1) := dk_133 (dk_at dksX7_copy_5 20 rfl rfl)
theorem dX7_copy_141 : decode cX7_copy 141 = .ok (.ladd, 1) := dk_97 (dk_at dksX7_copy_5 21 rfl rfl)
theorem dX7_copy_142 : decode cX7_copy 142 = .ok (.aload_n 0, 1) := dk_42 (dk_at dksX7_copy_5 22 rfl rfl)
theorem dX7_copy_143 : decode cX7_copy 143 = .ok (.getfield 91, 3) := dk_180 0 91 (dk_at dksX7_copy_6 0 rfl rfl)
theorem dX7_copy_146 : decode cX7_copy 146 = .ok (.iload_n 3, 1) := dk_29 (dk_at dksX7_copy_6 3 rfl rfl)
theorem dX7_copy_147 : decode cX7_copy 147 = .ok (.iaload, 1) := dk_46 (dk_at dksX7_copy_6 4 rfl rfl)
theorem dX7_copy_148 : decode cX7_copy 148 = .ok (.i2l, 1) := dk_133 (dk_at dksX7_copy_6 5 rfl rfl)
theorem dX7_copy_149 : decode cX7_copy 149 = .ok (.lcmp, 1) := dk_148 (dk_at dksX7_copy_6 6 rfl rfl)
theorem dX7_copy_150 : decode cX7_copy 150 = .ok (.ifCond .le 6, 3) := dk_158 0 6 (dk_at dksX7_copy_6 7 rfl rfl)
theorem dX7_copy_153 : decode cX7_copy 153 = .ok (.bipush (-13), 2) := dk_16 243 (dk_at dksX7_copy_6 10 rfl rfl)
theorem dX7_copy_155 : decode cX7_copy 155 = .ok (.ireturn, 1) := dk_172 (dk_at dksX7_copy_6 12 rfl rfl)
theorem dX7_copy_156 : decode cX7_copy 156 = .ok (.iconst 0, 1) := dk_3 (dk_at dksX7_copy_6 13 rfl rfl)
theorem dX7_copy_157 : decode cX7_copy 157 = .ok (.istore 8, 2) := dk_54 8 (dk_at dksX7_copy_6 14 rfl rfl)
theorem dX7_copy_159 : decode cX7_copy 159 = .ok (.iload 8, 2) := dk_21 8 (dk_at dksX7_copy_6 16 rfl rfl)
theorem dX7_copy_161 : decode cX7_copy 161 = .ok (.iload 5, 2) := dk_21 5 (dk_at dksX7_copy_6 18 rfl rfl)
theorem dX7_copy_163 : decode cX7_copy 163 = .ok (.if_icmp .ge 30, 3) := dk_162 0 30 (dk_at dksX7_copy_6 20 rfl rfl)
theorem dX7_copy_166 : decode cX7_copy 166 = .ok (.aload_n 0, 1) := dk_42 (dk_at dksX7_copy_6 23 rfl rfl)
theorem dX7_copy_167 : decode cX7_copy 167 = .ok (.getfield 115, 3) := dk_180 0 115 (dk_at dksX7_copy_7 0 rfl rfl)
theorem dX7_copy_170 : decode cX7_copy 170 = .ok (.iload 8, 2) := dk_21 8 (dk_at dksX7_copy_7 3 rfl rfl)
theorem dX7_copy_172 : decode cX7_copy 172 = .ok (.aload_n 0, 1) := dk_42 (dk_at dksX7_copy_7 5 rfl rfl)
theorem dX7_copy_173 : decode cX7_copy 173 = .ok (.getfield 97, 3) := dk_180 0 97 (dk_at dksX7_copy_7 6 rfl rfl)
theorem dX7_copy_176 : decode cX7_copy 176 = .ok (.bipush 20, 2) := dk_16 20 (dk_at dksX7_copy_7 9 rfl rfl)
theorem dX7_copy_178 : decode cX7_copy 178 = .ok (.iload_n 1, 1) := dk_27 (dk_at dksX7_copy_7 11 rfl rfl)
theorem dX7_copy_179 : decode cX7_copy 179 = .ok (.imul, 1) := dk_104 (dk_at dksX7_copy_7 12 rfl rfl)
theorem dX7_copy_180 : decode cX7_copy 180 = .ok (.iload_n 2, 1) := dk_28 (dk_at dksX7_copy_7 13 rfl rfl)
theorem dX7_copy_181 : decode cX7_copy 181 = .ok (.iadd, 1) := dk_96 (dk_at dksX7_copy_7 14 rfl rfl)
theorem dX7_copy_182 : decode cX7_copy 182 = .ok (.iload 8, 2) := dk_21 8 (dk_at dksX7_copy_7 15 rfl rfl)
theorem dX7_copy_184 : decode cX7_copy 184 = .ok (.iadd, 1) := dk_96 (dk_at dksX7_copy_7 17 rfl rfl)
theorem dX7_copy_185 : decode cX7_copy 185 = .ok (.laload, 1) := dk_47 (dk_at dksX7_copy_7 18 rfl rfl)
theorem dX7_copy_186 : decode cX7_copy 186 = .ok (.lastore, 1) := dk_80 (dk_at dksX7_copy_7 19 rfl rfl)
theorem dX7_copy_187 : decode cX7_copy 187 = .ok (.iinc 8 1, 3) := dk_132 8 1 (dk_at dksX7_copy_7 20 rfl rfl)
theorem dX7_copy_190 : decode cX7_copy 190 = .ok (.goto (-31), 3) := dk_167 255 225 (dk_at dksX7_copy_8 0 rfl rfl)
theorem dX7_copy_193 : decode cX7_copy 193 = .ok (.iconst 0, 1) := dk_3 (dk_at dksX7_copy_8 3 rfl rfl)
theorem dX7_copy_194 : decode cX7_copy 194 = .ok (.istore 8, 2) := dk_54 8 (dk_at dksX7_copy_8 4 rfl rfl)
theorem dX7_copy_196 : decode cX7_copy 196 = .ok (.iload 8, 2) := dk_21 8 (dk_at dksX7_copy_8 6 rfl rfl)
theorem dX7_copy_198 : decode cX7_copy 198 = .ok (.iload 5, 2) := dk_21 5 (dk_at dksX7_copy_8 8 rfl rfl)
theorem dX7_copy_200 : decode cX7_copy 200 = .ok (.if_icmp .ge 75, 3) := dk_162 0 75 (dk_at dksX7_copy_8 10 rfl rfl)
theorem dX7_copy_203 : decode cX7_copy 203 = .ok (.iload 7, 2) := dk_21 7 (dk_at dksX7_copy_8 13 rfl rfl)
theorem dX7_copy_205 : decode cX7_copy 205 = .ok (.bipush 8, 2) := dk_16 8 (dk_at dksX7_copy_8 15 rfl rfl)
theorem dX7_copy_207 : decode cX7_copy 207 = .ok (.if_icmp .lt 40, 3) := dk_161 0 40 (dk_at dksX7_copy_8 17 rfl rfl)
theorem dX7_copy_210 : decode cX7_copy 210 = .ok (.aload_n 0, 1) := dk_42 (dk_at dksX7_copy_8 20 rfl rfl)
theorem dX7_copy_211 : decode cX7_copy 211 = .ok (.getfield 115, 3) := dk_180 0 115 (dk_at dksX7_copy_8 21 rfl rfl)
theorem dX7_copy_214 : decode cX7_copy 214 = .ok (.iload 8, 2) := dk_21 8 (dk_at dksX7_copy_9 0 rfl rfl)
theorem dX7_copy_216 : decode cX7_copy 216 = .ok (.laload, 1) := dk_47 (dk_at dksX7_copy_9 2 rfl rfl)
theorem dX7_copy_217 : decode cX7_copy 217 = .ok (.lconst 0, 1) := dk_9 (dk_at dksX7_copy_9 3 rfl rfl)
theorem dX7_copy_218 : decode cX7_copy 218 = .ok (.lcmp, 1) := dk_148 (dk_at dksX7_copy_9 4 rfl rfl)
theorem dX7_copy_219 : decode cX7_copy 219 = .ok (.ifCond .lt 28, 3) := dk_155 0 28 (dk_at dksX7_copy_9 5 rfl rfl)
theorem dX7_copy_222 : decode cX7_copy 222 = .ok (.aload_n 0, 1) := dk_42 (dk_at dksX7_copy_9 8 rfl rfl)
theorem dX7_copy_223 : decode cX7_copy 223 = .ok (.aload_n 0, 1) := dk_42 (dk_at dksX7_copy_9 9 rfl rfl)
theorem dX7_copy_224 : decode cX7_copy 224 = .ok (.getfield 88, 3) := dk_180 0 88 (dk_at dksX7_copy_9 10 rfl rfl)
theorem dX7_copy_227 : decode cX7_copy 227 = .ok (.aload_n 0, 1) := dk_42 (dk_at dksX7_copy_9 13 rfl rfl)
theorem dX7_copy_228 : decode cX7_copy 228 = .ok (.getfield 115, 3) := dk_180 0 115 (dk_at dksX7_copy_9 14 rfl rfl)
theorem dX7_copy_231 : decode cX7_copy 231 = .ok (.iload 8, 2) := dk_21 8 (dk_at dksX7_copy_9 17 rfl rfl)
theorem dX7_copy_233 : decode cX7_copy 233 = .ok (.laload, 1) := dk_47 (dk_at dksX7_copy_9 19 rfl rfl)
theorem dX7_copy_234 : decode cX7_copy 234 = .ok (.l2i, 1) := dk_136 (dk_at dksX7_copy_9 20 rfl rfl)
theorem dX7_copy_235 : decode cX7_copy 235 = .ok (.iaload, 1) := dk_46 (dk_at dksX7_copy_9 21 rfl rfl)
theorem dX7_copy_236 : decode cX7_copy 236 = .ok (.iload 7, 2) := dk_21 7 (dk_at dksX7_copy_9 22 rfl rfl)
theorem dX7_copy_238 : decode cX7_copy 238 = .ok (.invokevirtual 156, 3) := dk_182 0 156 (dk_at dksX7_copy_10 0 rfl rfl)
theorem dX7_copy_241 : decode cX7_copy 241 = .ok (.ifCond .ne 6, 3) := dk_154 0 6 (dk_at dksX7_copy_10 3 rfl rfl)
theorem dX7_copy_244 : decode cX7_copy 244 = .ok (.bipush (-14), 2) := dk_16 242 (dk_at dksX7_copy_10 6 rfl rfl)
theorem dX7_copy_246 : decode cX7_copy 246 = .ok (.ireturn, 1) := dk_172 (dk_at dksX7_copy_10 8 rfl rfl)
theorem dX7_copy_247 : decode cX7_copy 247 = .ok (.aload_n 0, 1) := dk_42 (dk_at dksX7_copy_10 9 rfl rfl)
theorem dX7_copy_248 : decode cX7_copy 248 = .ok (.getfield 97, 3) := dk_180 0 97 (dk_at dksX7_copy_10 10 rfl rfl)
theorem dX7_copy_251 : decode cX7_copy 251 = .ok (.bipush 20, 2) := dk_16 20 (dk_at dksX7_copy_10 13 rfl rfl)
theorem dX7_copy_253 : decode cX7_copy 253 = .ok (.iload_n 3, 1) := dk_29 (dk_at dksX7_copy_10 15 rfl rfl)
theorem dX7_copy_254 : decode cX7_copy 254 = .ok (.imul, 1) := dk_104 (dk_at dksX7_copy_10 16 rfl rfl)
theorem dX7_copy_255 : decode cX7_copy 255 = .ok (.iload 4, 2) := dk_21 4 (dk_at dksX7_copy_10 17 rfl rfl)
theorem dX7_copy_257 : decode cX7_copy 257 = .ok (.iadd, 1) := dk_96 (dk_at dksX7_copy_10 19 rfl rfl)
theorem dX7_copy_258 : decode cX7_copy 258 = .ok (.iload 8, 2) := dk_21 8 (dk_at dksX7_copy_10 20 rfl rfl)
theorem dX7_copy_260 : decode cX7_copy 260 = .ok (.iadd, 1) := dk_96 (dk_at dksX7_copy_10 22 rfl rfl)
theorem dX7_copy_261 : decode cX7_copy 261 = .ok (.aload_n 0, 1) := dk_42 (dk_at dksX7_copy_10 23 rfl rfl)
theorem dX7_copy_262 : decode cX7_copy 262 = .ok (.getfield 115, 3) := dk_180 0 115 (dk_at dksX7_copy_11 0 rfl rfl)
theorem dX7_copy_265 : decode cX7_copy 265 = .ok (.iload 8, 2) := dk_21 8 (dk_at dksX7_copy_11 3 rfl rfl)
theorem dX7_copy_267 : decode cX7_copy 267 = .ok (.laload, 1) := dk_47 (dk_at dksX7_copy_11 5 rfl rfl)
theorem dX7_copy_268 : decode cX7_copy 268 = .ok (.lastore, 1) := dk_80 (dk_at dksX7_copy_11 6 rfl rfl)
theorem dX7_copy_269 : decode cX7_copy 269 = .ok (.iinc 8 1, 3) := dk_132 8 1 (dk_at dksX7_copy_11 7 rfl rfl)
theorem dX7_copy_272 : decode cX7_copy 272 = .ok (.goto (-76), 3) := dk_167 255 180 (dk_at dksX7_copy_11 10 rfl rfl)
theorem dX7_copy_275 : decode cX7_copy 275 = .ok (.iconst 1, 1) := dk_4 (dk_at dksX7_copy_11 13 rfl rfl)
theorem dX7_copy_276 : decode cX7_copy 276 = .ok (.ireturn, 1) := dk_172 (dk_at dksX7_copy_11 14 rfl rfl)
abbrev cX7_body : ByteArray := prog_30_method_96_code
def yX7_body : MethodName := ⟨RX7, "body", "(IIII)I"⟩
def dkwX7_body_6 : List UInt8 := [180, 0, 72, 27, 28, 79, 42, 180, 0, 75, 27, 29, 79, 42, 180, 0, 78, 27, 21, 4, 79, 4, 172]
abbrev dktX7_body_6 : List UInt8 := dkwX7_body_6 ++ []
def dkwX7_body_5 : List UInt8 := [27, 21, 5, 79, 21, 6, 153, 0, 8, 16, 254, 167, 0, 4, 2, 172, 42, 180, 0, 69, 27, 4, 84, 42]
abbrev dktX7_body_5 : List UInt8 := dkwX7_body_5 ++ dktX7_body_6
def dkwX7_body_4 : List UInt8 := [167, 0, 4, 3, 54, 6, 21, 6, 153, 0, 12, 42, 180, 0, 69, 27, 51, 153, 0, 23, 42, 180, 0, 81]
abbrev dktX7_body_4 : List UInt8 := dkwX7_body_4 ++ dktX7_body_5
def dkwX7_body_3 : List UInt8 := [2, 159, 0, 20, 42, 42, 180, 1, 129, 42, 180, 0, 57, 27, 46, 182, 0, 176, 153, 0, 7, 4]
abbrev dktX7_body_3 : List UInt8 := dkwX7_body_3 ++ dktX7_body_4
def dkwX7_body_2 : List UInt8 := [182, 1, 147, 54, 6, 21, 6, 153, 0, 42, 42, 180, 1, 129, 2, 159, 0, 30, 42, 180, 0, 57, 27, 46]
abbrev dktX7_body_2 : List UInt8 := dkwX7_body_2 ++ dktX7_body_3
def dkwX7_body_1 : List UInt8 := [184, 0, 127, 154, 0, 5, 2, 172, 42, 180, 0, 81, 27, 46, 54, 5, 42, 27, 28, 29, 21, 4]
abbrev dktX7_body_1 : List UInt8 := dkwX7_body_1 ++ dktX7_body_2
def dkwX7_body_0 : List UInt8 := [42, 27, 182, 0, 250, 153, 0, 25, 42, 27, 16, 16, 182, 0, 221, 154, 0, 15, 28, 133, 9, 20, 1, 89]
abbrev dktX7_body_0 : List UInt8 := dkwX7_body_0 ++ dktX7_body_1
theorem dksX7_body_0 : cX7_body.data.toList.drop 0 = dktX7_body_0 := by decide +kernel
theorem dksX7_body_1 : cX7_body.data.toList.drop 24 = dktX7_body_1 := dk_seg dksX7_body_0 24 rfl rfl
theorem dksX7_body_2 : cX7_body.data.toList.drop 46 = dktX7_body_2 := dk_seg dksX7_body_1 22 rfl rfl
theorem dksX7_body_3 : cX7_body.data.toList.drop 70 = dktX7_body_3 := dk_seg dksX7_body_2 24 rfl rfl
theorem dksX7_body_4 : cX7_body.data.toList.drop 92 = dktX7_body_4 := dk_seg dksX7_body_3 22 rfl rfl
theorem dksX7_body_5 : cX7_body.data.toList.drop 116 = dktX7_body_5 := dk_seg dksX7_body_4 24 rfl rfl
theorem dksX7_body_6 : cX7_body.data.toList.drop 140 = dktX7_body_6 := dk_seg dksX7_body_5 24 rfl rfl
theorem dX7_body_0 : decode cX7_body 0 = .ok (.aload_n 0, 1) := dk_42 (dk_at dksX7_body_0 0 rfl rfl)
theorem dX7_body_1 : decode cX7_body 1 = .ok (.iload_n 1, 1) := dk_27 (dk_at dksX7_body_0 1 rfl rfl)
theorem dX7_body_2 : decode cX7_body 2 = .ok (.invokevirtual 250, 3) := dk_182 0 250 (dk_at dksX7_body_0 2 rfl rfl)
theorem dX7_body_5 : decode cX7_body 5 = .ok (.ifCond .eq 25, 3) := dk_153 0 25 (dk_at dksX7_body_0 5 rfl rfl)
theorem dX7_body_8 : decode cX7_body 8 = .ok (.aload_n 0, 1) := dk_42 (dk_at dksX7_body_0 8 rfl rfl)
theorem dX7_body_9 : decode cX7_body 9 = .ok (.iload_n 1, 1) := dk_27 (dk_at dksX7_body_0 9 rfl rfl)
theorem dX7_body_10 : decode cX7_body 10 = .ok (.bipush 16, 2) := dk_16 16 (dk_at dksX7_body_0 10 rfl rfl)
theorem dX7_body_12 : decode cX7_body 12 = .ok (.invokevirtual 221, 3) := dk_182 0 221 (dk_at dksX7_body_0 12 rfl rfl)
theorem dX7_body_15 : decode cX7_body 15 = .ok (.ifCond .ne 15, 3) := dk_154 0 15 (dk_at dksX7_body_0 15 rfl rfl)
theorem dX7_body_18 : decode cX7_body 18 = .ok (.iload_n 2, 1) := dk_28 (dk_at dksX7_body_0 18 rfl rfl)
theorem dX7_body_19 : decode cX7_body 19 = .ok (.i2l, 1) := dk_133 (dk_at dksX7_body_0 19 rfl rfl)
theorem dX7_body_20 : decode cX7_body 20 = .ok (.lconst 0, 1) := dk_9 (dk_at dksX7_body_0 20 rfl rfl)
theorem dX7_body_21 : decode cX7_body 21 = .ok (.ldc2_w 345, 3) := dk_20 1 89 (dk_at dksX7_body_0 21 rfl rfl)
theorem dX7_body_24 : decode cX7_body 24 = .ok (.invokestatic 127, 3) := dk_184 0 127 (dk_at dksX7_body_1 0 rfl rfl)
theorem dX7_body_27 : decode cX7_body 27 = .ok (.ifCond .ne 5, 3) := dk_154 0 5 (dk_at dksX7_body_1 3 rfl rfl)
theorem dX7_body_30 : decode cX7_body 30 = .ok (.iconst (-1), 1) := dk_2 (dk_at dksX7_body_1 6 rfl rfl)
theorem dX7_body_31 : decode cX7_body 31 = .ok (.ireturn, 1) := dk_172 (dk_at dksX7_body_1 7 rfl rfl)
theorem dX7_body_32 : decode cX7_body 32 = .ok (.aload_n 0, 1) := dk_42 (dk_at dksX7_body_1 8 rfl rfl)
theorem dX7_body_33 : decode cX7_body 33 = .ok (.getfield 81, 3) := dk_180 0 81 (dk_at dksX7_body_1 9 rfl rfl)
theorem dX7_body_36 : decode cX7_body 36 = .ok (.iload_n 1, 1) := dk_27 (dk_at dksX7_body_1 12 rfl rfl)
theorem dX7_body_37 : decode cX7_body 37 = .ok (.iaload, 1) := dk_46 (dk_at dksX7_body_1 13 rfl rfl)
theorem dX7_body_38 : decode cX7_body 38 = .ok (.istore 5, 2) := dk_54 5 (dk_at dksX7_body_1 14 rfl rfl)
theorem dX7_body_40 : decode cX7_body 40 = .ok (.aload_n 0, 1) := dk_42 (dk_at dksX7_body_1 16 rfl rfl)
theorem dX7_body_41 : decode cX7_body 41 = .ok (.iload_n 1, 1) := dk_27 (dk_at dksX7_body_1 17 rfl rfl)
theorem dX7_body_42 : decode cX7_body 42 = .ok (.iload_n 2, 1) := dk_28 (dk_at dksX7_body_1 18 rfl rfl)
theorem dX7_body_43 : decode cX7_body 43 = .ok (.iload_n 3, 1) := dk_29 (dk_at dksX7_body_1 19 rfl rfl)
theorem dX7_body_44 : decode cX7_body 44 = .ok (.iload 4, 2) := dk_21 4 (dk_at dksX7_body_1 20 rfl rfl)
theorem dX7_body_46 : decode cX7_body 46 = .ok (.invokevirtual 403, 3) := dk_182 1 147 (dk_at dksX7_body_2 0 rfl rfl)
theorem dX7_body_49 : decode cX7_body 49 = .ok (.istore 6, 2) := dk_54 6 (dk_at dksX7_body_2 3 rfl rfl)
theorem dX7_body_51 : decode cX7_body 51 = .ok (.iload 6, 2) := dk_21 6 (dk_at dksX7_body_2 5 rfl rfl)
theorem dX7_body_53 : decode cX7_body 53 = .ok (.ifCond .eq 42, 3) := dk_153 0 42 (dk_at dksX7_body_2 7 rfl rfl)
theorem dX7_body_56 : decode cX7_body 56 = .ok (.aload_n 0, 1) := dk_42 (dk_at dksX7_body_2 10 rfl rfl)
theorem dX7_body_57 : decode cX7_body 57 = .ok (.getfield 385, 3) := dk_180 1 129 (dk_at dksX7_body_2 11 rfl rfl)
theorem dX7_body_60 : decode cX7_body 60 = .ok (.iconst (-1), 1) := dk_2 (dk_at dksX7_body_2 14 rfl rfl)
theorem dX7_body_61 : decode cX7_body 61 = .ok (.if_icmp .eq 30, 3) := dk_159 0 30 (dk_at dksX7_body_2 15 rfl rfl)
theorem dX7_body_64 : decode cX7_body 64 = .ok (.aload_n 0, 1) := dk_42 (dk_at dksX7_body_2 18 rfl rfl)
theorem dX7_body_65 : decode cX7_body 65 = .ok (.getfield 57, 3) := dk_180 0 57 (dk_at dksX7_body_2 19 rfl rfl)
theorem dX7_body_68 : decode cX7_body 68 = .ok (.iload_n 1, 1) := dk_27 (dk_at dksX7_body_2 22 rfl rfl)
theorem dX7_body_69 : decode cX7_body 69 = .ok (.iaload, 1) := dk_46 (dk_at dksX7_body_2 23 rfl rfl)
theorem dX7_body_70 : decode cX7_body 70 = .ok (.iconst (-1), 1) := dk_2 (dk_at dksX7_body_3 0 rfl rfl)
theorem dX7_body_71 : decode cX7_body 71 = .ok (.if_icmp .eq 20, 3) := dk_159 0 20 (dk_at dksX7_body_3 1 rfl rfl)
theorem dX7_body_74 : decode cX7_body 74 = .ok (.aload_n 0, 1) := dk_42 (dk_at dksX7_body_3 4 rfl rfl)
theorem dX7_body_75 : decode cX7_body 75 = .ok (.aload_n 0, 1) := dk_42 (dk_at dksX7_body_3 5 rfl rfl)
theorem dX7_body_76 : decode cX7_body 76 = .ok (.getfield 385, 3) := dk_180 1 129 (dk_at dksX7_body_3 6 rfl rfl)
theorem dX7_body_79 : decode cX7_body 79 = .ok (.aload_n 0, 1) := dk_42 (dk_at dksX7_body_3 9 rfl rfl)
theorem dX7_body_80 : decode cX7_body 80 = .ok (.getfield 57, 3) := dk_180 0 57 (dk_at dksX7_body_3 10 rfl rfl)
theorem dX7_body_83 : decode cX7_body 83 = .ok (.iload_n 1, 1) := dk_27 (dk_at dksX7_body_3 13 rfl rfl)
theorem dX7_body_84 : decode cX7_body 84 = .ok (.iaload, 1) := dk_46 (dk_at dksX7_body_3 14 rfl rfl)
theorem dX7_body_85 : decode cX7_body 85 = .ok (.invokevirtual 176, 3) := dk_182 0 176 (dk_at dksX7_body_3 15 rfl rfl)
theorem dX7_body_88 : decode cX7_body 88 = .ok (.ifCond .eq 7, 3) := dk_153 0 7 (dk_at dksX7_body_3 18 rfl rfl)
theorem dX7_body_91 : decode cX7_body 91 = .ok (.iconst 1, 1) := dk_4 (dk_at dksX7_body_3 21 rfl rfl)
theorem dX7_body_92 : decode cX7_body 92 = .ok (.goto 4, 3) := dk_167 0 4 (dk_at dksX7_body_4 0 rfl rfl)
theorem dX7_body_95 : decode cX7_body 95 = .ok (.iconst 0, 1) := dk_3 (dk_at dksX7_body_4 3 rfl rfl)
theorem dX7_body_96 : decode cX7_body 96 = .ok (.istore 6, 2) := dk_54 6 (dk_at dksX7_body_4 4 rfl rfl)
theorem dX7_body_98 : decode cX7_body 98 = .ok (.iload 6, 2) := dk_21 6 (dk_at dksX7_body_4 6 rfl rfl)
theorem dX7_body_100 : decode cX7_body 100 = .ok (.ifCond .eq 12, 3) := dk_153 0 12 (dk_at dksX7_body_4 8 rfl rfl)
theorem dX7_body_103 : decode cX7_body 103 = .ok (.aload_n 0, 1) := dk_42 (dk_at dksX7_body_4 11 rfl rfl)
theorem dX7_body_104 : decode cX7_body 104 = .ok (.getfield 69, 3) := dk_180 0 69 (dk_at dksX7_body_4 12 rfl rfl)
theorem dX7_body_107 : decode cX7_body 107 = .ok (.iload_n 1, 1) := dk_27 (dk_at dksX7_body_4 15 rfl rfl)
theorem dX7_body_108 : decode cX7_body 108 = .ok (.baload, 1) := dk_51 (dk_at dksX7_body_4 16 rfl rfl)
theorem dX7_body_109 : decode cX7_body 109 = .ok (.ifCond .eq 23, 3) := dk_153 0 23 (dk_at dksX7_body_4 17 rfl rfl)
theorem dX7_body_112 : decode cX7_body 112 = .ok (.aload_n 0, 1) := dk_42 (dk_at dksX7_body_4 20 rfl rfl)
theorem dX7_body_113 : decode cX7_body 113 = .ok (.getfield 81, 3) := dk_180 0 81 (dk_at dksX7_body_4 21 rfl rfl)
theorem dX7_body_116 : decode cX7_body 116 = .ok (.iload_n 1, 1) := dk_27 (dk_at dksX7_body_5 0 rfl rfl)
theorem dX7_body_117 : decode cX7_body 117 = .ok (.iload 5, 2) := dk_21 5 (dk_at dksX7_body_5 1 rfl rfl)
theorem dX7_body_119 : decode cX7_body 119 = .ok (.iastore, 1) := dk_79 (dk_at dksX7_body_5 3 rfl rfl)
theorem dX7_body_120 : decode cX7_body 120 = .ok (.iload 6, 2) := dk_21 6 (dk_at dksX7_body_5 4 rfl rfl)
theorem dX7_body_122 : decode cX7_body 122 = .ok (.ifCond .eq 8, 3) := dk_153 0 8 (dk_at dksX7_body_5 6 rfl rfl)
theorem dX7_body_125 : decode cX7_body 125 = .ok (.bipush (-2), 2) := dk_16 254 (dk_at dksX7_body_5 9 rfl rfl)
theorem dX7_body_127 : decode cX7_body 127 = .ok (.goto 4, 3) := dk_167 0 4 (dk_at dksX7_body_5 11 rfl rfl)
theorem dX7_body_130 : decode cX7_body 130 = .ok (.iconst (-1), 1) := dk_2 (dk_at dksX7_body_5 14 rfl rfl)
theorem dX7_body_131 : decode cX7_body 131 = .ok (.ireturn, 1) := dk_172 (dk_at dksX7_body_5 15 rfl rfl)
theorem dX7_body_132 : decode cX7_body 132 = .ok (.aload_n 0, 1) := dk_42 (dk_at dksX7_body_5 16 rfl rfl)
theorem dX7_body_133 : decode cX7_body 133 = .ok (.getfield 69, 3) := dk_180 0 69 (dk_at dksX7_body_5 17 rfl rfl)
theorem dX7_body_136 : decode cX7_body 136 = .ok (.iload_n 1, 1) := dk_27 (dk_at dksX7_body_5 20 rfl rfl)
theorem dX7_body_137 : decode cX7_body 137 = .ok (.iconst 1, 1) := dk_4 (dk_at dksX7_body_5 21 rfl rfl)
theorem dX7_body_138 : decode cX7_body 138 = .ok (.bastore, 1) := dk_84 (dk_at dksX7_body_5 22 rfl rfl)
theorem dX7_body_139 : decode cX7_body 139 = .ok (.aload_n 0, 1) := dk_42 (dk_at dksX7_body_5 23 rfl rfl)
theorem dX7_body_140 : decode cX7_body 140 = .ok (.getfield 72, 3) := dk_180 0 72 (dk_at dksX7_body_6 0 rfl rfl)
theorem dX7_body_143 : decode cX7_body 143 = .ok (.iload_n 1, 1) := dk_27 (dk_at dksX7_body_6 3 rfl rfl)
theorem dX7_body_144 : decode cX7_body 144 = .ok (.iload_n 2, 1) := dk_28 (dk_at dksX7_body_6 4 rfl rfl)
theorem dX7_body_145 : decode cX7_body 145 = .ok (.iastore, 1) := dk_79 (dk_at dksX7_body_6 5 rfl rfl)
theorem dX7_body_146 : decode cX7_body 146 = .ok (.aload_n 0, 1) := dk_42 (dk_at dksX7_body_6 6 rfl rfl)
theorem dX7_body_147 : decode cX7_body 147 = .ok (.getfield 75, 3) := dk_180 0 75 (dk_at dksX7_body_6 7 rfl rfl)
theorem dX7_body_150 : decode cX7_body 150 = .ok (.iload_n 1, 1) := dk_27 (dk_at dksX7_body_6 10 rfl rfl)
theorem dX7_body_151 : decode cX7_body 151 = .ok (.iload_n 3, 1) := dk_29 (dk_at dksX7_body_6 11 rfl rfl)
theorem dX7_body_152 : decode cX7_body 152 = .ok (.iastore, 1) := dk_79 (dk_at dksX7_body_6 12 rfl rfl)
theorem dX7_body_153 : decode cX7_body 153 = .ok (.aload_n 0, 1) := dk_42 (dk_at dksX7_body_6 13 rfl rfl)
theorem dX7_body_154 : decode cX7_body 154 = .ok (.getfield 78, 3) := dk_180 0 78 (dk_at dksX7_body_6 14 rfl rfl)
theorem dX7_body_157 : decode cX7_body 157 = .ok (.iload_n 1, 1) := dk_27 (dk_at dksX7_body_6 17 rfl rfl)
theorem dX7_body_158 : decode cX7_body 158 = .ok (.iload 4, 2) := dk_21 4 (dk_at dksX7_body_6 18 rfl rfl)
theorem dX7_body_160 : decode cX7_body 160 = .ok (.iastore, 1) := dk_79 (dk_at dksX7_body_6 20 rfl rfl)
theorem dX7_body_161 : decode cX7_body 161 = .ok (.iconst 1, 1) := dk_4 (dk_at dksX7_body_6 21 rfl rfl)
theorem dX7_body_162 : decode cX7_body 162 = .ok (.ireturn, 1) := dk_172 (dk_at dksX7_body_6 22 rfl rfl)
abbrev cX7_mayBody : ByteArray := prog_30_method_93_code
def yX7_mayBody : MethodName := ⟨RX7, "mayBody", "(IIII)Z"⟩
def dkwX7_mayBody_17 : List UInt8 := [184, 0, 153, 153, 0, 7, 4, 167, 0, 4, 3, 172]
abbrev dktX7_mayBody_17 : List UInt8 := dkwX7_mayBody_17 ++ []
def dkwX7_mayBody_16 : List UInt8 := [27, 104, 21, 4, 96, 46, 16, 8, 162, 0, 25, 42, 180, 0, 63, 6, 27, 104, 21, 4, 96, 46, 7]
abbrev dktX7_mayBody_16 : List UInt8 := dkwX7_mayBody_16 ++ dktX7_mayBody_17
def dkwX7_mayBody_15 : List UInt8 := [6, 27, 104, 29, 96, 46, 46, 167, 0, 4, 2, 181, 1, 129, 21, 6, 153, 0, 41, 42, 180, 0, 63, 6]
abbrev dktX7_mayBody_15 : List UInt8 := dkwX7_mayBody_15 ++ dktX7_mayBody_16
def dkwX7_mayBody_14 : List UInt8 := [160, 0, 7, 4, 167, 0, 4, 3, 54, 6, 42, 21, 6, 153, 0, 21, 42, 180, 0, 23, 42, 180, 0, 63]
abbrev dktX7_mayBody_14 : List UInt8 := dkwX7_mayBody_14 ++ dktX7_mayBody_15
def dkwX7_mayBody_13 : List UInt8 := [182, 1, 126, 153, 0, 26, 42, 180, 0, 13, 42, 180, 0, 63, 6, 27, 104, 29, 96, 46, 46, 7]
abbrev dktX7_mayBody_13 : List UInt8 := dkwX7_mayBody_13 ++ dktX7_mayBody_14
def dkwX7_mayBody_12 : List UInt8 := [153, 0, 7, 4, 167, 0, 4, 3, 172, 42, 27, 29, 182, 1, 126, 153, 0, 36, 42, 27, 21, 4]
abbrev dktX7_mayBody_12 : List UInt8 := dkwX7_mayBody_12 ++ dktX7_mayBody_13
def dkwX7_mayBody_11 : List UInt8 := [167, 0, 4, 2, 181, 1, 129, 21, 5, 172, 42, 27, 7, 182, 0, 221, 154, 0, 15, 42, 27, 182, 1, 144]
abbrev dktX7_mayBody_11 : List UInt8 := dkwX7_mayBody_11 ++ dktX7_mayBody_12
def dkwX7_mayBody_10 : List UInt8 := [180, 0, 63, 6, 27, 104, 29, 96, 46, 42, 180, 0, 63, 6, 27, 104, 21, 4, 96, 46, 184, 1, 141]
abbrev dktX7_mayBody_10 : List UInt8 := dkwX7_mayBody_10 ++ dktX7_mayBody_11
def dkwX7_mayBody_9 : List UInt8 := [42, 27, 21, 4, 182, 1, 138, 153, 0, 7, 4, 167, 0, 4, 3, 54, 5, 42, 21, 5, 153, 0, 30, 42]
abbrev dktX7_mayBody_9 : List UInt8 := dkwX7_mayBody_9 ++ dktX7_mayBody_10
def dkwX7_mayBody_8 : List UInt8 := [10, 20, 1, 89, 184, 0, 127, 172, 42, 27, 29, 182, 1, 135, 172, 42, 27, 29, 182, 1, 138, 153, 0, 17]
abbrev dktX7_mayBody_8 : List UInt8 := dkwX7_mayBody_8 ++ dktX7_mayBody_9
def dkwX7_mayBody_7 : List UInt8 := [21, 4, 96, 46, 42, 180, 0, 57, 29, 46, 182, 0, 176, 153, 0, 7, 4, 167, 0, 4, 3, 172, 29, 133]
abbrev dktX7_mayBody_7 : List UInt8 := dkwX7_mayBody_7 ++ dktX7_mayBody_8
def dkwX7_mayBody_6 : List UInt8 := [182, 1, 126, 153, 0, 40, 42, 27, 29, 182, 1, 132, 153, 0, 31, 42, 42, 180, 0, 63, 6, 27, 104]
abbrev dktX7_mayBody_6 : List UInt8 := dkwX7_mayBody_6 ++ dktX7_mayBody_7
def dkwX7_mayBody_5 : List UInt8 := [182, 1, 132, 153, 0, 7, 4, 167, 0, 4, 3, 172, 42, 29, 182, 1, 99, 153, 0, 50, 42, 27, 21, 4]
abbrev dktX7_mayBody_5 : List UInt8 := dkwX7_mayBody_5 ++ dktX7_mayBody_6
def dkwX7_mayBody_4 : List UInt8 := [180, 0, 57, 29, 46, 167, 0, 4, 2, 181, 1, 129, 42, 29, 182, 1, 99, 153, 0, 16, 42, 27, 29]
abbrev dktX7_mayBody_4 : List UInt8 := dkwX7_mayBody_4 ++ dktX7_mayBody_5
def dkwX7_mayBody_3 : List UInt8 := [167, 0, 4, 2, 181, 1, 129, 42, 27, 29, 182, 1, 126, 172, 42, 42, 29, 182, 1, 99, 153, 0, 12, 42]
abbrev dktX7_mayBody_3 : List UInt8 := dkwX7_mayBody_3 ++ dktX7_mayBody_4
def dkwX7_mayBody_2 : List UInt8 := [4, 172, 42, 42, 27, 29, 182, 1, 126, 153, 0, 16, 42, 180, 0, 63, 6, 27, 104, 29, 96, 46]
abbrev dktX7_mayBody_2 : List UInt8 := dkwX7_mayBody_2 ++ dktX7_mayBody_3
def dkwX7_mayBody_1 : List UInt8 := [170, 0, 0, 0, 1, 34, 0, 0, 0, 0, 0, 0, 0, 7, 0, 0, 0, 46, 0, 0, 0, 48, 0, 0, 0, 82, 0, 0, 0, 127, 0, 0, 0, 184, 0, 0, 0, 194, 0, 0, 0, 201, 0, 0, 1, 11]
abbrev dktX7_mayBody_1 : List UInt8 := dkwX7_mayBody_1 ++ dktX7_mayBody_2
def dkwX7_mayBody_0 : List UInt8 := [42, 2, 181, 1, 129, 28]
abbrev dktX7_mayBody_0 : List UInt8 := dkwX7_mayBody_0 ++ dktX7_mayBody_1
theorem dksX7_mayBody_0 : cX7_mayBody.data.toList.drop 0 = dktX7_mayBody_0 := by decide +kernel
theorem dksX7_mayBody_1 : cX7_mayBody.data.toList.drop 6 = dktX7_mayBody_1 := dk_seg dksX7_mayBody_0 6 rfl rfl
theorem dksX7_mayBody_2 : cX7_mayBody.data.toList.drop 52 = dktX7_mayBody_2 := dk_seg dksX7_mayBody_1 46 rfl rfl
theorem dksX7_mayBody_3 : cX7_mayBody.data.toList.drop 74 = dktX7_mayBody_3 := dk_seg dksX7_mayBody_2 22 rfl rfl
theorem dksX7_mayBody_4 : cX7_mayBody.data.toList.drop 98 = dktX7_mayBody_4 := dk_seg dksX7_mayBody_3 24 rfl rfl
theorem dksX7_mayBody_5 : cX7_mayBody.data.toList.drop 121 = dktX7_mayBody_5 := dk_seg dksX7_mayBody_4 23 rfl rfl
theorem dksX7_mayBody_6 : cX7_mayBody.data.toList.drop 145 = dktX7_mayBody_6 := dk_seg dksX7_mayBody_5 24 rfl rfl
theorem dksX7_mayBody_7 : cX7_mayBody.data.toList.drop 168 = dktX7_mayBody_7 := dk_seg dksX7_mayBody_6 23 rfl rfl
theorem dksX7_mayBody_8 : cX7_mayBody.data.toList.drop 192 = dktX7_mayBody_8 := dk_seg dksX7_mayBody_7 24 rfl rfl
theorem dksX7_mayBody_9 : cX7_mayBody.data.toList.drop 216 = dktX7_mayBody_9 := dk_seg dksX7_mayBody_8 24 rfl rfl
theorem dksX7_mayBody_10 : cX7_mayBody.data.toList.drop 240 = dktX7_mayBody_10 := dk_seg dksX7_mayBody_9 24 rfl rfl
theorem dksX7_mayBody_11 : cX7_mayBody.data.toList.drop 263 = dktX7_mayBody_11 := dk_seg dksX7_mayBody_10 23 rfl rfl
theorem dksX7_mayBody_12 : cX7_mayBody.data.toList.drop 287 = dktX7_mayBody_12 := dk_seg dksX7_mayBody_11 24 rfl rfl
theorem dksX7_mayBody_13 : cX7_mayBody.data.toList.drop 309 = dktX7_mayBody_13 := dk_seg dksX7_mayBody_12 22 rfl rfl
theorem dksX7_mayBody_14 : cX7_mayBody.data.toList.drop 331 = dktX7_mayBody_14 := dk_seg dksX7_mayBody_13 22 rfl rfl
theorem dksX7_mayBody_15 : cX7_mayBody.data.toList.drop 355 = dktX7_mayBody_15 := dk_seg dksX7_mayBody_14 24 rfl rfl
theorem dksX7_mayBody_16 : cX7_mayBody.data.toList.drop 379 = dktX7_mayBody_16 := dk_seg dksX7_mayBody_15 24 rfl rfl
theorem dksX7_mayBody_17 : cX7_mayBody.data.toList.drop 402 = dktX7_mayBody_17 := dk_seg dksX7_mayBody_16 23 rfl rfl
theorem dX7_mayBody_0 : decode cX7_mayBody 0 = .ok (.aload_n 0, 1) := dk_42 (dk_at dksX7_mayBody_0 0 rfl rfl)
theorem dX7_mayBody_1 : decode cX7_mayBody 1 = .ok (.iconst (-1), 1) := dk_2 (dk_at dksX7_mayBody_0 1 rfl rfl)
theorem dX7_mayBody_2 : decode cX7_mayBody 2 = .ok (.putfield 385, 3) := dk_181 1 129 (dk_at dksX7_mayBody_0 2 rfl rfl)
theorem dX7_mayBody_5 : decode cX7_mayBody 5 = .ok (.iload_n 2, 1) := dk_28 (dk_at dksX7_mayBody_0 5 rfl rfl)
theorem dX7_mayBody_6 : decode cX7_mayBody 6 = .ok (.tableswitch 290 0 7 #[46, 48, 82, 127, 184, 194, 201, 267], 46) := by decide +kernel
theorem dX7_mayBody_52 : decode cX7_mayBody 52 = .ok (.iconst 1, 1) := dk_4 (dk_at dksX7_mayBody_2 0 rfl rfl)
theorem dX7_mayBody_53 : decode cX7_mayBody 53 = .ok (.ireturn, 1) := dk_172 (dk_at dksX7_mayBody_2 1 rfl rfl)
theorem dX7_mayBody_54 : decode cX7_mayBody 54 = .ok (.aload_n 0, 1) := dk_42 (dk_at dksX7_mayBody_2 2 rfl rfl)
theorem dX7_mayBody_55 : decode cX7_mayBody 55 = .ok (.aload_n 0, 1) := dk_42 (dk_at dksX7_mayBody_2 3 rfl rfl)
theorem dX7_mayBody_56 : decode cX7_mayBody 56 = .ok (.iload_n 1, 1) := dk_27 (dk_at dksX7_mayBody_2 4 rfl rfl)
theorem dX7_mayBody_57 : decode cX7_mayBody 57 = .ok (.iload_n 3, 1) := dk_29 (dk_at dksX7_mayBody_2 5 rfl rfl)
theorem dX7_mayBody_58 : decode cX7_mayBody 58 = .ok (.invokevirtual 382, 3) := dk_182 1 126 (dk_at dksX7_mayBody_2 6 rfl rfl)
theorem dX7_mayBody_61 : decode cX7_mayBody 61 = .ok (.ifCond .eq 16, 3) := dk_153 0 16 (dk_at dksX7_mayBody_2 9 rfl rfl)
theorem dX7_mayBody_64 : decode cX7_mayBody 64 = .ok (.aload_n 0, 1) := dk_42 (dk_at dksX7_mayBody_2 12 rfl rfl)
theorem dX7_mayBody_65 : decode cX7_mayBody 65 = .ok (.getfield 63, 3) := dk_180 0 63 (dk_at dksX7_mayBody_2 13 rfl rfl)
theorem dX7_mayBody_68 : decode cX7_mayBody 68 = .ok (.iconst 3, 1) := dk_6 (dk_at dksX7_mayBody_2 16 rfl rfl)
theorem dX7_mayBody_69 : decode cX7_mayBody 69 = .ok (.iload_n 1, 1) := dk_27 (dk_at dksX7_mayBody_2 17 rfl rfl)
theorem dX7_mayBody_70 : decode cX7_mayBody 70 = .ok (.imul, 1) := dk_104 (dk_at dksX7_mayBody_2 18 rfl rfl)
theorem dX7_mayBody_71 : decode cX7_mayBody 71 = .ok (.iload_n 3, 1) := dk_29 (dk_at dksX7_mayBody_2 19 rfl rfl)
theorem dX7_mayBody_72 : decode cX7_mayBody 72 = .ok (.iadd, 1) := dk_96 (dk_at dksX7_mayBody_2 20 rfl rfl)
theorem dX7_mayBody_73 : decode cX7_mayBody 73 = .ok (.iaload, 1) := dk_46 (dk_at dksX7_mayBody_2 21 rfl rfl)
theorem dX7_mayBody_74 : decode cX7_mayBody 74 = .ok (.goto 4, 3) := dk_167 0 4 (dk_at dksX7_mayBody_3 0 rfl rfl)
theorem dX7_mayBody_77 : decode cX7_mayBody 77 = .ok (.iconst (-1), 1) := dk_2 (dk_at dksX7_mayBody_3 3 rfl rfl)
theorem dX7_mayBody_78 : decode cX7_mayBody 78 = .ok (.putfield 385, 3) := dk_181 1 129 (dk_at dksX7_mayBody_3 4 rfl rfl)
theorem dX7_mayBody_81 : decode cX7_mayBody 81 = .ok (.aload_n 0, 1) := dk_42 (dk_at dksX7_mayBody_3 7 rfl rfl)
theorem dX7_mayBody_82 : decode cX7_mayBody 82 = .ok (.iload_n 1, 1) := dk_27 (dk_at dksX7_mayBody_3 8 rfl rfl)
theorem dX7_mayBody_83 : decode cX7_mayBody 83 = .ok (.iload_n 3, 1) := dk_29 (dk_at dksX7_mayBody_3 9 rfl rfl)
theorem dX7_mayBody_84 : decode cX7_mayBody 84 = .ok (.invokevirtual 382, 3) := dk_182 1 126 (dk_at dksX7_mayBody_3 10 rfl rfl)
theorem dX7_mayBody_87 : decode cX7_mayBody 87 = .ok (.ireturn, 1) := dk_172 (dk_at dksX7_mayBody_3 13 rfl rfl)
theorem dX7_mayBody_88 : decode cX7_mayBody 88 = .ok (.aload_n 0, 1) := dk_42 (dk_at dksX7_mayBody_3 14 rfl rfl)
theorem dX7_mayBody_89 : decode cX7_mayBody 89 = .ok (.aload_n 0, 1) := dk_42 (dk_at dksX7_mayBody_3 15 rfl rfl)
theorem dX7_mayBody_90 : decode cX7_mayBody 90 = .ok (.iload_n 3, 1) := dk_29 (dk_at dksX7_mayBody_3 16 rfl rfl)
theorem dX7_mayBody_91 : decode cX7_mayBody 91 = .ok (.invokevirtual 355, 3) := dk_182 1 99 (dk_at dksX7_mayBody_3 17 rfl rfl)
theorem dX7_mayBody_94 : decode cX7_mayBody 94 = .ok (.ifCond .eq 12, 3) := dk_153 0 12 (dk_at dksX7_mayBody_3 20 rfl rfl)
theorem dX7_mayBody_97 : decode cX7_mayBody 97 = .ok (.aload_n 0, 1) := dk_42 (dk_at dksX7_mayBody_3 23 rfl rfl)
theorem dX7_mayBody_98 : decode cX7_mayBody 98 = .ok (.getfield 57, 3) := dk_180 0 57 (dk_at dksX7_mayBody_4 0 rfl rfl)
theorem dX7_mayBody_101 : decode cX7_mayBody 101 = .ok (.iload_n 3, 1) := dk_29 (dk_at dksX7_mayBody_4 3 rfl rfl)
theorem dX7_mayBody_102 : decode cX7_mayBody 102 = .ok (.iaload, 1) := dk_46 (dk_at dksX7_mayBody_4 4 rfl rfl)
theorem dX7_mayBody_103 : decode cX7_mayBody 103 = .ok (.goto 4, 3) := dk_167 0 4 (dk_at dksX7_mayBody_4 5 rfl rfl)
theorem dX7_mayBody_106 : decode cX7_mayBody 106 = .ok (.iconst (-1), 1) := dk_2 (dk_at dksX7_mayBody_4 8 rfl rfl)
theorem dX7_mayBody_107 : decode cX7_mayBody 107 = .ok (.putfield 385, 3) := dk_181 1 129 (dk_at dksX7_mayBody_4 9 rfl rfl)
theorem dX7_mayBody_110 : decode cX7_mayBody 110 = .ok (.aload_n 0, 1) := dk_42 (dk_at dksX7_mayBody_4 12 rfl rfl)
theorem dX7_mayBody_111 : decode cX7_mayBody 111 = .ok (.iload_n 3, 1) := dk_29 (dk_at dksX7_mayBody_4 13 rfl rfl)
theorem dX7_mayBody_112 : decode cX7_mayBody 112 = .ok (.invokevirtual 355, 3) := dk_182 1 99 (dk_at dksX7_mayBody_4 14 rfl rfl)
theorem dX7_mayBody_115 : decode cX7_mayBody 115 = .ok (.ifCond .eq 16, 3) := dk_153 0 16 (dk_at dksX7_mayBody_4 17 rfl rfl)
theorem dX7_mayBody_118 : decode cX7_mayBody 118 = .ok (.aload_n 0, 1) := dk_42 (dk_at dksX7_mayBody_4 20 rfl rfl)
theorem dX7_mayBody_119 : decode cX7_mayBody 119 = .ok (.iload_n 1, 1) := dk_27 (dk_at dksX7_mayBody_4 21 rfl rfl)
theorem dX7_mayBody_120 : decode cX7_mayBody 120 = .ok (.iload_n 3, 1) := dk_29 (dk_at dksX7_mayBody_4 22 rfl rfl)
theorem dX7_mayBody_121 : decode cX7_mayBody 121 = .ok (.invokevirtual 388, 3) := dk_182 1 132 (dk_at dksX7_mayBody_5 0 rfl rfl)
theorem dX7_mayBody_124 : decode cX7_mayBody 124 = .ok (.ifCond .eq 7, 3) := dk_153 0 7 (dk_at dksX7_mayBody_5 3 rfl rfl)
theorem dX7_mayBody_127 : decode cX7_mayBody 127 = .ok (.iconst 1, 1) := dk_4 (dk_at dksX7_mayBody_5 6 rfl rfl)
theorem dX7_mayBody_128 : decode cX7_mayBody 128 = .ok (.goto 4, 3) := dk_167 0 4 (dk_at dksX7_mayBody_5 7 rfl rfl)
theorem dX7_mayBody_131 : decode cX7_mayBody 131 = .ok (.iconst 0, 1) := dk_3 (dk_at dksX7_mayBody_5 10 rfl rfl)
theorem dX7_mayBody_132 : decode cX7_mayBody 132 = .ok (.ireturn, 1) := dk_172 (dk_at dksX7_mayBody_5 11 rfl rfl)
theorem dX7_mayBody_133 : decode cX7_mayBody 133 = .ok (.aload_n 0, 1) := dk_42 (dk_at dksX7_mayBody_5 12 rfl rfl)
theorem dX7_mayBody_134 : decode cX7_mayBody 134 = .ok (.iload_n 3, 1) := dk_29 (dk_at dksX7_mayBody_5 13 rfl rfl)
theorem dX7_mayBody_135 : decode cX7_mayBody 135 = .ok (.invokevirtual 355, 3) := dk_182 1 99 (dk_at dksX7_mayBody_5 14 rfl rfl)
theorem dX7_mayBody_138 : decode cX7_mayBody 138 = .ok (.ifCond .eq 50, 3) := dk_153 0 50 (dk_at dksX7_mayBody_5 17 rfl rfl)
theorem dX7_mayBody_141 : decode cX7_mayBody 141 = .ok (.aload_n 0, 1) := dk_42 (dk_at dksX7_mayBody_5 20 rfl rfl)
theorem dX7_mayBody_142 : decode cX7_mayBody 142 = .ok (.iload_n 1, 1) := dk_27 (dk_at dksX7_mayBody_5 21 rfl rfl)
theorem dX7_mayBody_143 : decode cX7_mayBody 143 = .ok (.iload 4, 2) := dk_21 4 (dk_at dksX7_mayBody_5 22 rfl rfl)
theorem dX7_mayBody_145 : decode cX7_mayBody 145 = .ok (.invokevirtual 382, 3) := dk_182 1 126 (dk_at dksX7_mayBody_6 0 rfl rfl)
theorem dX7_mayBody_148 : decode cX7_mayBody 148 = .ok (.ifCond .eq 40, 3) := dk_153 0 40 (dk_at dksX7_mayBody_6 3 rfl rfl)
theorem dX7_mayBody_151 : decode cX7_mayBody 151 = .ok (.aload_n 0, 1) := dk_42 (dk_at dksX7_mayBody_6 6 rfl rfl)
theorem dX7_mayBody_152 : decode cX7_mayBody 152 = .ok (.iload_n 1, 1) := dk_27 (dk_at dksX7_mayBody_6 7 rfl rfl)
theorem dX7_mayBody_153 : decode cX7_mayBody 153 = .ok (.iload_n 3, 1) := dk_29 (dk_at dksX7_mayBody_6 8 rfl rfl)
theorem dX7_mayBody_154 : decode cX7_mayBody 154 = .ok (.invokevirtual 388, 3) := dk_182 1 132 (dk_at dksX7_mayBody_6 9 rfl rfl)
theorem dX7_mayBody_157 : decode cX7_mayBody 157 = .ok (.ifCond .eq 31, 3) := dk_153 0 31 (dk_at dksX7_mayBody_6 12 rfl rfl)
theorem dX7_mayBody_160 : decode cX7_mayBody 160 = .ok (.aload_n 0, 1) := dk_42 (dk_at dksX7_mayBody_6 15 rfl rfl)
theorem dX7_mayBody_161 : decode cX7_mayBody 161 = .ok (.aload_n 0, 1) := dk_42 (dk_at dksX7_mayBody_6 16 rfl rfl)
theorem dX7_mayBody_162 : decode cX7_mayBody 162 = .ok (.getfield 63, 3) := dk_180 0 63 (dk_at dksX7_mayBody_6 17 rfl rfl)
theorem dX7_mayBody_165 : decode cX7_mayBody 165 = .ok (.iconst 3, 1) := dk_6 (dk_at dksX7_mayBody_6 20 rfl rfl)
theorem dX7_mayBody_166 : decode cX7_mayBody 166 = .ok (.iload_n 1, 1) := dk_27 (dk_at dksX7_mayBody_6 21 rfl rfl)
theorem dX7_mayBody_167 : decode cX7_mayBody 167 = .ok (.imul, 1) := dk_104 (dk_at dksX7_mayBody_6 22 rfl rfl)
theorem dX7_mayBody_168 : decode cX7_mayBody 168 = .ok (.iload 4, 2) := dk_21 4 (dk_at dksX7_mayBody_7 0 rfl rfl)
theorem dX7_mayBody_170 : decode cX7_mayBody 170 = .ok (.iadd, 1) := dk_96 (dk_at dksX7_mayBody_7 2 rfl rfl)
theorem dX7_mayBody_171 : decode cX7_mayBody 171 = .ok (.iaload, 1) := dk_46 (dk_at dksX7_mayBody_7 3 rfl rfl)
theorem dX7_mayBody_172 : decode cX7_mayBody 172 = .ok (.aload_n 0, 1) := dk_42 (dk_at dksX7_mayBody_7 4 rfl rfl)
theorem dX7_mayBody_173 : decode cX7_mayBody 173 = .ok (.getfield 57, 3) := dk_180 0 57 (dk_at dksX7_mayBody_7 5 rfl rfl)
theorem dX7_mayBody_176 : decode cX7_mayBody 176 = .ok (.iload_n 3, 1) := dk_29 (dk_at dksX7_mayBody_7 8 rfl rfl)
theorem dX7_mayBody_177 : decode cX7_mayBody 177 = .ok (.iaload, 1) := dk_46 (dk_at dksX7_mayBody_7 9 rfl rfl)
theorem dX7_mayBody_178 : decode cX7_mayBody 178 = .ok (.invokevirtual 176, 3) := dk_182 0 176 (dk_at dksX7_mayBody_7 10 rfl rfl)
theorem dX7_mayBody_181 : decode cX7_mayBody 181 = .ok (.ifCond .eq 7, 3) := dk_153 0 7 (dk_at dksX7_mayBody_7 13 rfl rfl)
theorem dX7_mayBody_184 : decode cX7_mayBody 184 = .ok (.iconst 1, 1) := dk_4 (dk_at dksX7_mayBody_7 16 rfl rfl)
theorem dX7_mayBody_185 : decode cX7_mayBody 185 = .ok (.goto 4, 3) := dk_167 0 4 (dk_at dksX7_mayBody_7 17 rfl rfl)
theorem dX7_mayBody_188 : decode cX7_mayBody 188 = .ok (.iconst 0, 1) := dk_3 (dk_at dksX7_mayBody_7 20 rfl rfl)
theorem dX7_mayBody_189 : decode cX7_mayBody 189 = .ok (.ireturn, 1) := dk_172 (dk_at dksX7_mayBody_7 21 rfl rfl)
theorem dX7_mayBody_190 : decode cX7_mayBody 190 = .ok (.iload_n 3, 1) := dk_29 (dk_at dksX7_mayBody_7 22 rfl rfl)
theorem dX7_mayBody_191 : decode cX7_mayBody 191 = .ok (.i2l, 1) := dk_133 (dk_at dksX7_mayBody_7 23 rfl rfl)
theorem dX7_mayBody_192 : decode cX7_mayBody 192 = .ok (.lconst 1, 1) := dk_10 (dk_at dksX7_mayBody_8 0 rfl rfl)
theorem dX7_mayBody_193 : decode cX7_mayBody 193 = .ok (.ldc2_w 345, 3) := dk_20 1 89 (dk_at dksX7_mayBody_8 1 rfl rfl)
theorem dX7_mayBody_196 : decode cX7_mayBody 196 = .ok (.invokestatic 127, 3) := dk_184 0 127 (dk_at dksX7_mayBody_8 4 rfl rfl)
theorem dX7_mayBody_199 : decode cX7_mayBody 199 = .ok (.ireturn, 1) := dk_172 (dk_at dksX7_mayBody_8 7 rfl rfl)
theorem dX7_mayBody_200 : decode cX7_mayBody 200 = .ok (.aload_n 0, 1) := dk_42 (dk_at dksX7_mayBody_8 8 rfl rfl)
theorem dX7_mayBody_201 : decode cX7_mayBody 201 = .ok (.iload_n 1, 1) := dk_27 (dk_at dksX7_mayBody_8 9 rfl rfl)
theorem dX7_mayBody_202 : decode cX7_mayBody 202 = .ok (.iload_n 3, 1) := dk_29 (dk_at dksX7_mayBody_8 10 rfl rfl)
theorem dX7_mayBody_203 : decode cX7_mayBody 203 = .ok (.invokevirtual 391, 3) := dk_182 1 135 (dk_at dksX7_mayBody_8 11 rfl rfl)
theorem dX7_mayBody_206 : decode cX7_mayBody 206 = .ok (.ireturn, 1) := dk_172 (dk_at dksX7_mayBody_8 14 rfl rfl)
theorem dX7_mayBody_207 : decode cX7_mayBody 207 = .ok (.aload_n 0, 1) := dk_42 (dk_at dksX7_mayBody_8 15 rfl rfl)
theorem dX7_mayBody_208 : decode cX7_mayBody 208 = .ok (.iload_n 1, 1) := dk_27 (dk_at dksX7_mayBody_8 16 rfl rfl)
theorem dX7_mayBody_209 : decode cX7_mayBody 209 = .ok (.iload_n 3, 1) := dk_29 (dk_at dksX7_mayBody_8 17 rfl rfl)
theorem dX7_mayBody_210 : decode cX7_mayBody 210 = .ok (.invokevirtual 394, 3) := dk_182 1 138 (dk_at dksX7_mayBody_8 18 rfl rfl)
theorem dX7_mayBody_213 : decode cX7_mayBody 213 = .ok (.ifCond .eq 17, 3) := dk_153 0 17 (dk_at dksX7_mayBody_8 21 rfl rfl)
theorem dX7_mayBody_216 : decode cX7_mayBody 216 = .ok (.aload_n 0, 1) := dk_42 (dk_at dksX7_mayBody_9 0 rfl rfl)
theorem dX7_mayBody_217 : decode cX7_mayBody 217 = .ok (.iload_n 1, 1) := dk_27 (dk_at dksX7_mayBody_9 1 rfl rfl)
theorem dX7_mayBody_218 : decode cX7_mayBody 218 = .ok (.iload 4, 2) := dk_21 4 (dk_at dksX7_mayBody_9 2 rfl rfl)
theorem dX7_mayBody_220 : decode cX7_mayBody 220 = .ok (.invokevirtual 394, 3) := dk_182 1 138 (dk_at dksX7_mayBody_9 4 rfl rfl)
theorem dX7_mayBody_223 : decode cX7_mayBody 223 = .ok (.ifCond .eq 7, 3) := dk_153 0 7 (dk_at dksX7_mayBody_9 7 rfl rfl)
theorem dX7_mayBody_226 : decode cX7_mayBody 226 = .ok (.iconst 1, 1) := dk_4 (dk_at dksX7_mayBody_9 10 rfl rfl)
theorem dX7_mayBody_227 : decode cX7_mayBody 227 = .ok (.goto 4, 3) := dk_167 0 4 (dk_at dksX7_mayBody_9 11 rfl rfl)
theorem dX7_mayBody_230 : decode cX7_mayBody 230 = .ok (.iconst 0, 1) := dk_3 (dk_at dksX7_mayBody_9 14 rfl rfl)
theorem dX7_mayBody_231 : decode cX7_mayBody 231 = .ok (.istore 5, 2) := dk_54 5 (dk_at dksX7_mayBody_9 15 rfl rfl)
theorem dX7_mayBody_233 : decode cX7_mayBody 233 = .ok (.aload_n 0, 1) := dk_42 (dk_at dksX7_mayBody_9 17 rfl rfl)
theorem dX7_mayBody_234 : decode cX7_mayBody 234 = .ok (.iload 5, 2) := dk_21 5 (dk_at dksX7_mayBody_9 18 rfl rfl)
theorem dX7_mayBody_236 : decode cX7_mayBody 236 = .ok (.ifCond .eq 30, 3) := dk_153 0 30 (dk_at dksX7_mayBody_9 20 rfl rfl)
theorem dX7_mayBody_239 : decode cX7_mayBody 239 = .ok (.aload_n 0, 1) := dk_42 (dk_at dksX7_mayBody_9 23 rfl rfl)
theorem dX7_mayBody_240 : decode cX7_mayBody 240 = .ok (.getfield 63, 3) := dk_180 0 63 (dk_at dksX7_mayBody_10 0 rfl rfl)
theorem dX7_mayBody_243 : decode cX7_mayBody 243 = .ok (.iconst 3, 1) := dk_6 (dk_at dksX7_mayBody_10 3 rfl rfl)
theorem dX7_mayBody_244 : decode cX7_mayBody 244 = .ok (.iload_n 1, 1) := dk_27 (dk_at dksX7_mayBody_10 4 rfl rfl)
theorem dX7_mayBody_245 : decode cX7_mayBody 245 = .ok (.imul, 1) := dk_104 (dk_at dksX7_mayBody_10 5 rfl rfl)
theorem dX7_mayBody_246 : decode cX7_mayBody 246 = .ok (.iload_n 3, 1) := dk_29 (dk_at dksX7_mayBody_10 6 rfl rfl)
theorem dX7_mayBody_247 : decode cX7_mayBody 247 = .ok (.iadd, 1) := dk_96 (dk_at dksX7_mayBody_10 7 rfl rfl)
theorem dX7_mayBody_248 : decode cX7_mayBody 248 = .ok (.iaload, 1) := dk_46 (dk_at dksX7_mayBody_10 8 rfl rfl)
theorem dX7_mayBody_249 : decode cX7_mayBody 249 = .ok (.aload_n 0, 1) := dk_42 (dk_at dksX7_mayBody_10 9 rfl rfl)
theorem dX7_mayBody_250 : decode cX7_mayBody 250 = .ok (.getfield 63, 3) := dk_180 0 63 (dk_at dksX7_mayBody_10 10 rfl rfl)
theorem dX7_mayBody_253 : decode cX7_mayBody 253 = .ok (.iconst 3, 1) := dk_6 (dk_at dksX7_mayBody_10 13 rfl rfl)
theorem dX7_mayBody_254 : decode cX7_mayBody 254 = .ok (.iload_n 1, 1) := dk_27 (dk_at dksX7_mayBody_10 14 rfl rfl)
theorem dX7_mayBody_255 : decode cX7_mayBody 255 = .ok (.imul, 1) := dk_104 (dk_at dksX7_mayBody_10 15 rfl rfl)
theorem dX7_mayBody_256 : decode cX7_mayBody 256 = .ok (.iload 4, 2) := dk_21 4 (dk_at dksX7_mayBody_10 16 rfl rfl)
theorem dX7_mayBody_258 : decode cX7_mayBody 258 = .ok (.iadd, 1) := dk_96 (dk_at dksX7_mayBody_10 18 rfl rfl)
theorem dX7_mayBody_259 : decode cX7_mayBody 259 = .ok (.iaload, 1) := dk_46 (dk_at dksX7_mayBody_10 19 rfl rfl)
theorem dX7_mayBody_260 : decode cX7_mayBody 260 = .ok (.invokestatic 397, 3) := dk_184 1 141 (dk_at dksX7_mayBody_10 20 rfl rfl)
theorem dX7_mayBody_263 : decode cX7_mayBody 263 = .ok (.goto 4, 3) := dk_167 0 4 (dk_at dksX7_mayBody_11 0 rfl rfl)
theorem dX7_mayBody_266 : decode cX7_mayBody 266 = .ok (.iconst (-1), 1) := dk_2 (dk_at dksX7_mayBody_11 3 rfl rfl)
theorem dX7_mayBody_267 : decode cX7_mayBody 267 = .ok (.putfield 385, 3) := dk_181 1 129 (dk_at dksX7_mayBody_11 4 rfl rfl)
theorem dX7_mayBody_270 : decode cX7_mayBody 270 = .ok (.iload 5, 2) := dk_21 5 (dk_at dksX7_mayBody_11 7 rfl rfl)
theorem dX7_mayBody_272 : decode cX7_mayBody 272 = .ok (.ireturn, 1) := dk_172 (dk_at dksX7_mayBody_11 9 rfl rfl)
theorem dX7_mayBody_273 : decode cX7_mayBody 273 = .ok (.aload_n 0, 1) := dk_42 (dk_at dksX7_mayBody_11 10 rfl rfl)
theorem dX7_mayBody_274 : decode cX7_mayBody 274 = .ok (.iload_n 1, 1) := dk_27 (dk_at dksX7_mayBody_11 11 rfl rfl)
theorem dX7_mayBody_275 : decode cX7_mayBody 275 = .ok (.iconst 4, 1) := dk_7 (dk_at dksX7_mayBody_11 12 rfl rfl)
theorem dX7_mayBody_276 : decode cX7_mayBody 276 = .ok (.invokevirtual 221, 3) := dk_182 0 221 (dk_at dksX7_mayBody_11 13 rfl rfl)
theorem dX7_mayBody_279 : decode cX7_mayBody 279 = .ok (.ifCond .ne 15, 3) := dk_154 0 15 (dk_at dksX7_mayBody_11 16 rfl rfl)
theorem dX7_mayBody_282 : decode cX7_mayBody 282 = .ok (.aload_n 0, 1) := dk_42 (dk_at dksX7_mayBody_11 19 rfl rfl)
theorem dX7_mayBody_283 : decode cX7_mayBody 283 = .ok (.iload_n 1, 1) := dk_27 (dk_at dksX7_mayBody_11 20 rfl rfl)
theorem dX7_mayBody_284 : decode cX7_mayBody 284 = .ok (.invokevirtual 400, 3) := dk_182 1 144 (dk_at dksX7_mayBody_11 21 rfl rfl)
theorem dX7_mayBody_287 : decode cX7_mayBody 287 = .ok (.ifCond .eq 7, 3) := dk_153 0 7 (dk_at dksX7_mayBody_12 0 rfl rfl)
theorem dX7_mayBody_290 : decode cX7_mayBody 290 = .ok (.iconst 1, 1) := dk_4 (dk_at dksX7_mayBody_12 3 rfl rfl)
theorem dX7_mayBody_291 : decode cX7_mayBody 291 = .ok (.goto 4, 3) := dk_167 0 4 (dk_at dksX7_mayBody_12 4 rfl rfl)
theorem dX7_mayBody_294 : decode cX7_mayBody 294 = .ok (.iconst 0, 1) := dk_3 (dk_at dksX7_mayBody_12 7 rfl rfl)
theorem dX7_mayBody_295 : decode cX7_mayBody 295 = .ok (.ireturn, 1) := dk_172 (dk_at dksX7_mayBody_12 8 rfl rfl)
theorem dX7_mayBody_296 : decode cX7_mayBody 296 = .ok (.aload_n 0, 1) := dk_42 (dk_at dksX7_mayBody_12 9 rfl rfl)
theorem dX7_mayBody_297 : decode cX7_mayBody 297 = .ok (.iload_n 1, 1) := dk_27 (dk_at dksX7_mayBody_12 10 rfl rfl)
theorem dX7_mayBody_298 : decode cX7_mayBody 298 = .ok (.iload_n 3, 1) := dk_29 (dk_at dksX7_mayBody_12 11 rfl rfl)
theorem dX7_mayBody_299 : decode cX7_mayBody 299 = .ok (.invokevirtual 382, 3) := dk_182 1 126 (dk_at dksX7_mayBody_12 12 rfl rfl)
theorem dX7_mayBody_302 : decode cX7_mayBody 302 = .ok (.ifCond .eq 36, 3) := dk_153 0 36 (dk_at dksX7_mayBody_12 15 rfl rfl)
theorem dX7_mayBody_305 : decode cX7_mayBody 305 = .ok (.aload_n 0, 1) := dk_42 (dk_at dksX7_mayBody_12 18 rfl rfl)
theorem dX7_mayBody_306 : decode cX7_mayBody 306 = .ok (.iload_n 1, 1) := dk_27 (dk_at dksX7_mayBody_12 19 rfl rfl)
theorem dX7_mayBody_307 : decode cX7_mayBody 307 = .ok (.iload 4, 2) := dk_21 4 (dk_at dksX7_mayBody_12 20 rfl rfl)
theorem dX7_mayBody_309 : decode cX7_mayBody 309 = .ok (.invokevirtual 382, 3) := dk_182 1 126 (dk_at dksX7_mayBody_13 0 rfl rfl)
theorem dX7_mayBody_312 : decode cX7_mayBody 312 = .ok (.ifCond .eq 26, 3) := dk_153 0 26 (dk_at dksX7_mayBody_13 3 rfl rfl)
theorem dX7_mayBody_315 : decode cX7_mayBody 315 = .ok (.aload_n 0, 1) := dk_42 (dk_at dksX7_mayBody_13 6 rfl rfl)
theorem dX7_mayBody_316 : decode cX7_mayBody 316 = .ok (.getfield 13, 3) := dk_180 0 13 (dk_at dksX7_mayBody_13 7 rfl rfl)
theorem dX7_mayBody_319 : decode cX7_mayBody 319 = .ok (.aload_n 0, 1) := dk_42 (dk_at dksX7_mayBody_13 10 rfl rfl)
theorem dX7_mayBody_320 : decode cX7_mayBody 320 = .ok (.getfield 63, 3) := dk_180 0 63 (dk_at dksX7_mayBody_13 11 rfl rfl)
theorem dX7_mayBody_323 : decode cX7_mayBody 323 = .ok (.iconst 3, 1) := dk_6 (dk_at dksX7_mayBody_13 14 rfl rfl)
theorem dX7_mayBody_324 : decode cX7_mayBody 324 = .ok (.iload_n 1, 1) := dk_27 (dk_at dksX7_mayBody_13 15 rfl rfl)
theorem dX7_mayBody_325 : decode cX7_mayBody 325 = .ok (.imul, 1) := dk_104 (dk_at dksX7_mayBody_13 16 rfl rfl)
theorem dX7_mayBody_326 : decode cX7_mayBody 326 = .ok (.iload_n 3, 1) := dk_29 (dk_at dksX7_mayBody_13 17 rfl rfl)
theorem dX7_mayBody_327 : decode cX7_mayBody 327 = .ok (.iadd, 1) := dk_96 (dk_at dksX7_mayBody_13 18 rfl rfl)
theorem dX7_mayBody_328 : decode cX7_mayBody 328 = .ok (.iaload, 1) := dk_46 (dk_at dksX7_mayBody_13 19 rfl rfl)
theorem dX7_mayBody_329 : decode cX7_mayBody 329 = .ok (.iaload, 1) := dk_46 (dk_at dksX7_mayBody_13 20 rfl rfl)
theorem dX7_mayBody_330 : decode cX7_mayBody 330 = .ok (.iconst 4, 1) := dk_7 (dk_at dksX7_mayBody_13 21 rfl rfl)
theorem dX7_mayBody_331 : decode cX7_mayBody 331 = .ok (.if_icmp .ne 7, 3) := dk_160 0 7 (dk_at dksX7_mayBody_14 0 rfl rfl)
theorem dX7_mayBody_334 : decode cX7_mayBody 334 = .ok (.iconst 1, 1) := dk_4 (dk_at dksX7_mayBody_14 3 rfl rfl)
theorem dX7_mayBody_335 : decode cX7_mayBody 335 = .ok (.goto 4, 3) := dk_167 0 4 (dk_at dksX7_mayBody_14 4 rfl rfl)
theorem dX7_mayBody_338 : decode cX7_mayBody 338 = .ok (.iconst 0, 1) := dk_3 (dk_at dksX7_mayBody_14 7 rfl rfl)
theorem dX7_mayBody_339 : decode cX7_mayBody 339 = .ok (.istore 6, 2) := dk_54 6 (dk_at dksX7_mayBody_14 8 rfl rfl)
theorem dX7_mayBody_341 : decode cX7_mayBody 341 = .ok (.aload_n 0, 1) := dk_42 (dk_at dksX7_mayBody_14 10 rfl rfl)
theorem dX7_mayBody_342 : decode cX7_mayBody 342 = .ok (.iload 6, 2) := dk_21 6 (dk_at dksX7_mayBody_14 11 rfl rfl)
theorem dX7_mayBody_344 : decode cX7_mayBody 344 = .ok (.ifCond .eq 21, 3) := dk_153 0 21 (dk_at dksX7_mayBody_14 13 rfl rfl)
theorem dX7_mayBody_347 : decode cX7_mayBody 347 = .ok (.aload_n 0, 1) := dk_42 (dk_at dksX7_mayBody_14 16 rfl rfl)
theorem dX7_mayBody_348 : decode cX7_mayBody 348 = .ok (.getfield 23, 3) := dk_180 0 23 (dk_at dksX7_mayBody_14 17 rfl rfl)
theorem dX7_mayBody_351 : decode cX7_mayBody 351 = .ok (.aload_n 0, 1) := dk_42 (dk_at dksX7_mayBody_14 20 rfl rfl)
theorem dX7_mayBody_352 : decode cX7_mayBody 352 = .ok (.getfield 63, 3) := dk_180 0 63 (dk_at dksX7_mayBody_14 21 rfl rfl)
theorem dX7_mayBody_355 : decode cX7_mayBody 355 = .ok (.iconst 3, 1) := dk_6 (dk_at dksX7_mayBody_15 0 rfl rfl)
theorem dX7_mayBody_356 : decode cX7_mayBody 356 = .ok (.iload_n 1, 1) := dk_27 (dk_at dksX7_mayBody_15 1 rfl rfl)
theorem dX7_mayBody_357 : decode cX7_mayBody 357 = .ok (.imul, 1) := dk_104 (dk_at dksX7_mayBody_15 2 rfl rfl)
theorem dX7_mayBody_358 : decode cX7_mayBody 358 = .ok (.iload_n 3, 1) := dk_29 (dk_at dksX7_mayBody_15 3 rfl rfl)
theorem dX7_mayBody_359 : decode cX7_mayBody 359 = .ok (.iadd, 1) := dk_96 (dk_at dksX7_mayBody_15 4 rfl rfl)
theorem dX7_mayBody_360 : decode cX7_mayBody 360 = .ok (.iaload, 1) := dk_46 (dk_at dksX7_mayBody_15 5 rfl rfl)
theorem dX7_mayBody_361 : decode cX7_mayBody 361 = .ok (.iaload, 1) := dk_46 (dk_at dksX7_mayBody_15 6 rfl rfl)
theorem dX7_mayBody_362 : decode cX7_mayBody 362 = .ok (.goto 4, 3) := dk_167 0 4 (dk_at dksX7_mayBody_15 7 rfl rfl)
theorem dX7_mayBody_365 : decode cX7_mayBody 365 = .ok (.iconst (-1), 1) := dk_2 (dk_at dksX7_mayBody_15 10 rfl rfl)
theorem dX7_mayBody_366 : decode cX7_mayBody 366 = .ok (.putfield 385, 3) := dk_181 1 129 (dk_at dksX7_mayBody_15 11 rfl rfl)
theorem dX7_mayBody_369 : decode cX7_mayBody 369 = .ok (.iload 6, 2) := dk_21 6 (dk_at dksX7_mayBody_15 14 rfl rfl)
theorem dX7_mayBody_371 : decode cX7_mayBody 371 = .ok (.ifCond .eq 41, 3) := dk_153 0 41 (dk_at dksX7_mayBody_15 16 rfl rfl)
theorem dX7_mayBody_374 : decode cX7_mayBody 374 = .ok (.aload_n 0, 1) := dk_42 (dk_at dksX7_mayBody_15 19 rfl rfl)
theorem dX7_mayBody_375 : decode cX7_mayBody 375 = .ok (.getfield 63, 3) := dk_180 0 63 (dk_at dksX7_mayBody_15 20 rfl rfl)
theorem dX7_mayBody_378 : decode cX7_mayBody 378 = .ok (.iconst 3, 1) := dk_6 (dk_at dksX7_mayBody_15 23 rfl rfl)
theorem dX7_mayBody_379 : decode cX7_mayBody 379 = .ok (.iload_n 1, 1) := dk_27 (dk_at dksX7_mayBody_16 0 rfl rfl)
theorem dX7_mayBody_380 : decode cX7_mayBody 380 = .ok (.imul, 1) := dk_104 (dk_at dksX7_mayBody_16 1 rfl rfl)
theorem dX7_mayBody_381 : decode cX7_mayBody 381 = .ok (.iload 4, 2) := dk_21 4 (dk_at dksX7_mayBody_16 2 rfl rfl)
theorem dX7_mayBody_383 : decode cX7_mayBody 383 = .ok (.iadd, 1) := dk_96 (dk_at dksX7_mayBody_16 4 rfl rfl)
theorem dX7_mayBody_384 : decode cX7_mayBody 384 = .ok (.iaload, 1) := dk_46 (dk_at dksX7_mayBody_16 5 rfl rfl)
theorem dX7_mayBody_385 : decode cX7_mayBody 385 = .ok (.bipush 8, 2) := dk_16 8 (dk_at dksX7_mayBody_16 6 rfl rfl)
theorem dX7_mayBody_387 : decode cX7_mayBody 387 = .ok (.if_icmp .ge 25, 3) := dk_162 0 25 (dk_at dksX7_mayBody_16 8 rfl rfl)
theorem dX7_mayBody_390 : decode cX7_mayBody 390 = .ok (.aload_n 0, 1) := dk_42 (dk_at dksX7_mayBody_16 11 rfl rfl)
theorem dX7_mayBody_391 : decode cX7_mayBody 391 = .ok (.getfield 63, 3) := dk_180 0 63 (dk_at dksX7_mayBody_16 12 rfl rfl)
theorem dX7_mayBody_394 : decode cX7_mayBody 394 = .ok (.iconst 3, 1) := dk_6 (dk_at dksX7_mayBody_16 15 rfl rfl)
theorem dX7_mayBody_395 : decode cX7_mayBody 395 = .ok (.iload_n 1, 1) := dk_27 (dk_at dksX7_mayBody_16 16 rfl rfl)
theorem dX7_mayBody_396 : decode cX7_mayBody 396 = .ok (.imul, 1) := dk_104 (dk_at dksX7_mayBody_16 17 rfl rfl)
theorem dX7_mayBody_397 : decode cX7_mayBody 397 = .ok (.iload 4, 2) := dk_21 4 (dk_at dksX7_mayBody_16 18 rfl rfl)
theorem dX7_mayBody_399 : decode cX7_mayBody 399 = .ok (.iadd, 1) := dk_96 (dk_at dksX7_mayBody_16 20 rfl rfl)
theorem dX7_mayBody_400 : decode cX7_mayBody 400 = .ok (.iaload, 1) := dk_46 (dk_at dksX7_mayBody_16 21 rfl rfl)
theorem dX7_mayBody_401 : decode cX7_mayBody 401 = .ok (.iconst 4, 1) := dk_7 (dk_at dksX7_mayBody_16 22 rfl rfl)
theorem dX7_mayBody_402 : decode cX7_mayBody 402 = .ok (.invokestatic 153, 3) := dk_184 0 153 (dk_at dksX7_mayBody_17 0 rfl rfl)
theorem dX7_mayBody_405 : decode cX7_mayBody 405 = .ok (.ifCond .eq 7, 3) := dk_153 0 7 (dk_at dksX7_mayBody_17 3 rfl rfl)
theorem dX7_mayBody_408 : decode cX7_mayBody 408 = .ok (.iconst 1, 1) := dk_4 (dk_at dksX7_mayBody_17 6 rfl rfl)
theorem dX7_mayBody_409 : decode cX7_mayBody 409 = .ok (.goto 4, 3) := dk_167 0 4 (dk_at dksX7_mayBody_17 7 rfl rfl)
theorem dX7_mayBody_412 : decode cX7_mayBody 412 = .ok (.iconst 0, 1) := dk_3 (dk_at dksX7_mayBody_17 10 rfl rfl)
theorem dX7_mayBody_413 : decode cX7_mayBody 413 = .ok (.ireturn, 1) := dk_172 (dk_at dksX7_mayBody_17 11 rfl rfl)
abbrev cX7_isParam : ByteArray := prog_30_method_89_code
def yX7_isParam : MethodName := ⟨RX7, "isParam", "(II)Z"⟩
def dkwX7_isParam_0 : List UInt8 := [28, 133, 9, 42, 180, 0, 60, 27, 46, 4, 100, 133, 184, 0, 127, 172]
abbrev dktX7_isParam_0 : List UInt8 := dkwX7_isParam_0 ++ []
theorem dksX7_isParam_0 : cX7_isParam.data.toList.drop 0 = dktX7_isParam_0 := by decide +kernel
theorem dX7_isParam_0 : decode cX7_isParam 0 = .ok (.iload_n 2, 1) := dk_28 (dk_at dksX7_isParam_0 0 rfl rfl)
theorem dX7_isParam_1 : decode cX7_isParam 1 = .ok (.i2l, 1) := dk_133 (dk_at dksX7_isParam_0 1 rfl rfl)
theorem dX7_isParam_2 : decode cX7_isParam 2 = .ok (.lconst 0, 1) := dk_9 (dk_at dksX7_isParam_0 2 rfl rfl)
theorem dX7_isParam_3 : decode cX7_isParam 3 = .ok (.aload_n 0, 1) := dk_42 (dk_at dksX7_isParam_0 3 rfl rfl)
theorem dX7_isParam_4 : decode cX7_isParam 4 = .ok (.getfield 60, 3) := dk_180 0 60 (dk_at dksX7_isParam_0 4 rfl rfl)
theorem dX7_isParam_7 : decode cX7_isParam 7 = .ok (.iload_n 1, 1) := dk_27 (dk_at dksX7_isParam_0 7 rfl rfl)
theorem dX7_isParam_8 : decode cX7_isParam 8 = .ok (.iaload, 1) := dk_46 (dk_at dksX7_isParam_0 8 rfl rfl)
theorem dX7_isParam_9 : decode cX7_isParam 9 = .ok (.iconst 1, 1) := dk_4 (dk_at dksX7_isParam_0 9 rfl rfl)
theorem dX7_isParam_10 : decode cX7_isParam 10 = .ok (.isub, 1) := dk_100 (dk_at dksX7_isParam_0 10 rfl rfl)
theorem dX7_isParam_11 : decode cX7_isParam 11 = .ok (.i2l, 1) := dk_133 (dk_at dksX7_isParam_0 11 rfl rfl)
theorem dX7_isParam_12 : decode cX7_isParam 12 = .ok (.invokestatic 127, 3) := dk_184 0 127 (dk_at dksX7_isParam_0 12 rfl rfl)
theorem dX7_isParam_15 : decode cX7_isParam 15 = .ok (.ireturn, 1) := dk_172 (dk_at dksX7_isParam_0 15 rfl rfl)
abbrev cX7_reaches : ByteArray := prog_30_method_92_code
def yX7_reaches : MethodName := ⟨RX7, "reaches", "(II)Z"⟩
def dkwX7_reaches_1 : List UInt8 := [46, 42, 180, 0, 45, 28, 46, 182, 0, 156, 153, 0, 7, 4, 167, 0, 4, 3, 172]
abbrev dktX7_reaches_1 : List UInt8 := dkwX7_reaches_1 ++ []
def dkwX7_reaches_0 : List UInt8 := [42, 28, 7, 182, 0, 221, 154, 0, 31, 42, 27, 7, 182, 0, 221, 154, 0, 26, 42, 42, 180, 0, 45, 27]
abbrev dktX7_reaches_0 : List UInt8 := dkwX7_reaches_0 ++ dktX7_reaches_1
theorem dksX7_reaches_0 : cX7_reaches.data.toList.drop 0 = dktX7_reaches_0 := by decide +kernel
theorem dksX7_reaches_1 : cX7_reaches.data.toList.drop 24 = dktX7_reaches_1 := dk_seg dksX7_reaches_0 24 rfl rfl
theorem dX7_reaches_0 : decode cX7_reaches 0 = .ok (.aload_n 0, 1) := dk_42 (dk_at dksX7_reaches_0 0 rfl rfl)
theorem dX7_reaches_1 : decode cX7_reaches 1 = .ok (.iload_n 2, 1) := dk_28 (dk_at dksX7_reaches_0 1 rfl rfl)
theorem dX7_reaches_2 : decode cX7_reaches 2 = .ok (.iconst 4, 1) := dk_7 (dk_at dksX7_reaches_0 2 rfl rfl)
theorem dX7_reaches_3 : decode cX7_reaches 3 = .ok (.invokevirtual 221, 3) := dk_182 0 221 (dk_at dksX7_reaches_0 3 rfl rfl)
theorem dX7_reaches_6 : decode cX7_reaches 6 = .ok (.ifCond .ne 31, 3) := dk_154 0 31 (dk_at dksX7_reaches_0 6 rfl rfl)
theorem dX7_reaches_9 : decode cX7_reaches 9 = .ok (.aload_n 0, 1) := dk_42 (dk_at dksX7_reaches_0 9 rfl rfl)
theorem dX7_reaches_10 : decode cX7_reaches 10 = .ok (.iload_n 1, 1) := dk_27 (dk_at dksX7_reaches_0 10 rfl rfl)
theorem dX7_reaches_11 : decode cX7_reaches 11 = .ok (.iconst 4, 1) := dk_7 (dk_at dksX7_reaches_0 11 rfl rfl)
theorem dX7_reaches_12 : decode cX7_reaches 12 = .ok (.invokevirtual 221, 3) := dk_182 0 221 (dk_at dksX7_reaches_0 12 rfl rfl)
theorem dX7_reaches_15 : decode cX7_reaches 15 = .ok (.ifCond .ne 26, 3) := dk_154 0 26 (dk_at dksX7_reaches_0 15 rfl rfl)
theorem dX7_reaches_18 : decode cX7_reaches 18 = .ok (.aload_n 0, 1) := dk_42 (dk_at dksX7_reaches_0 18 rfl rfl)
theorem dX7_reaches_19 : decode cX7_reaches 19 = .ok (.aload_n 0, 1) := dk_42 (dk_at dksX7_reaches_0 19 rfl rfl)
theorem dX7_reaches_20 : decode cX7_reaches 20 = .ok (.getfield 45, 3) := dk_180 0 45 (dk_at dksX7_reaches_0 20 rfl rfl)
theorem dX7_reaches_23 : decode cX7_reaches 23 = .ok (.iload_n 1, 1) := dk_27 (dk_at dksX7_reaches_0 23 rfl rfl)
theorem dX7_reaches_24 : decode cX7_reaches 24 = .ok (.iaload, 1) := dk_46 (dk_at dksX7_reaches_1 0 rfl rfl)
theorem dX7_reaches_25 : decode cX7_reaches 25 = .ok (.aload_n 0, 1) := dk_42 (dk_at dksX7_reaches_1 1 rfl rfl)
theorem dX7_reaches_26 : decode cX7_reaches 26 = .ok (.getfield 45, 3) := dk_180 0 45 (dk_at dksX7_reaches_1 2 rfl rfl)
theorem dX7_reaches_29 : decode cX7_reaches 29 = .ok (.iload_n 2, 1) := dk_28 (dk_at dksX7_reaches_1 5 rfl rfl)
theorem dX7_reaches_30 : decode cX7_reaches 30 = .ok (.iaload, 1) := dk_46 (dk_at dksX7_reaches_1 6 rfl rfl)
theorem dX7_reaches_31 : decode cX7_reaches 31 = .ok (.invokevirtual 156, 3) := dk_182 0 156 (dk_at dksX7_reaches_1 7 rfl rfl)
theorem dX7_reaches_34 : decode cX7_reaches 34 = .ok (.ifCond .eq 7, 3) := dk_153 0 7 (dk_at dksX7_reaches_1 10 rfl rfl)
theorem dX7_reaches_37 : decode cX7_reaches 37 = .ok (.iconst 1, 1) := dk_4 (dk_at dksX7_reaches_1 13 rfl rfl)
theorem dX7_reaches_38 : decode cX7_reaches 38 = .ok (.goto 4, 3) := dk_167 0 4 (dk_at dksX7_reaches_1 14 rfl rfl)
theorem dX7_reaches_41 : decode cX7_reaches 41 = .ok (.iconst 0, 1) := dk_3 (dk_at dksX7_reaches_1 17 rfl rfl)
theorem dX7_reaches_42 : decode cX7_reaches 42 = .ok (.ireturn, 1) := dk_172 (dk_at dksX7_reaches_1 18 rfl rfl)
abbrev cX7_mayCallFrom : ByteArray := prog_30_method_94_code
def yX7_mayCallFrom : MethodName := ⟨RX7, "mayCallFrom", "(II)Z"⟩
def dkwX7_mayCallFrom_4 : List UInt8 := [42, 42, 180, 0, 57, 28, 46, 181, 1, 129, 29, 172]
abbrev dktX7_mayCallFrom_4 : List UInt8 := dkwX7_mayCallFrom_4 ++ []
def dkwX7_mayCallFrom_3 : List UInt8 := [28, 104, 21, 4, 96, 46, 182, 0, 176, 153, 0, 7, 4, 167, 0, 4, 3, 62, 132, 4, 1, 167, 255, 203]
abbrev dktX7_mayCallFrom_3 : List UInt8 := dkwX7_mayCallFrom_3 ++ dktX7_mayCallFrom_4
def dkwX7_mayCallFrom_2 : List UInt8 := [162, 0, 48, 29, 153, 0, 36, 42, 42, 180, 0, 63, 6, 27, 104, 21, 4, 96, 46, 42, 180, 0, 63, 6]
abbrev dktX7_mayCallFrom_2 : List UInt8 := dkwX7_mayCallFrom_2 ++ dktX7_mayCallFrom_3
def dkwX7_mayCallFrom_1 : List UInt8 := [180, 0, 60, 27, 46, 164, 0, 5, 3, 172, 4, 62, 3, 54, 4, 21, 4, 42, 180, 0, 60, 28, 46]
abbrev dktX7_mayCallFrom_1 : List UInt8 := dkwX7_mayCallFrom_1 ++ dktX7_mayCallFrom_2
def dkwX7_mayCallFrom_0 : List UInt8 := [42, 28, 182, 0, 250, 153, 0, 27, 42, 27, 28, 182, 1, 132, 153, 0, 18, 42, 180, 0, 60, 28, 46, 42]
abbrev dktX7_mayCallFrom_0 : List UInt8 := dkwX7_mayCallFrom_0 ++ dktX7_mayCallFrom_1
theorem dksX7_mayCallFrom_0 : cX7_mayCallFrom.data.toList.drop 0 = dktX7_mayCallFrom_0 := by decide +kernel
theorem dksX7_mayCallFrom_1 : cX7_mayCallFrom.data.toList.drop 24 = dktX7_mayCallFrom_1 := dk_seg dksX7_mayCallFrom_0 24 rfl rfl
theorem dksX7_mayCallFrom_2 : cX7_mayCallFrom.data.toList.drop 47 = dktX7_mayCallFrom_2 := dk_seg dksX7_mayCallFrom_1 23 rfl rfl
theorem dksX7_mayCallFrom_3 : cX7_mayCallFrom.data.toList.drop 71 = dktX7_mayCallFrom_3 := dk_seg dksX7_mayCallFrom_2 24 rfl rfl
theorem dksX7_mayCallFrom_4 : cX7_mayCallFrom.data.toList.drop 95 = dktX7_mayCallFrom_4 := dk_seg dksX7_mayCallFrom_3 24 rfl rfl
theorem dX7_mayCallFrom_0 : decode cX7_mayCallFrom 0 = .ok (.aload_n 0, 1) := dk_42 (dk_at dksX7_mayCallFrom_0 0 rfl rfl)
theorem dX7_mayCallFrom_1 : decode cX7_mayCallFrom 1 = .ok (.iload_n 2, 1) := dk_28 (dk_at dksX7_mayCallFrom_0 1 rfl rfl)
theorem dX7_mayCallFrom_2 : decode cX7_mayCallFrom 2 = .ok (.invokevirtual 250, 3) := dk_182 0 250 (dk_at dksX7_mayCallFrom_0 2 rfl rfl)
theorem dX7_mayCallFrom_5 : decode cX7_mayCallFrom 5 = .ok (.ifCond .eq 27, 3) := dk_153 0 27 (dk_at dksX7_mayCallFrom_0 5 rfl rfl)
theorem dX7_mayCallFrom_8 : decode cX7_mayCallFrom 8 = .ok (.aload_n 0, 1) := dk_42 (dk_at dksX7_mayCallFrom_0 8 rfl rfl)
theorem dX7_mayCallFrom_9 : decode cX7_mayCallFrom 9 = .ok (.iload_n 1, 1) := dk_27 (dk_at dksX7_mayCallFrom_0 9 rfl rfl)
theorem dX7_mayCallFrom_10 : decode cX7_mayCallFrom 10 = .ok (.iload_n 2, 1) := dk_28 (dk_at dksX7_mayCallFrom_0 10 rfl rfl)
theorem dX7_mayCallFrom_11 : decode cX7_mayCallFrom 11 = .ok (.invokevirtual 388, 3) := dk_182 1 132 (dk_at dksX7_mayCallFrom_0 11 rfl rfl)
theorem dX7_mayCallFrom_14 : decode cX7_mayCallFrom 14 = .ok (.ifCond .eq 18, 3) := dk_153 0 18 (dk_at dksX7_mayCallFrom_0 14 rfl rfl)
theorem dX7_mayCallFrom_17 : decode cX7_mayCallFrom 17 = .ok (.aload_n 0, 1) := dk_42 (dk_at dksX7_mayCallFrom_0 17 rfl rfl)
theorem dX7_mayCallFrom_18 : decode cX7_mayCallFrom 18 = .ok (.getfield 60, 3) := dk_180 0 60 (dk_at dksX7_mayCallFrom_0 18 rfl rfl)
theorem dX7_mayCallFrom_21 : decode cX7_mayCallFrom 21 = .ok (.iload_n 2, 1) := dk_28 (dk_at dksX7_mayCallFrom_0 21 rfl rfl)
theorem dX7_mayCallFrom_22 : decode cX7_mayCallFrom 22 = .ok (.iaload, 1) := dk_46 (dk_at dksX7_mayCallFrom_0 22 rfl rfl)
theorem dX7_mayCallFrom_23 : decode cX7_mayCallFrom 23 = .ok (.aload_n 0, 1) := dk_42 (dk_at dksX7_mayCallFrom_0 23 rfl rfl)
theorem dX7_mayCallFrom_24 : decode cX7_mayCallFrom 24 = .ok (.getfield 60, 3) := dk_180 0 60 (dk_at dksX7_mayCallFrom_1 0 rfl rfl)
theorem dX7_mayCallFrom_27 : decode cX7_mayCallFrom 27 = .ok (.iload_n 1, 1) := dk_27 (dk_at dksX7_mayCallFrom_1 3 rfl rfl)
theorem dX7_mayCallFrom_28 : decode cX7_mayCallFrom 28 = .ok (.iaload, 1) := dk_46 (dk_at dksX7_mayCallFrom_1 4 rfl rfl)
theorem dX7_mayCallFrom_29 : decode cX7_mayCallFrom 29 = .ok (.if_icmp .le 5, 3) := dk_164 0 5 (dk_at dksX7_mayCallFrom_1 5 rfl rfl)
theorem dX7_mayCallFrom_32 : decode cX7_mayCallFrom 32 = .ok (.iconst 0, 1) := dk_3 (dk_at dksX7_mayCallFrom_1 8 rfl rfl)
theorem dX7_mayCallFrom_33 : decode cX7_mayCallFrom 33 = .ok (.ireturn, 1) := dk_172 (dk_at dksX7_mayCallFrom_1 9 rfl rfl)
theorem dX7_mayCallFrom_34 : decode cX7_mayCallFrom 34 = .ok (.iconst 1, 1) := dk_4 (dk_at dksX7_mayCallFrom_1 10 rfl rfl)
theorem dX7_mayCallFrom_35 : decode cX7_mayCallFrom 35 = .ok (.istore_n 3, 1) := dk_62 (dk_at dksX7_mayCallFrom_1 11 rfl rfl)
theorem dX7_mayCallFrom_36 : decode cX7_mayCallFrom 36 = .ok (.iconst 0, 1) := dk_3 (dk_at dksX7_mayCallFrom_1 12 rfl rfl)
theorem dX7_mayCallFrom_37 : decode cX7_mayCallFrom 37 = .ok (.istore 4, 2) := dk_54 4 (dk_at dksX7_mayCallFrom_1 13 rfl rfl)
theorem dX7_mayCallFrom_39 : decode cX7_mayCallFrom 39 = .ok (.iload 4, 2) := dk_21 4 (dk_at dksX7_mayCallFrom_1 15 rfl rfl)
theorem dX7_mayCallFrom_41 : decode cX7_mayCallFrom 41 = .ok (.aload_n 0, 1) := dk_42 (dk_at dksX7_mayCallFrom_1 17 rfl rfl)
theorem dX7_mayCallFrom_42 : decode cX7_mayCallFrom 42 = .ok (.getfield 60, 3) := dk_180 0 60 (dk_at dksX7_mayCallFrom_1 18 rfl rfl)
theorem dX7_mayCallFrom_45 : decode cX7_mayCallFrom 45 = .ok (.iload_n 2, 1) := dk_28 (dk_at dksX7_mayCallFrom_1 21 rfl rfl)
theorem dX7_mayCallFrom_46 : decode cX7_mayCallFrom 46 = .ok (.iaload, 1) := dk_46 (dk_at dksX7_mayCallFrom_1 22 rfl rfl)
theorem dX7_mayCallFrom_47 : decode cX7_mayCallFrom 47 = .ok (.if_icmp .ge 48, 3) := dk_162 0 48 (dk_at dksX7_mayCallFrom_2 0 rfl rfl)
theorem dX7_mayCallFrom_50 : decode cX7_mayCallFrom 50 = .ok (.iload_n 3, 1) := dk_29 (dk_at dksX7_mayCallFrom_2 3 rfl rfl)
theorem dX7_mayCallFrom_51 : decode cX7_mayCallFrom 51 = .ok (.ifCond .eq 36, 3) := dk_153 0 36 (dk_at dksX7_mayCallFrom_2 4 rfl rfl)
theorem dX7_mayCallFrom_54 : decode cX7_mayCallFrom 54 = .ok (.aload_n 0, 1) := dk_42 (dk_at dksX7_mayCallFrom_2 7 rfl rfl)
theorem dX7_mayCallFrom_55 : decode cX7_mayCallFrom 55 = .ok (.aload_n 0, 1) := dk_42 (dk_at dksX7_mayCallFrom_2 8 rfl rfl)
theorem dX7_mayCallFrom_56 : decode cX7_mayCallFrom 56 = .ok (.getfield 63, 3) := dk_180 0 63 (dk_at dksX7_mayCallFrom_2 9 rfl rfl)
theorem dX7_mayCallFrom_59 : decode cX7_mayCallFrom 59 = .ok (.iconst 3, 1) := dk_6 (dk_at dksX7_mayCallFrom_2 12 rfl rfl)
theorem dX7_mayCallFrom_60 : decode cX7_mayCallFrom 60 = .ok (.iload_n 1, 1) := dk_27 (dk_at dksX7_mayCallFrom_2 13 rfl rfl)
theorem dX7_mayCallFrom_61 : decode cX7_mayCallFrom 61 = .ok (.imul, 1) := dk_104 (dk_at dksX7_mayCallFrom_2 14 rfl rfl)
theorem dX7_mayCallFrom_62 : decode cX7_mayCallFrom 62 = .ok (.iload 4, 2) := dk_21 4 (dk_at dksX7_mayCallFrom_2 15 rfl rfl)
theorem dX7_mayCallFrom_64 : decode cX7_mayCallFrom 64 = .ok (.iadd, 1) := dk_96 (dk_at dksX7_mayCallFrom_2 17 rfl rfl)
theorem dX7_mayCallFrom_65 : decode cX7_mayCallFrom 65 = .ok (.iaload, 1) := dk_46 (dk_at dksX7_mayCallFrom_2 18 rfl rfl)
theorem dX7_mayCallFrom_66 : decode cX7_mayCallFrom 66 = .ok (.aload_n 0, 1) := dk_42 (dk_at dksX7_mayCallFrom_2 19 rfl rfl)
theorem dX7_mayCallFrom_67 : decode cX7_mayCallFrom 67 = .ok (.getfield 63, 3) := dk_180 0 63 (dk_at dksX7_mayCallFrom_2 20 rfl rfl)
theorem dX7_mayCallFrom_70 : decode cX7_mayCallFrom 70 = .ok (.iconst 3, 1) := dk_6 (dk_at dksX7_mayCallFrom_2 23 rfl rfl)
theorem dX7_mayCallFrom_71 : decode cX7_mayCallFrom 71 = .ok (.iload_n 2, 1) := dk_28 (dk_at dksX7_mayCallFrom_3 0 rfl rfl)
theorem dX7_mayCallFrom_72 : decode cX7_mayCallFrom 72 = .ok (.imul, 1) := dk_104 (dk_at dksX7_mayCallFrom_3 1 rfl rfl)
theorem dX7_mayCallFrom_73 : decode cX7_mayCallFrom 73 = .ok (.iload 4, 2) := dk_21 4 (dk_at dksX7_mayCallFrom_3 2 rfl rfl)
theorem dX7_mayCallFrom_75 : decode cX7_mayCallFrom 75 = .ok (.iadd, 1) := dk_96 (dk_at dksX7_mayCallFrom_3 4 rfl rfl)
theorem dX7_mayCallFrom_76 : decode cX7_mayCallFrom 76 = .ok (.iaload, 1) := dk_46 (dk_at dksX7_mayCallFrom_3 5 rfl rfl)
theorem dX7_mayCallFrom_77 : decode cX7_mayCallFrom 77 = .ok (.invokevirtual 176, 3) := dk_182 0 176 (dk_at dksX7_mayCallFrom_3 6 rfl rfl)
theorem dX7_mayCallFrom_80 : decode cX7_mayCallFrom 80 = .ok (.ifCond .eq 7, 3) := dk_153 0 7 (dk_at dksX7_mayCallFrom_3 9 rfl rfl)
theorem dX7_mayCallFrom_83 : decode cX7_mayCallFrom 83 = .ok (.iconst 1, 1) := dk_4 (dk_at dksX7_mayCallFrom_3 12 rfl rfl)
theorem dX7_mayCallFrom_84 : decode cX7_mayCallFrom 84 = .ok (.goto 4, 3) := dk_167 0 4 (dk_at dksX7_mayCallFrom_3 13 rfl rfl)
theorem dX7_mayCallFrom_87 : decode cX7_mayCallFrom 87 = .ok (.iconst 0, 1) := dk_3 (dk_at dksX7_mayCallFrom_3 16 rfl rfl)
theorem dX7_mayCallFrom_88 : decode cX7_mayCallFrom 88 = .ok (.istore_n 3, 1) := dk_62 (dk_at dksX7_mayCallFrom_3 17 rfl rfl)
theorem dX7_mayCallFrom_89 : decode cX7_mayCallFrom 89 = .ok (.iinc 4 1, 3) := dk_132 4 1 (dk_at dksX7_mayCallFrom_3 18 rfl rfl)
theorem dX7_mayCallFrom_92 : decode cX7_mayCallFrom 92 = .ok (.goto (-53), 3) := dk_167 255 203 (dk_at dksX7_mayCallFrom_3 21 rfl rfl)
theorem dX7_mayCallFrom_95 : decode cX7_mayCallFrom 95 = .ok (.aload_n 0, 1) := dk_42 (dk_at dksX7_mayCallFrom_4 0 rfl rfl)
theorem dX7_mayCallFrom_96 : decode cX7_mayCallFrom 96 = .ok (.aload_n 0, 1) := dk_42 (dk_at dksX7_mayCallFrom_4 1 rfl rfl)
theorem dX7_mayCallFrom_97 : decode cX7_mayCallFrom 97 = .ok (.getfield 57, 3) := dk_180 0 57 (dk_at dksX7_mayCallFrom_4 2 rfl rfl)
theorem dX7_mayCallFrom_100 : decode cX7_mayCallFrom 100 = .ok (.iload_n 2, 1) := dk_28 (dk_at dksX7_mayCallFrom_4 5 rfl rfl)
theorem dX7_mayCallFrom_101 : decode cX7_mayCallFrom 101 = .ok (.iaload, 1) := dk_46 (dk_at dksX7_mayCallFrom_4 6 rfl rfl)
theorem dX7_mayCallFrom_102 : decode cX7_mayCallFrom 102 = .ok (.putfield 385, 3) := dk_181 1 129 (dk_at dksX7_mayCallFrom_4 7 rfl rfl)
theorem dX7_mayCallFrom_105 : decode cX7_mayCallFrom 105 = .ok (.iload_n 3, 1) := dk_29 (dk_at dksX7_mayCallFrom_4 10 rfl rfl)
theorem dX7_mayCallFrom_106 : decode cX7_mayCallFrom 106 = .ok (.ireturn, 1) := dk_172 (dk_at dksX7_mayCallFrom_4 11 rfl rfl)
abbrev cX7_isNumber : ByteArray := prog_30_method_90_code
def yX7_isNumber : MethodName := ⟨RX7, "isNumber", "(II)Z"⟩
def dkwX7_isNumber_1 : List UInt8 := [184, 0, 127, 153, 0, 7, 4, 167, 0, 4, 3, 172]
abbrev dktX7_isNumber_1 : List UInt8 := dkwX7_isNumber_1 ++ []
def dkwX7_isNumber_0 : List UInt8 := [42, 27, 28, 182, 1, 126, 153, 0, 28, 42, 180, 0, 63, 6, 27, 104, 28, 96, 46, 133, 10, 20, 1, 84]
abbrev dktX7_isNumber_0 : List UInt8 := dkwX7_isNumber_0 ++ dktX7_isNumber_1
theorem dksX7_isNumber_0 : cX7_isNumber.data.toList.drop 0 = dktX7_isNumber_0 := by decide +kernel
theorem dksX7_isNumber_1 : cX7_isNumber.data.toList.drop 24 = dktX7_isNumber_1 := dk_seg dksX7_isNumber_0 24 rfl rfl
theorem dX7_isNumber_0 : decode cX7_isNumber 0 = .ok (.aload_n 0, 1) := dk_42 (dk_at dksX7_isNumber_0 0 rfl rfl)
theorem dX7_isNumber_1 : decode cX7_isNumber 1 = .ok (.iload_n 1, 1) := dk_27 (dk_at dksX7_isNumber_0 1 rfl rfl)
theorem dX7_isNumber_2 : decode cX7_isNumber 2 = .ok (.iload_n 2, 1) := dk_28 (dk_at dksX7_isNumber_0 2 rfl rfl)
theorem dX7_isNumber_3 : decode cX7_isNumber 3 = .ok (.invokevirtual 382, 3) := dk_182 1 126 (dk_at dksX7_isNumber_0 3 rfl rfl)
theorem dX7_isNumber_6 : decode cX7_isNumber 6 = .ok (.ifCond .eq 28, 3) := dk_153 0 28 (dk_at dksX7_isNumber_0 6 rfl rfl)
theorem dX7_isNumber_9 : decode cX7_isNumber 9 = .ok (.aload_n 0, 1) := dk_42 (dk_at dksX7_isNumber_0 9 rfl rfl)
theorem dX7_isNumber_10 : decode cX7_isNumber 10 = .ok (.getfield 63, 3) := dk_180 0 63 (dk_at dksX7_isNumber_0 10 rfl rfl)
theorem dX7_isNumber_13 : decode cX7_isNumber 13 = .ok (.iconst 3, 1) := dk_6 (dk_at dksX7_isNumber_0 13 rfl rfl)
theorem dX7_isNumber_14 : decode cX7_isNumber 14 = .ok (.iload_n 1, 1) := dk_27 (dk_at dksX7_isNumber_0 14 rfl rfl)
theorem dX7_isNumber_15 : decode cX7_isNumber 15 = .ok (.imul, 1) := dk_104 (dk_at dksX7_isNumber_0 15 rfl rfl)
theorem dX7_isNumber_16 : decode cX7_isNumber 16 = .ok (.iload_n 2, 1) := dk_28 (dk_at dksX7_isNumber_0 16 rfl rfl)
theorem dX7_isNumber_17 : decode cX7_isNumber 17 = .ok (.iadd, 1) := dk_96 (dk_at dksX7_isNumber_0 17 rfl rfl)
theorem dX7_isNumber_18 : decode cX7_isNumber 18 = .ok (.iaload, 1) := dk_46 (dk_at dksX7_isNumber_0 18 rfl rfl)
theorem dX7_isNumber_19 : decode cX7_isNumber 19 = .ok (.i2l, 1) := dk_133 (dk_at dksX7_isNumber_0 19 rfl rfl)
theorem dX7_isNumber_20 : decode cX7_isNumber 20 = .ok (.lconst 1, 1) := dk_10 (dk_at dksX7_isNumber_0 20 rfl rfl)
theorem dX7_isNumber_21 : decode cX7_isNumber 21 = .ok (.ldc2_w 340, 3) := dk_20 1 84 (dk_at dksX7_isNumber_0 21 rfl rfl)
theorem dX7_isNumber_24 : decode cX7_isNumber 24 = .ok (.invokestatic 127, 3) := dk_184 0 127 (dk_at dksX7_isNumber_1 0 rfl rfl)
theorem dX7_isNumber_27 : decode cX7_isNumber 27 = .ok (.ifCond .eq 7, 3) := dk_153 0 7 (dk_at dksX7_isNumber_1 3 rfl rfl)
theorem dX7_isNumber_30 : decode cX7_isNumber 30 = .ok (.iconst 1, 1) := dk_4 (dk_at dksX7_isNumber_1 6 rfl rfl)
theorem dX7_isNumber_31 : decode cX7_isNumber 31 = .ok (.goto 4, 3) := dk_167 0 4 (dk_at dksX7_isNumber_1 7 rfl rfl)
theorem dX7_isNumber_34 : decode cX7_isNumber 34 = .ok (.iconst 0, 1) := dk_3 (dk_at dksX7_isNumber_1 10 rfl rfl)
theorem dX7_isNumber_35 : decode cX7_isNumber 35 = .ok (.ireturn, 1) := dk_172 (dk_at dksX7_isNumber_1 11 rfl rfl)
abbrev cX7_sumType : ByteArray := prog_30_method_91_code
def yX7_sumType : MethodName := ⟨RX7, "sumType", "(II)I"⟩
def dkwX7_sumType_0 : List UInt8 := [26, 27, 164, 0, 7, 26, 167, 0, 4, 27, 61, 28, 7, 164, 0, 7, 28, 167, 0, 4, 7, 172]
abbrev dktX7_sumType_0 : List UInt8 := dkwX7_sumType_0 ++ []
theorem dksX7_sumType_0 : cX7_sumType.data.toList.drop 0 = dktX7_sumType_0 := by decide +kernel
theorem dX7_sumType_0 : decode cX7_sumType 0 = .ok (.iload_n 0, 1) := dk_26 (dk_at dksX7_sumType_0 0 rfl rfl)
theorem dX7_sumType_1 : decode cX7_sumType 1 = .ok (.iload_n 1, 1) := dk_27 (dk_at dksX7_sumType_0 1 rfl rfl)
theorem dX7_sumType_2 : decode cX7_sumType 2 = .ok (.if_icmp .le 7, 3) := dk_164 0 7 (dk_at dksX7_sumType_0 2 rfl rfl)
theorem dX7_sumType_5 : decode cX7_sumType 5 = .ok (.iload_n 0, 1) := dk_26 (dk_at dksX7_sumType_0 5 rfl rfl)
theorem dX7_sumType_6 : decode cX7_sumType 6 = .ok (.goto 4, 3) := dk_167 0 4 (dk_at dksX7_sumType_0 6 rfl rfl)
theorem dX7_sumType_9 : decode cX7_sumType 9 = .ok (.iload_n 1, 1) := dk_27 (dk_at dksX7_sumType_0 9 rfl rfl)
theorem dX7_sumType_10 : decode cX7_sumType 10 = .ok (.istore_n 2, 1) := dk_61 (dk_at dksX7_sumType_0 10 rfl rfl)
theorem dX7_sumType_11 : decode cX7_sumType 11 = .ok (.iload_n 2, 1) := dk_28 (dk_at dksX7_sumType_0 11 rfl rfl)
theorem dX7_sumType_12 : decode cX7_sumType 12 = .ok (.iconst 4, 1) := dk_7 (dk_at dksX7_sumType_0 12 rfl rfl)
theorem dX7_sumType_13 : decode cX7_sumType 13 = .ok (.if_icmp .le 7, 3) := dk_164 0 7 (dk_at dksX7_sumType_0 13 rfl rfl)
theorem dX7_sumType_16 : decode cX7_sumType 16 = .ok (.iload_n 2, 1) := dk_28 (dk_at dksX7_sumType_0 16 rfl rfl)
theorem dX7_sumType_17 : decode cX7_sumType 17 = .ok (.goto 4, 3) := dk_167 0 4 (dk_at dksX7_sumType_0 17 rfl rfl)
theorem dX7_sumType_20 : decode cX7_sumType 20 = .ok (.iconst 4, 1) := dk_7 (dk_at dksX7_sumType_0 20 rfl rfl)
theorem dX7_sumType_21 : decode cX7_sumType 21 = .ok (.ireturn, 1) := dk_172 (dk_at dksX7_sumType_0 21 rfl rfl)
abbrev cX7_mayGoUp : ByteArray := prog_30_method_95_code
def yX7_mayGoUp : MethodName := ⟨RX7, "mayGoUp", "(I)Z"⟩
def dkwX7_mayGoUp_3 : List UInt8 := [172]
abbrev dktX7_mayGoUp_3 : List UInt8 := dkwX7_mayGoUp_3 ++ []
def dkwX7_mayGoUp_2 : List UInt8 := [182, 0, 221, 154, 0, 11, 42, 29, 182, 0, 224, 153, 0, 5, 3, 172, 42, 180, 0, 81, 27, 29, 79, 4]
abbrev dktX7_mayGoUp_2 : List UInt8 := dkwX7_mayGoUp_2 ++ dktX7_mayGoUp_3
def dkwX7_mayGoUp_1 : List UInt8 := [5, 182, 0, 253, 62, 29, 2, 159, 0, 30, 42, 29, 16, 16, 182, 0, 221, 154, 0, 20, 42, 29, 7]
abbrev dktX7_mayGoUp_1 : List UInt8 := dkwX7_mayGoUp_1 ++ dktX7_mayGoUp_2
def dkwX7_mayGoUp_0 : List UInt8 := [42, 180, 0, 17, 42, 180, 0, 45, 27, 46, 46, 61, 28, 2, 160, 0, 7, 2, 167, 0, 10, 42, 28, 27]
abbrev dktX7_mayGoUp_0 : List UInt8 := dkwX7_mayGoUp_0 ++ dktX7_mayGoUp_1
theorem dksX7_mayGoUp_0 : cX7_mayGoUp.data.toList.drop 0 = dktX7_mayGoUp_0 := by decide +kernel
theorem dksX7_mayGoUp_1 : cX7_mayGoUp.data.toList.drop 24 = dktX7_mayGoUp_1 := dk_seg dksX7_mayGoUp_0 24 rfl rfl
theorem dksX7_mayGoUp_2 : cX7_mayGoUp.data.toList.drop 47 = dktX7_mayGoUp_2 := dk_seg dksX7_mayGoUp_1 23 rfl rfl
theorem dksX7_mayGoUp_3 : cX7_mayGoUp.data.toList.drop 71 = dktX7_mayGoUp_3 := dk_seg dksX7_mayGoUp_2 24 rfl rfl
theorem dX7_mayGoUp_0 : decode cX7_mayGoUp 0 = .ok (.aload_n 0, 1) := dk_42 (dk_at dksX7_mayGoUp_0 0 rfl rfl)
theorem dX7_mayGoUp_1 : decode cX7_mayGoUp 1 = .ok (.getfield 17, 3) := dk_180 0 17 (dk_at dksX7_mayGoUp_0 1 rfl rfl)
theorem dX7_mayGoUp_4 : decode cX7_mayGoUp 4 = .ok (.aload_n 0, 1) := dk_42 (dk_at dksX7_mayGoUp_0 4 rfl rfl)
theorem dX7_mayGoUp_5 : decode cX7_mayGoUp 5 = .ok (.getfield 45, 3) := dk_180 0 45 (dk_at dksX7_mayGoUp_0 5 rfl rfl)
theorem dX7_mayGoUp_8 : decode cX7_mayGoUp 8 = .ok (.iload_n 1, 1) := dk_27 (dk_at dksX7_mayGoUp_0 8 rfl rfl)
theorem dX7_mayGoUp_9 : decode cX7_mayGoUp 9 = .ok (.iaload, 1) := dk_46 (dk_at dksX7_mayGoUp_0 9 rfl rfl)
theorem dX7_mayGoUp_10 : decode cX7_mayGoUp 10 = .ok (.iaload, 1) := dk_46 (dk_at dksX7_mayGoUp_0 10 rfl rfl)
theorem dX7_mayGoUp_11 : decode cX7_mayGoUp 11 = .ok (.istore_n 2, 1) := dk_61 (dk_at dksX7_mayGoUp_0 11 rfl rfl)
theorem dX7_mayGoUp_12 : decode cX7_mayGoUp 12 = .ok (.iload_n 2, 1) := dk_28 (dk_at dksX7_mayGoUp_0 12 rfl rfl)
theorem dX7_mayGoUp_13 : decode cX7_mayGoUp 13 = .ok (.iconst (-1), 1) := dk_2 (dk_at dksX7_mayGoUp_0 13 rfl rfl)
theorem dX7_mayGoUp_14 : decode cX7_mayGoUp 14 = .ok (.if_icmp .ne 7, 3) := dk_160 0 7 (dk_at dksX7_mayGoUp_0 14 rfl rfl)
theorem dX7_mayGoUp_17 : decode cX7_mayGoUp 17 = .ok (.iconst (-1), 1) := dk_2 (dk_at dksX7_mayGoUp_0 17 rfl rfl)
theorem dX7_mayGoUp_18 : decode cX7_mayGoUp 18 = .ok (.goto 10, 3) := dk_167 0 10 (dk_at dksX7_mayGoUp_0 18 rfl rfl)
theorem dX7_mayGoUp_21 : decode cX7_mayGoUp 21 = .ok (.aload_n 0, 1) := dk_42 (dk_at dksX7_mayGoUp_0 21 rfl rfl)
theorem dX7_mayGoUp_22 : decode cX7_mayGoUp 22 = .ok (.iload_n 2, 1) := dk_28 (dk_at dksX7_mayGoUp_0 22 rfl rfl)
theorem dX7_mayGoUp_23 : decode cX7_mayGoUp 23 = .ok (.iload_n 1, 1) := dk_27 (dk_at dksX7_mayGoUp_0 23 rfl rfl)
theorem dX7_mayGoUp_24 : decode cX7_mayGoUp 24 = .ok (.iconst 2, 1) := dk_5 (dk_at dksX7_mayGoUp_1 0 rfl rfl)
theorem dX7_mayGoUp_25 : decode cX7_mayGoUp 25 = .ok (.invokevirtual 253, 3) := dk_182 0 253 (dk_at dksX7_mayGoUp_1 1 rfl rfl)
theorem dX7_mayGoUp_28 : decode cX7_mayGoUp 28 = .ok (.istore_n 3, 1) := dk_62 (dk_at dksX7_mayGoUp_1 4 rfl rfl)
theorem dX7_mayGoUp_29 : decode cX7_mayGoUp 29 = .ok (.iload_n 3, 1) := dk_29 (dk_at dksX7_mayGoUp_1 5 rfl rfl)
theorem dX7_mayGoUp_30 : decode cX7_mayGoUp 30 = .ok (.iconst (-1), 1) := dk_2 (dk_at dksX7_mayGoUp_1 6 rfl rfl)
theorem dX7_mayGoUp_31 : decode cX7_mayGoUp 31 = .ok (.if_icmp .eq 30, 3) := dk_159 0 30 (dk_at dksX7_mayGoUp_1 7 rfl rfl)
theorem dX7_mayGoUp_34 : decode cX7_mayGoUp 34 = .ok (.aload_n 0, 1) := dk_42 (dk_at dksX7_mayGoUp_1 10 rfl rfl)
theorem dX7_mayGoUp_35 : decode cX7_mayGoUp 35 = .ok (.iload_n 3, 1) := dk_29 (dk_at dksX7_mayGoUp_1 11 rfl rfl)
theorem dX7_mayGoUp_36 : decode cX7_mayGoUp 36 = .ok (.bipush 16, 2) := dk_16 16 (dk_at dksX7_mayGoUp_1 12 rfl rfl)
theorem dX7_mayGoUp_38 : decode cX7_mayGoUp 38 = .ok (.invokevirtual 221, 3) := dk_182 0 221 (dk_at dksX7_mayGoUp_1 14 rfl rfl)
theorem dX7_mayGoUp_41 : decode cX7_mayGoUp 41 = .ok (.ifCond .ne 20, 3) := dk_154 0 20 (dk_at dksX7_mayGoUp_1 17 rfl rfl)
theorem dX7_mayGoUp_44 : decode cX7_mayGoUp 44 = .ok (.aload_n 0, 1) := dk_42 (dk_at dksX7_mayGoUp_1 20 rfl rfl)
theorem dX7_mayGoUp_45 : decode cX7_mayGoUp 45 = .ok (.iload_n 3, 1) := dk_29 (dk_at dksX7_mayGoUp_1 21 rfl rfl)
theorem dX7_mayGoUp_46 : decode cX7_mayGoUp 46 = .ok (.iconst 4, 1) := dk_7 (dk_at dksX7_mayGoUp_1 22 rfl rfl)
theorem dX7_mayGoUp_47 : decode cX7_mayGoUp 47 = .ok (.invokevirtual 221, 3) := dk_182 0 221 (dk_at dksX7_mayGoUp_2 0 rfl rfl)
theorem dX7_mayGoUp_50 : decode cX7_mayGoUp 50 = .ok (.ifCond .ne 11, 3) := dk_154 0 11 (dk_at dksX7_mayGoUp_2 3 rfl rfl)
theorem dX7_mayGoUp_53 : decode cX7_mayGoUp 53 = .ok (.aload_n 0, 1) := dk_42 (dk_at dksX7_mayGoUp_2 6 rfl rfl)
theorem dX7_mayGoUp_54 : decode cX7_mayGoUp 54 = .ok (.iload_n 3, 1) := dk_29 (dk_at dksX7_mayGoUp_2 7 rfl rfl)
theorem dX7_mayGoUp_55 : decode cX7_mayGoUp 55 = .ok (.invokevirtual 224, 3) := dk_182 0 224 (dk_at dksX7_mayGoUp_2 8 rfl rfl)
theorem dX7_mayGoUp_58 : decode cX7_mayGoUp 58 = .ok (.ifCond .eq 5, 3) := dk_153 0 5 (dk_at dksX7_mayGoUp_2 11 rfl rfl)
theorem dX7_mayGoUp_61 : decode cX7_mayGoUp 61 = .ok (.iconst 0, 1) := dk_3 (dk_at dksX7_mayGoUp_2 14 rfl rfl)
theorem dX7_mayGoUp_62 : decode cX7_mayGoUp 62 = .ok (.ireturn, 1) := dk_172 (dk_at dksX7_mayGoUp_2 15 rfl rfl)
theorem dX7_mayGoUp_63 : decode cX7_mayGoUp 63 = .ok (.aload_n 0, 1) := dk_42 (dk_at dksX7_mayGoUp_2 16 rfl rfl)
theorem dX7_mayGoUp_64 : decode cX7_mayGoUp 64 = .ok (.getfield 81, 3) := dk_180 0 81 (dk_at dksX7_mayGoUp_2 17 rfl rfl)
theorem dX7_mayGoUp_67 : decode cX7_mayGoUp 67 = .ok (.iload_n 1, 1) := dk_27 (dk_at dksX7_mayGoUp_2 20 rfl rfl)
theorem dX7_mayGoUp_68 : decode cX7_mayGoUp 68 = .ok (.iload_n 3, 1) := dk_29 (dk_at dksX7_mayGoUp_2 21 rfl rfl)
theorem dX7_mayGoUp_69 : decode cX7_mayGoUp 69 = .ok (.iastore, 1) := dk_79 (dk_at dksX7_mayGoUp_2 22 rfl rfl)
theorem dX7_mayGoUp_70 : decode cX7_mayGoUp 70 = .ok (.iconst 1, 1) := dk_4 (dk_at dksX7_mayGoUp_2 23 rfl rfl)
theorem dX7_mayGoUp_71 : decode cX7_mayGoUp 71 = .ok (.ireturn, 1) := dk_172 (dk_at dksX7_mayGoUp_3 0 rfl rfl)
abbrev cX7_call : ByteArray := prog_30_method_105_code
def yX7_call : MethodName := ⟨RX7, "call", "(IIII)I"⟩
def dkwX7_call_12 : List UInt8 := [172]
abbrev dktX7_call_12 : List UInt8 := dkwX7_call_12 ++ []
def dkwX7_call_11 : List UInt8 := [16, 8, 162, 0, 12, 42, 180, 0, 57, 27, 46, 167, 0, 5, 16, 8, 42, 180, 1, 176, 182, 1, 95, 4]
abbrev dktX7_call_11 : List UInt8 := dkwX7_call_11 ++ dktX7_call_12
def dkwX7_call_10 : List UInt8 := [160, 0, 14, 42, 21, 4, 7, 9, 182, 1, 95, 167, 0, 35, 42, 21, 4, 42, 180, 0, 57, 27, 46]
abbrev dktX7_call_10 : List UInt8 := dkwX7_call_10 ++ dktX7_call_11
def dkwX7_call_9 : List UInt8 := [158, 0, 16, 42, 89, 180, 1, 211, 4, 96, 181, 1, 211, 16, 237, 172, 42, 180, 0, 57, 27, 46, 2]
abbrev dktX7_call_9 : List UInt8 := dkwX7_call_9 ++ dktX7_call_10
def dkwX7_call_8 : List UInt8 := [184, 1, 112, 80, 132, 6, 1, 167, 255, 212, 42, 28, 181, 1, 170, 42, 27, 182, 1, 208, 42, 180, 1, 151]
abbrev dktX7_call_8 : List UInt8 := dkwX7_call_8 ++ dktX7_call_9
def dkwX7_call_7 : List UInt8 := [180, 0, 103, 21, 6, 47, 42, 180, 0, 100, 21, 6, 46, 42, 180, 0, 63, 6, 27, 104, 21, 6, 96, 46]
abbrev dktX7_call_7 : List UInt8 := dkwX7_call_7 ++ dktX7_call_8
def dkwX7_call_6 : List UInt8 := [16, 246, 21, 5, 100, 172, 3, 54, 6, 21, 6, 29, 162, 0, 44, 42, 180, 0, 121, 21, 6, 42]
abbrev dktX7_call_6 : List UInt8 := dkwX7_call_6 ++ dktX7_call_7
def dkwX7_call_5 : List UInt8 := [182, 1, 116, 153, 0, 7, 3, 167, 0, 4, 5, 54, 5, 132, 6, 1, 167, 255, 215, 21, 5, 158, 0, 9]
abbrev dktX7_call_5 : List UInt8 := dkwX7_call_5 ++ dktX7_call_6
def dkwX7_call_4 : List UInt8 := [162, 0, 41, 21, 5, 154, 0, 36, 42, 21, 6, 42, 180, 0, 63, 6, 27, 104, 21, 6, 96, 46]
abbrev dktX7_call_4 : List UInt8 := dkwX7_call_4 ++ dktX7_call_5
def dkwX7_call_3 : List UInt8 := [180, 0, 60, 27, 46, 159, 0, 7, 5, 167, 0, 5, 21, 5, 54, 5, 3, 54, 6, 21, 6, 29]
abbrev dktX7_call_3 : List UInt8 := dkwX7_call_3 ++ dktX7_call_4
def dkwX7_call_2 : List UInt8 := [154, 0, 8, 16, 6, 167, 0, 9, 42, 27, 28, 182, 1, 102, 54, 5, 21, 5, 154, 0, 17, 29, 42]
abbrev dktX7_call_2 : List UInt8 := dkwX7_call_2 ++ dktX7_call_3
def dkwX7_call_1 : List UInt8 := [184, 0, 127, 153, 0, 11, 21, 4, 184, 1, 86, 154, 0, 5, 2, 172, 42, 27, 28, 182, 1, 11]
abbrev dktX7_call_1 : List UInt8 := dkwX7_call_1 ++ dktX7_call_2
def dkwX7_call_0 : List UInt8 := [42, 27, 182, 0, 250, 153, 0, 31, 42, 28, 182, 1, 8, 153, 0, 23, 29, 133, 9, 20, 0, 159]
abbrev dktX7_call_0 : List UInt8 := dkwX7_call_0 ++ dktX7_call_1
theorem dksX7_call_0 : cX7_call.data.toList.drop 0 = dktX7_call_0 := by decide +kernel
theorem dksX7_call_1 : cX7_call.data.toList.drop 22 = dktX7_call_1 := dk_seg dksX7_call_0 22 rfl rfl
theorem dksX7_call_2 : cX7_call.data.toList.drop 44 = dktX7_call_2 := dk_seg dksX7_call_1 22 rfl rfl
theorem dksX7_call_3 : cX7_call.data.toList.drop 67 = dktX7_call_3 := dk_seg dksX7_call_2 23 rfl rfl
theorem dksX7_call_4 : cX7_call.data.toList.drop 89 = dktX7_call_4 := dk_seg dksX7_call_3 22 rfl rfl
theorem dksX7_call_5 : cX7_call.data.toList.drop 111 = dktX7_call_5 := dk_seg dksX7_call_4 22 rfl rfl
theorem dksX7_call_6 : cX7_call.data.toList.drop 135 = dktX7_call_6 := dk_seg dksX7_call_5 24 rfl rfl
theorem dksX7_call_7 : cX7_call.data.toList.drop 157 = dktX7_call_7 := dk_seg dksX7_call_6 22 rfl rfl
theorem dksX7_call_8 : cX7_call.data.toList.drop 181 = dktX7_call_8 := dk_seg dksX7_call_7 24 rfl rfl
theorem dksX7_call_9 : cX7_call.data.toList.drop 205 = dktX7_call_9 := dk_seg dksX7_call_8 24 rfl rfl
theorem dksX7_call_10 : cX7_call.data.toList.drop 228 = dktX7_call_10 := dk_seg dksX7_call_9 23 rfl rfl
theorem dksX7_call_11 : cX7_call.data.toList.drop 251 = dktX7_call_11 := dk_seg dksX7_call_10 23 rfl rfl
theorem dksX7_call_12 : cX7_call.data.toList.drop 275 = dktX7_call_12 := dk_seg dksX7_call_11 24 rfl rfl
theorem dX7_call_0 : decode cX7_call 0 = .ok (.aload_n 0, 1) := dk_42 (dk_at dksX7_call_0 0 rfl rfl)
theorem dX7_call_1 : decode cX7_call 1 = .ok (.iload_n 1, 1) := dk_27 (dk_at dksX7_call_0 1 rfl rfl)
theorem dX7_call_2 : decode cX7_call 2 = .ok (.invokevirtual 250, 3) := dk_182 0 250 (dk_at dksX7_call_0 2 rfl rfl)
theorem dX7_call_5 : decode cX7_call 5 = .ok (.ifCond .eq 31, 3) := dk_153 0 31 (dk_at dksX7_call_0 5 rfl rfl)
theorem dX7_call_8 : decode cX7_call 8 = .ok (.aload_n 0, 1) := dk_42 (dk_at dksX7_call_0 8 rfl rfl)
theorem dX7_call_9 : decode cX7_call 9 = .ok (.iload_n 2, 1) := dk_28 (dk_at dksX7_call_0 9 rfl rfl)
theorem dX7_call_10 : decode cX7_call 10 = .ok (.invokevirtual 264, 3) := dk_182 1 8 (dk_at dksX7_call_0 10 rfl rfl)
theorem dX7_call_13 : decode cX7_call 13 = .ok (.ifCond .eq 23, 3) := dk_153 0 23 (dk_at dksX7_call_0 13 rfl rfl)
theorem dX7_call_16 : decode cX7_call 16 = .ok (.iload_n 3, 1) := dk_29 (dk_at dksX7_call_0 16 rfl rfl)
theorem dX7_call_17 : decode cX7_call 17 = .ok (.i2l, 1) := dk_133 (dk_at dksX7_call_0 17 rfl rfl)
theorem dX7_call_18 : decode cX7_call 18 = .ok (.lconst 0, 1) := dk_9 (dk_at dksX7_call_0 18 rfl rfl)
theorem dX7_call_19 : decode cX7_call 19 = .ok (.ldc2_w 159, 3) := dk_20 0 159 (dk_at dksX7_call_0 19 rfl rfl)
theorem dX7_call_22 : decode cX7_call 22 = .ok (.invokestatic 127, 3) := dk_184 0 127 (dk_at dksX7_call_1 0 rfl rfl)
theorem dX7_call_25 : decode cX7_call 25 = .ok (.ifCond .eq 11, 3) := dk_153 0 11 (dk_at dksX7_call_1 3 rfl rfl)
theorem dX7_call_28 : decode cX7_call 28 = .ok (.iload 4, 2) := dk_21 4 (dk_at dksX7_call_1 6 rfl rfl)
theorem dX7_call_30 : decode cX7_call 30 = .ok (.invokestatic 342, 3) := dk_184 1 86 (dk_at dksX7_call_1 8 rfl rfl)
theorem dX7_call_33 : decode cX7_call 33 = .ok (.ifCond .ne 5, 3) := dk_154 0 5 (dk_at dksX7_call_1 11 rfl rfl)
theorem dX7_call_36 : decode cX7_call 36 = .ok (.iconst (-1), 1) := dk_2 (dk_at dksX7_call_1 14 rfl rfl)
theorem dX7_call_37 : decode cX7_call 37 = .ok (.ireturn, 1) := dk_172 (dk_at dksX7_call_1 15 rfl rfl)
theorem dX7_call_38 : decode cX7_call 38 = .ok (.aload_n 0, 1) := dk_42 (dk_at dksX7_call_1 16 rfl rfl)
theorem dX7_call_39 : decode cX7_call 39 = .ok (.iload_n 1, 1) := dk_27 (dk_at dksX7_call_1 17 rfl rfl)
theorem dX7_call_40 : decode cX7_call 40 = .ok (.iload_n 2, 1) := dk_28 (dk_at dksX7_call_1 18 rfl rfl)
theorem dX7_call_41 : decode cX7_call 41 = .ok (.invokevirtual 267, 3) := dk_182 1 11 (dk_at dksX7_call_1 19 rfl rfl)
theorem dX7_call_44 : decode cX7_call 44 = .ok (.ifCond .ne 8, 3) := dk_154 0 8 (dk_at dksX7_call_2 0 rfl rfl)
theorem dX7_call_47 : decode cX7_call 47 = .ok (.bipush 6, 2) := dk_16 6 (dk_at dksX7_call_2 3 rfl rfl)
theorem dX7_call_49 : decode cX7_call 49 = .ok (.goto 9, 3) := dk_167 0 9 (dk_at dksX7_call_2 5 rfl rfl)
theorem dX7_call_52 : decode cX7_call 52 = .ok (.aload_n 0, 1) := dk_42 (dk_at dksX7_call_2 8 rfl rfl)
theorem dX7_call_53 : decode cX7_call 53 = .ok (.iload_n 1, 1) := dk_27 (dk_at dksX7_call_2 9 rfl rfl)
theorem dX7_call_54 : decode cX7_call 54 = .ok (.iload_n 2, 1) := dk_28 (dk_at dksX7_call_2 10 rfl rfl)
theorem dX7_call_55 : decode cX7_call 55 = .ok (.invokevirtual 358, 3) := dk_182 1 102 (dk_at dksX7_call_2 11 rfl rfl)
theorem dX7_call_58 : decode cX7_call 58 = .ok (.istore 5, 2) := dk_54 5 (dk_at dksX7_call_2 14 rfl rfl)
theorem dX7_call_60 : decode cX7_call 60 = .ok (.iload 5, 2) := dk_21 5 (dk_at dksX7_call_2 16 rfl rfl)
theorem dX7_call_62 : decode cX7_call 62 = .ok (.ifCond .ne 17, 3) := dk_154 0 17 (dk_at dksX7_call_2 18 rfl rfl)
theorem dX7_call_65 : decode cX7_call 65 = .ok (.iload_n 3, 1) := dk_29 (dk_at dksX7_call_2 21 rfl rfl)
theorem dX7_call_66 : decode cX7_call 66 = .ok (.aload_n 0, 1) := dk_42 (dk_at dksX7_call_2 22 rfl rfl)
theorem dX7_call_67 : decode cX7_call 67 = .ok (.getfield 60, 3) := dk_180 0 60 (dk_at dksX7_call_3 0 rfl rfl)
theorem dX7_call_70 : decode cX7_call 70 = .ok (.iload_n 1, 1) := dk_27 (dk_at dksX7_call_3 3 rfl rfl)
theorem dX7_call_71 : decode cX7_call 71 = .ok (.iaload, 1) := dk_46 (dk_at dksX7_call_3 4 rfl rfl)
theorem dX7_call_72 : decode cX7_call 72 = .ok (.if_icmp .eq 7, 3) := dk_159 0 7 (dk_at dksX7_call_3 5 rfl rfl)
theorem dX7_call_75 : decode cX7_call 75 = .ok (.iconst 2, 1) := dk_5 (dk_at dksX7_call_3 8 rfl rfl)
theorem dX7_call_76 : decode cX7_call 76 = .ok (.goto 5, 3) := dk_167 0 5 (dk_at dksX7_call_3 9 rfl rfl)
theorem dX7_call_79 : decode cX7_call 79 = .ok (.iload 5, 2) := dk_21 5 (dk_at dksX7_call_3 12 rfl rfl)
theorem dX7_call_81 : decode cX7_call 81 = .ok (.istore 5, 2) := dk_54 5 (dk_at dksX7_call_3 14 rfl rfl)
theorem dX7_call_83 : decode cX7_call 83 = .ok (.iconst 0, 1) := dk_3 (dk_at dksX7_call_3 16 rfl rfl)
theorem dX7_call_84 : decode cX7_call 84 = .ok (.istore 6, 2) := dk_54 6 (dk_at dksX7_call_3 17 rfl rfl)
theorem dX7_call_86 : decode cX7_call 86 = .ok (.iload 6, 2) := dk_21 6 (dk_at dksX7_call_3 19 rfl rfl)
theorem dX7_call_88 : decode cX7_call 88 = .ok (.iload_n 3, 1) := dk_29 (dk_at dksX7_call_3 21 rfl rfl)
theorem dX7_call_89 : decode cX7_call 89 = .ok (.if_icmp .ge 41, 3) := dk_162 0 41 (dk_at dksX7_call_4 0 rfl rfl)
theorem dX7_call_92 : decode cX7_call 92 = .ok (.iload 5, 2) := dk_21 5 (dk_at dksX7_call_4 3 rfl rfl)
theorem dX7_call_94 : decode cX7_call 94 = .ok (.ifCond .ne 36, 3) := dk_154 0 36 (dk_at dksX7_call_4 5 rfl rfl)
theorem dX7_call_97 : decode cX7_call 97 = .ok (.aload_n 0, 1) := dk_42 (dk_at dksX7_call_4 8 rfl rfl)
theorem dX7_call_98 : decode cX7_call 98 = .ok (.iload 6, 2) := dk_21 6 (dk_at dksX7_call_4 9 rfl rfl)
theorem dX7_call_100 : decode cX7_call 100 = .ok (.aload_n 0, 1) := dk_42 (dk_at dksX7_call_4 11 rfl rfl)
theorem dX7_call_101 : decode cX7_call 101 = .ok (.getfield 63, 3) := dk_180 0 63 (dk_at dksX7_call_4 12 rfl rfl)
theorem dX7_call_104 : decode cX7_call 104 = .ok (.iconst 3, 1) := dk_6 (dk_at dksX7_call_4 15 rfl rfl)
theorem dX7_call_105 : decode cX7_call 105 = .ok (.iload_n 1, 1) := dk_27 (dk_at dksX7_call_4 16 rfl rfl)
theorem dX7_call_106 : decode cX7_call 106 = .ok (.imul, 1) := dk_104 (dk_at dksX7_call_4 17 rfl rfl)
theorem dX7_call_107 : decode cX7_call 107 = .ok (.iload 6, 2) := dk_21 6 (dk_at dksX7_call_4 18 rfl rfl)
theorem dX7_call_109 : decode cX7_call 109 = .ok (.iadd, 1) := dk_96 (dk_at dksX7_call_4 20 rfl rfl)
theorem dX7_call_110 : decode cX7_call 110 = .ok (.iaload, 1) := dk_46 (dk_at dksX7_call_4 21 rfl rfl)
theorem dX7_call_111 : decode cX7_call 111 = .ok (.invokevirtual 372, 3) := dk_182 1 116 (dk_at dksX7_call_5 0 rfl rfl)
theorem dX7_call_114 : decode cX7_call 114 = .ok (.ifCond .eq 7, 3) := dk_153 0 7 (dk_at dksX7_call_5 3 rfl rfl)
theorem dX7_call_117 : decode cX7_call 117 = .ok (.iconst 0, 1) := dk_3 (dk_at dksX7_call_5 6 rfl rfl)
theorem dX7_call_118 : decode cX7_call 118 = .ok (.goto 4, 3) := dk_167 0 4 (dk_at dksX7_call_5 7 rfl rfl)
theorem dX7_call_121 : decode cX7_call 121 = .ok (.iconst 2, 1) := dk_5 (dk_at dksX7_call_5 10 rfl rfl)
theorem dX7_call_122 : decode cX7_call 122 = .ok (.istore 5, 2) := dk_54 5 (dk_at dksX7_call_5 11 rfl rfl)
theorem dX7_call_124 : decode cX7_call 124 = .ok (.iinc 6 1, 3) := dk_132 6 1 (dk_at dksX7_call_5 13 rfl rfl)
theorem dX7_call_127 : decode cX7_call 127 = .ok (.goto (-41), 3) := dk_167 255 215 (dk_at dksX7_call_5 16 rfl rfl)
theorem dX7_call_130 : decode cX7_call 130 = .ok (.iload 5, 2) := dk_21 5 (dk_at dksX7_call_5 19 rfl rfl)
theorem dX7_call_132 : decode cX7_call 132 = .ok (.ifCond .le 9, 3) := dk_158 0 9 (dk_at dksX7_call_5 21 rfl rfl)
theorem dX7_call_135 : decode cX7_call 135 = .ok (.bipush (-10), 2) := dk_16 246 (dk_at dksX7_call_6 0 rfl rfl)
theorem dX7_call_137 : decode cX7_call 137 = .ok (.iload 5, 2) := dk_21 5 (dk_at dksX7_call_6 2 rfl rfl)
theorem dX7_call_139 : decode cX7_call 139 = .ok (.isub, 1) := dk_100 (dk_at dksX7_call_6 4 rfl rfl)
theorem dX7_call_140 : decode cX7_call 140 = .ok (.ireturn, 1) := dk_172 (dk_at dksX7_call_6 5 rfl rfl)
theorem dX7_call_141 : decode cX7_call 141 = .ok (.iconst 0, 1) := dk_3 (dk_at dksX7_call_6 6 rfl rfl)
theorem dX7_call_142 : decode cX7_call 142 = .ok (.istore 6, 2) := dk_54 6 (dk_at dksX7_call_6 7 rfl rfl)
theorem dX7_call_144 : decode cX7_call 144 = .ok (.iload 6, 2) := dk_21 6 (dk_at dksX7_call_6 9 rfl rfl)
theorem dX7_call_146 : decode cX7_call 146 = .ok (.iload_n 3, 1) := dk_29 (dk_at dksX7_call_6 11 rfl rfl)
theorem dX7_call_147 : decode cX7_call 147 = .ok (.if_icmp .ge 44, 3) := dk_162 0 44 (dk_at dksX7_call_6 12 rfl rfl)
theorem dX7_call_150 : decode cX7_call 150 = .ok (.aload_n 0, 1) := dk_42 (dk_at dksX7_call_6 15 rfl rfl)
theorem dX7_call_151 : decode cX7_call 151 = .ok (.getfield 121, 3) := dk_180 0 121 (dk_at dksX7_call_6 16 rfl rfl)
theorem dX7_call_154 : decode cX7_call 154 = .ok (.iload 6, 2) := dk_21 6 (dk_at dksX7_call_6 19 rfl rfl)
theorem dX7_call_156 : decode cX7_call 156 = .ok (.aload_n 0, 1) := dk_42 (dk_at dksX7_call_6 21 rfl rfl)
theorem dX7_call_157 : decode cX7_call 157 = .ok (.getfield 103, 3) := dk_180 0 103 (dk_at dksX7_call_7 0 rfl rfl)
theorem dX7_call_160 : decode cX7_call 160 = .ok (.iload 6, 2) := dk_21 6 (dk_at dksX7_call_7 3 rfl rfl)
theorem dX7_call_162 : decode cX7_call 162 = .ok (.laload, 1) := dk_47 (dk_at dksX7_call_7 5 rfl rfl)
theorem dX7_call_163 : decode cX7_call 163 = .ok (.aload_n 0, 1) := dk_42 (dk_at dksX7_call_7 6 rfl rfl)
theorem dX7_call_164 : decode cX7_call 164 = .ok (.getfield 100, 3) := dk_180 0 100 (dk_at dksX7_call_7 7 rfl rfl)
theorem dX7_call_167 : decode cX7_call 167 = .ok (.iload 6, 2) := dk_21 6 (dk_at dksX7_call_7 10 rfl rfl)
theorem dX7_call_169 : decode cX7_call 169 = .ok (.iaload, 1) := dk_46 (dk_at dksX7_call_7 12 rfl rfl)
theorem dX7_call_170 : decode cX7_call 170 = .ok (.aload_n 0, 1) := dk_42 (dk_at dksX7_call_7 13 rfl rfl)
theorem dX7_call_171 : decode cX7_call 171 = .ok (.getfield 63, 3) := dk_180 0 63 (dk_at dksX7_call_7 14 rfl rfl)
theorem dX7_call_174 : decode cX7_call 174 = .ok (.iconst 3, 1) := dk_6 (dk_at dksX7_call_7 17 rfl rfl)
theorem dX7_call_175 : decode cX7_call 175 = .ok (.iload_n 1, 1) := dk_27 (dk_at dksX7_call_7 18 rfl rfl)
theorem dX7_call_176 : decode cX7_call 176 = .ok (.imul, 1) := dk_104 (dk_at dksX7_call_7 19 rfl rfl)
theorem dX7_call_177 : decode cX7_call 177 = .ok (.iload 6, 2) := dk_21 6 (dk_at dksX7_call_7 20 rfl rfl)
theorem dX7_call_179 : decode cX7_call 179 = .ok (.iadd, 1) := dk_96 (dk_at dksX7_call_7 22 rfl rfl)
theorem dX7_call_180 : decode cX7_call 180 = .ok (.iaload, 1) := dk_46 (dk_at dksX7_call_7 23 rfl rfl)
theorem dX7_call_181 : decode cX7_call 181 = .ok (.invokestatic 368, 3) := dk_184 1 112 (dk_at dksX7_call_8 0 rfl rfl)
theorem dX7_call_184 : decode cX7_call 184 = .ok (.lastore, 1) := dk_80 (dk_at dksX7_call_8 3 rfl rfl)
theorem dX7_call_185 : decode cX7_call 185 = .ok (.iinc 6 1, 3) := dk_132 6 1 (dk_at dksX7_call_8 4 rfl rfl)
theorem dX7_call_188 : decode cX7_call 188 = .ok (.goto (-44), 3) := dk_167 255 212 (dk_at dksX7_call_8 7 rfl rfl)
theorem dX7_call_191 : decode cX7_call 191 = .ok (.aload_n 0, 1) := dk_42 (dk_at dksX7_call_8 10 rfl rfl)
theorem dX7_call_192 : decode cX7_call 192 = .ok (.iload_n 2, 1) := dk_28 (dk_at dksX7_call_8 11 rfl rfl)
theorem dX7_call_193 : decode cX7_call 193 = .ok (.putfield 426, 3) := dk_181 1 170 (dk_at dksX7_call_8 12 rfl rfl)
theorem dX7_call_196 : decode cX7_call 196 = .ok (.aload_n 0, 1) := dk_42 (dk_at dksX7_call_8 15 rfl rfl)
theorem dX7_call_197 : decode cX7_call 197 = .ok (.iload_n 1, 1) := dk_27 (dk_at dksX7_call_8 16 rfl rfl)
theorem dX7_call_198 : decode cX7_call 198 = .ok (.invokevirtual 464, 3) := dk_182 1 208 (dk_at dksX7_call_8 17 rfl rfl)
theorem dX7_call_201 : decode cX7_call 201 = .ok (.aload_n 0, 1) := dk_42 (dk_at dksX7_call_8 20 rfl rfl)
theorem dX7_call_202 : decode cX7_call 202 = .ok (.getfield 407, 3) := dk_180 1 151 (dk_at dksX7_call_8 21 rfl rfl)
theorem dX7_call_205 : decode cX7_call 205 = .ok (.ifCond .le 16, 3) := dk_158 0 16 (dk_at dksX7_call_9 0 rfl rfl)
theorem dX7_call_208 : decode cX7_call 208 = .ok (.aload_n 0, 1) := dk_42 (dk_at dksX7_call_9 3 rfl rfl)
theorem dX7_call_209 : decode cX7_call 209 = .ok (.dup, 1) := dk_89 (dk_at dksX7_call_9 4 rfl rfl)
theorem dX7_call_210 : decode cX7_call 210 = .ok (.getfield 467, 3) := dk_180 1 211 (dk_at dksX7_call_9 5 rfl rfl)
theorem dX7_call_213 : decode cX7_call 213 = .ok (.iconst 1, 1) := dk_4 (dk_at dksX7_call_9 8 rfl rfl)
theorem dX7_call_214 : decode cX7_call 214 = .ok (.iadd, 1) := dk_96 (dk_at dksX7_call_9 9 rfl rfl)
theorem dX7_call_215 : decode cX7_call 215 = .ok (.putfield 467, 3) := dk_181 1 211 (dk_at dksX7_call_9 10 rfl rfl)
theorem dX7_call_218 : decode cX7_call 218 = .ok (.bipush (-19), 2) := dk_16 237 (dk_at dksX7_call_9 13 rfl rfl)
theorem dX7_call_220 : decode cX7_call 220 = .ok (.ireturn, 1) := dk_172 (dk_at dksX7_call_9 15 rfl rfl)
theorem dX7_call_221 : decode cX7_call 221 = .ok (.aload_n 0, 1) := dk_42 (dk_at dksX7_call_9 16 rfl rfl)
theorem dX7_call_222 : decode cX7_call 222 = .ok (.getfield 57, 3) := dk_180 0 57 (dk_at dksX7_call_9 17 rfl rfl)
theorem dX7_call_225 : decode cX7_call 225 = .ok (.iload_n 1, 1) := dk_27 (dk_at dksX7_call_9 20 rfl rfl)
theorem dX7_call_226 : decode cX7_call 226 = .ok (.iaload, 1) := dk_46 (dk_at dksX7_call_9 21 rfl rfl)
theorem dX7_call_227 : decode cX7_call 227 = .ok (.iconst (-1), 1) := dk_2 (dk_at dksX7_call_9 22 rfl rfl)
theorem dX7_call_228 : decode cX7_call 228 = .ok (.if_icmp .ne 14, 3) := dk_160 0 14 (dk_at dksX7_call_10 0 rfl rfl)
theorem dX7_call_231 : decode cX7_call 231 = .ok (.aload_n 0, 1) := dk_42 (dk_at dksX7_call_10 3 rfl rfl)
theorem dX7_call_232 : decode cX7_call 232 = .ok (.iload 4, 2) := dk_21 4 (dk_at dksX7_call_10 4 rfl rfl)
theorem dX7_call_234 : decode cX7_call 234 = .ok (.iconst 4, 1) := dk_7 (dk_at dksX7_call_10 6 rfl rfl)
theorem dX7_call_235 : decode cX7_call 235 = .ok (.lconst 0, 1) := dk_9 (dk_at dksX7_call_10 7 rfl rfl)
theorem dX7_call_236 : decode cX7_call 236 = .ok (.invokevirtual 351, 3) := dk_182 1 95 (dk_at dksX7_call_10 8 rfl rfl)
theorem dX7_call_239 : decode cX7_call 239 = .ok (.goto 35, 3) := dk_167 0 35 (dk_at dksX7_call_10 11 rfl rfl)
theorem dX7_call_242 : decode cX7_call 242 = .ok (.aload_n 0, 1) := dk_42 (dk_at dksX7_call_10 14 rfl rfl)
theorem dX7_call_243 : decode cX7_call 243 = .ok (.iload 4, 2) := dk_21 4 (dk_at dksX7_call_10 15 rfl rfl)
theorem dX7_call_245 : decode cX7_call 245 = .ok (.aload_n 0, 1) := dk_42 (dk_at dksX7_call_10 17 rfl rfl)
theorem dX7_call_246 : decode cX7_call 246 = .ok (.getfield 57, 3) := dk_180 0 57 (dk_at dksX7_call_10 18 rfl rfl)
theorem dX7_call_249 : decode cX7_call 249 = .ok (.iload_n 1, 1) := dk_27 (dk_at dksX7_call_10 21 rfl rfl)
theorem dX7_call_250 : decode cX7_call 250 = .ok (.iaload, 1) := dk_46 (dk_at dksX7_call_10 22 rfl rfl)
theorem dX7_call_251 : decode cX7_call 251 = .ok (.bipush 8, 2) := dk_16 8 (dk_at dksX7_call_11 0 rfl rfl)
theorem dX7_call_253 : decode cX7_call 253 = .ok (.if_icmp .ge 12, 3) := dk_162 0 12 (dk_at dksX7_call_11 2 rfl rfl)
theorem dX7_call_256 : decode cX7_call 256 = .ok (.aload_n 0, 1) := dk_42 (dk_at dksX7_call_11 5 rfl rfl)
theorem dX7_call_257 : decode cX7_call 257 = .ok (.getfield 57, 3) := dk_180 0 57 (dk_at dksX7_call_11 6 rfl rfl)
theorem dX7_call_260 : decode cX7_call 260 = .ok (.iload_n 1, 1) := dk_27 (dk_at dksX7_call_11 9 rfl rfl)
theorem dX7_call_261 : decode cX7_call 261 = .ok (.iaload, 1) := dk_46 (dk_at dksX7_call_11 10 rfl rfl)
theorem dX7_call_262 : decode cX7_call 262 = .ok (.goto 5, 3) := dk_167 0 5 (dk_at dksX7_call_11 11 rfl rfl)
theorem dX7_call_265 : decode cX7_call 265 = .ok (.bipush 8, 2) := dk_16 8 (dk_at dksX7_call_11 14 rfl rfl)
theorem dX7_call_267 : decode cX7_call 267 = .ok (.aload_n 0, 1) := dk_42 (dk_at dksX7_call_11 16 rfl rfl)
theorem dX7_call_268 : decode cX7_call 268 = .ok (.getfield 432, 3) := dk_180 1 176 (dk_at dksX7_call_11 17 rfl rfl)
theorem dX7_call_271 : decode cX7_call 271 = .ok (.invokevirtual 351, 3) := dk_182 1 95 (dk_at dksX7_call_11 20 rfl rfl)
theorem dX7_call_274 : decode cX7_call 274 = .ok (.iconst 1, 1) := dk_4 (dk_at dksX7_call_11 23 rfl rfl)
theorem dX7_call_275 : decode cX7_call 275 = .ok (.ireturn, 1) := dk_172 (dk_at dksX7_call_12 0 rfl rfl)
abbrev cX7_goes : ByteArray := prog_30_method_104_code
def yX7_goes : MethodName := ⟨RX7, "goes", "(I)V"⟩
def dkwX7_goes_3 : List UInt8 := [182, 1, 199, 62, 167, 255, 233, 42, 180, 1, 151, 154, 0, 7, 42, 182, 1, 205, 177]
abbrev dktX7_goes_3 : List UInt8 := dkwX7_goes_3 ++ []
def dkwX7_goes_2 : List UInt8 := [182, 1, 199, 62, 42, 180, 1, 151, 154, 0, 22, 29, 2, 159, 0, 17, 42, 29, 29, 182, 1, 202, 42]
abbrev dktX7_goes_2 : List UInt8 := dkwX7_goes_2 ++ dktX7_goes_3
def dkwX7_goes_1 : List UInt8 := [180, 0, 118, 3, 28, 79, 42, 4, 181, 1, 163, 42, 89, 180, 1, 196, 4, 96, 181, 1, 196, 42]
abbrev dktX7_goes_1 : List UInt8 := dkwX7_goes_1 ++ dktX7_goes_2
def dkwX7_goes_0 : List UInt8 := [42, 3, 181, 1, 151, 42, 3, 181, 1, 163, 42, 27, 3, 182, 1, 188, 61, 28, 2, 160, 0, 4, 177, 42]
abbrev dktX7_goes_0 : List UInt8 := dkwX7_goes_0 ++ dktX7_goes_1
theorem dksX7_goes_0 : cX7_goes.data.toList.drop 0 = dktX7_goes_0 := by decide +kernel
theorem dksX7_goes_1 : cX7_goes.data.toList.drop 24 = dktX7_goes_1 := dk_seg dksX7_goes_0 24 rfl rfl
theorem dksX7_goes_2 : cX7_goes.data.toList.drop 46 = dktX7_goes_2 := dk_seg dksX7_goes_1 22 rfl rfl
theorem dksX7_goes_3 : cX7_goes.data.toList.drop 69 = dktX7_goes_3 := dk_seg dksX7_goes_2 23 rfl rfl
theorem dX7_goes_0 : decode cX7_goes 0 = .ok (.aload_n 0, 1) := dk_42 (dk_at dksX7_goes_0 0 rfl rfl)
theorem dX7_goes_1 : decode cX7_goes 1 = .ok (.iconst 0, 1) := dk_3 (dk_at dksX7_goes_0 1 rfl rfl)
theorem dX7_goes_2 : decode cX7_goes 2 = .ok (.putfield 407, 3) := dk_181 1 151 (dk_at dksX7_goes_0 2 rfl rfl)
theorem dX7_goes_5 : decode cX7_goes 5 = .ok (.aload_n 0, 1) := dk_42 (dk_at dksX7_goes_0 5 rfl rfl)
theorem dX7_goes_6 : decode cX7_goes 6 = .ok (.iconst 0, 1) := dk_3 (dk_at dksX7_goes_0 6 rfl rfl)
theorem dX7_goes_7 : decode cX7_goes 7 = .ok (.putfield 419, 3) := dk_181 1 163 (dk_at dksX7_goes_0 7 rfl rfl)
theorem dX7_goes_10 : decode cX7_goes 10 = .ok (.aload_n 0, 1) := dk_42 (dk_at dksX7_goes_0 10 rfl rfl)
theorem dX7_goes_11 : decode cX7_goes 11 = .ok (.iload_n 1, 1) := dk_27 (dk_at dksX7_goes_0 11 rfl rfl)
theorem dX7_goes_12 : decode cX7_goes 12 = .ok (.iconst 0, 1) := dk_3 (dk_at dksX7_goes_0 12 rfl rfl)
theorem dX7_goes_13 : decode cX7_goes 13 = .ok (.invokevirtual 444, 3) := dk_182 1 188 (dk_at dksX7_goes_0 13 rfl rfl)
theorem dX7_goes_16 : decode cX7_goes 16 = .ok (.istore_n 2, 1) := dk_61 (dk_at dksX7_goes_0 16 rfl rfl)
theorem dX7_goes_17 : decode cX7_goes 17 = .ok (.iload_n 2, 1) := dk_28 (dk_at dksX7_goes_0 17 rfl rfl)
theorem dX7_goes_18 : decode cX7_goes 18 = .ok (.iconst (-1), 1) := dk_2 (dk_at dksX7_goes_0 18 rfl rfl)
theorem dX7_goes_19 : decode cX7_goes 19 = .ok (.if_icmp .ne 4, 3) := dk_160 0 4 (dk_at dksX7_goes_0 19 rfl rfl)
theorem dX7_goes_22 : decode cX7_goes 22 = .ok (.return_, 1) := dk_177 (dk_at dksX7_goes_0 22 rfl rfl)
theorem dX7_goes_23 : decode cX7_goes 23 = .ok (.aload_n 0, 1) := dk_42 (dk_at dksX7_goes_0 23 rfl rfl)
theorem dX7_goes_24 : decode cX7_goes 24 = .ok (.getfield 118, 3) := dk_180 0 118 (dk_at dksX7_goes_1 0 rfl rfl)
theorem dX7_goes_27 : decode cX7_goes 27 = .ok (.iconst 0, 1) := dk_3 (dk_at dksX7_goes_1 3 rfl rfl)
theorem dX7_goes_28 : decode cX7_goes 28 = .ok (.iload_n 2, 1) := dk_28 (dk_at dksX7_goes_1 4 rfl rfl)
theorem dX7_goes_29 : decode cX7_goes 29 = .ok (.iastore, 1) := dk_79 (dk_at dksX7_goes_1 5 rfl rfl)
theorem dX7_goes_30 : decode cX7_goes 30 = .ok (.aload_n 0, 1) := dk_42 (dk_at dksX7_goes_1 6 rfl rfl)
theorem dX7_goes_31 : decode cX7_goes 31 = .ok (.iconst 1, 1) := dk_4 (dk_at dksX7_goes_1 7 rfl rfl)
theorem dX7_goes_32 : decode cX7_goes 32 = .ok (.putfield 419, 3) := dk_181 1 163 (dk_at dksX7_goes_1 8 rfl rfl)
theorem dX7_goes_35 : decode cX7_goes 35 = .ok (.aload_n 0, 1) := dk_42 (dk_at dksX7_goes_1 11 rfl rfl)
theorem dX7_goes_36 : decode cX7_goes 36 = .ok (.dup, 1) := dk_89 (dk_at dksX7_goes_1 12 rfl rfl)
theorem dX7_goes_37 : decode cX7_goes 37 = .ok (.getfield 452, 3) := dk_180 1 196 (dk_at dksX7_goes_1 13 rfl rfl)
theorem dX7_goes_40 : decode cX7_goes 40 = .ok (.iconst 1, 1) := dk_4 (dk_at dksX7_goes_1 16 rfl rfl)
theorem dX7_goes_41 : decode cX7_goes 41 = .ok (.iadd, 1) := dk_96 (dk_at dksX7_goes_1 17 rfl rfl)
theorem dX7_goes_42 : decode cX7_goes 42 = .ok (.putfield 452, 3) := dk_181 1 196 (dk_at dksX7_goes_1 18 rfl rfl)
theorem dX7_goes_45 : decode cX7_goes 45 = .ok (.aload_n 0, 1) := dk_42 (dk_at dksX7_goes_1 21 rfl rfl)
theorem dX7_goes_46 : decode cX7_goes 46 = .ok (.invokevirtual 455, 3) := dk_182 1 199 (dk_at dksX7_goes_2 0 rfl rfl)
theorem dX7_goes_49 : decode cX7_goes 49 = .ok (.istore_n 3, 1) := dk_62 (dk_at dksX7_goes_2 3 rfl rfl)
theorem dX7_goes_50 : decode cX7_goes 50 = .ok (.aload_n 0, 1) := dk_42 (dk_at dksX7_goes_2 4 rfl rfl)
theorem dX7_goes_51 : decode cX7_goes 51 = .ok (.getfield 407, 3) := dk_180 1 151 (dk_at dksX7_goes_2 5 rfl rfl)
theorem dX7_goes_54 : decode cX7_goes 54 = .ok (.ifCond .ne 22, 3) := dk_154 0 22 (dk_at dksX7_goes_2 8 rfl rfl)
theorem dX7_goes_57 : decode cX7_goes 57 = .ok (.iload_n 3, 1) := dk_29 (dk_at dksX7_goes_2 11 rfl rfl)
theorem dX7_goes_58 : decode cX7_goes 58 = .ok (.iconst (-1), 1) := dk_2 (dk_at dksX7_goes_2 12 rfl rfl)
theorem dX7_goes_59 : decode cX7_goes 59 = .ok (.if_icmp .eq 17, 3) := dk_159 0 17 (dk_at dksX7_goes_2 13 rfl rfl)
theorem dX7_goes_62 : decode cX7_goes 62 = .ok (.aload_n 0, 1) := dk_42 (dk_at dksX7_goes_2 16 rfl rfl)
theorem dX7_goes_63 : decode cX7_goes 63 = .ok (.iload_n 3, 1) := dk_29 (dk_at dksX7_goes_2 17 rfl rfl)
theorem dX7_goes_64 : decode cX7_goes 64 = .ok (.iload_n 3, 1) := dk_29 (dk_at dksX7_goes_2 18 rfl rfl)
theorem dX7_goes_65 : decode cX7_goes 65 = .ok (.invokevirtual 458, 3) := dk_182 1 202 (dk_at dksX7_goes_2 19 rfl rfl)
theorem dX7_goes_68 : decode cX7_goes 68 = .ok (.aload_n 0, 1) := dk_42 (dk_at dksX7_goes_2 22 rfl rfl)
theorem dX7_goes_69 : decode cX7_goes 69 = .ok (.invokevirtual 455, 3) := dk_182 1 199 (dk_at dksX7_goes_3 0 rfl rfl)
theorem dX7_goes_72 : decode cX7_goes 72 = .ok (.istore_n 3, 1) := dk_62 (dk_at dksX7_goes_3 3 rfl rfl)
theorem dX7_goes_73 : decode cX7_goes 73 = .ok (.goto (-23), 3) := dk_167 255 233 (dk_at dksX7_goes_3 4 rfl rfl)
theorem dX7_goes_76 : decode cX7_goes 76 = .ok (.aload_n 0, 1) := dk_42 (dk_at dksX7_goes_3 7 rfl rfl)
theorem dX7_goes_77 : decode cX7_goes 77 = .ok (.getfield 407, 3) := dk_180 1 151 (dk_at dksX7_goes_3 8 rfl rfl)
theorem dX7_goes_80 : decode cX7_goes 80 = .ok (.ifCond .ne 7, 3) := dk_154 0 7 (dk_at dksX7_goes_3 11 rfl rfl)
theorem dX7_goes_83 : decode cX7_goes 83 = .ok (.aload_n 0, 1) := dk_42 (dk_at dksX7_goes_3 14 rfl rfl)
theorem dX7_goes_84 : decode cX7_goes 84 = .ok (.invokevirtual 461, 3) := dk_182 1 205 (dk_at dksX7_goes_3 15 rfl rfl)
theorem dX7_goes_87 : decode cX7_goes 87 = .ok (.return_, 1) := dk_177 (dk_at dksX7_goes_3 18 rfl rfl)
abbrev cX7_begins : ByteArray := prog_30_method_98_code
def yX7_begins : MethodName := ⟨RX7, "begins", "(IZ)I"⟩
def dkwX7_begins_3 : List UInt8 := [180, 1, 163, 182, 1, 166, 29, 172]
abbrev dktX7_begins_3 : List UInt8 := dkwX7_begins_3 ++ []
def dkwX7_begins_2 : List UInt8 := [180, 0, 88, 42, 180, 1, 170, 46, 27, 182, 1, 0, 62, 29, 2, 160, 0, 14, 42, 16, 7, 27, 42]
abbrev dktX7_begins_2 : List UInt8 := dkwX7_begins_2 ++ dktX7_begins_3
def dkwX7_begins_1 : List UInt8 := [154, 0, 20, 42, 27, 7, 182, 0, 221, 154, 0, 11, 42, 27, 182, 0, 224, 153, 0, 5, 27, 172, 42, 42]
abbrev dktX7_begins_1 : List UInt8 := dkwX7_begins_1 ++ dktX7_begins_2
def dkwX7_begins_0 : List UInt8 := [42, 180, 1, 163, 16, 12, 160, 0, 16, 42, 16, 10, 27, 42, 180, 1, 163, 182, 1, 166, 2, 172, 28]
abbrev dktX7_begins_0 : List UInt8 := dkwX7_begins_0 ++ dktX7_begins_1
theorem dksX7_begins_0 : cX7_begins.data.toList.drop 0 = dktX7_begins_0 := by decide +kernel
theorem dksX7_begins_1 : cX7_begins.data.toList.drop 23 = dktX7_begins_1 := dk_seg dksX7_begins_0 23 rfl rfl
theorem dksX7_begins_2 : cX7_begins.data.toList.drop 47 = dktX7_begins_2 := dk_seg dksX7_begins_1 24 rfl rfl
theorem dksX7_begins_3 : cX7_begins.data.toList.drop 70 = dktX7_begins_3 := dk_seg dksX7_begins_2 23 rfl rfl
theorem dX7_begins_0 : decode cX7_begins 0 = .ok (.aload_n 0, 1) := dk_42 (dk_at dksX7_begins_0 0 rfl rfl)
theorem dX7_begins_1 : decode cX7_begins 1 = .ok (.getfield 419, 3) := dk_180 1 163 (dk_at dksX7_begins_0 1 rfl rfl)
theorem dX7_begins_4 : decode cX7_begins 4 = .ok (.bipush 12, 2) := dk_16 12 (dk_at dksX7_begins_0 4 rfl rfl)
theorem dX7_begins_6 : decode cX7_begins 6 = .ok (.if_icmp .ne 16, 3) := dk_160 0 16 (dk_at dksX7_begins_0 6 rfl rfl)
theorem dX7_begins_9 : decode cX7_begins 9 = .ok (.aload_n 0, 1) := dk_42 (dk_at dksX7_begins_0 9 rfl rfl)
theorem dX7_begins_10 : decode cX7_begins 10 = .ok (.bipush 10, 2) := dk_16 10 (dk_at dksX7_begins_0 10 rfl rfl)
theorem dX7_begins_12 : decode cX7_begins 12 = .ok (.iload_n 1, 1) := dk_27 (dk_at dksX7_begins_0 12 rfl rfl)
theorem dX7_begins_13 : decode cX7_begins 13 = .ok (.aload_n 0, 1) := dk_42 (dk_at dksX7_begins_0 13 rfl rfl)
theorem dX7_begins_14 : decode cX7_begins 14 = .ok (.getfield 419, 3) := dk_180 1 163 (dk_at dksX7_begins_0 14 rfl rfl)
theorem dX7_begins_17 : decode cX7_begins 17 = .ok (.invokevirtual 422, 3) := dk_182 1 166 (dk_at dksX7_begins_0 17 rfl rfl)
theorem dX7_begins_20 : decode cX7_begins 20 = .ok (.iconst (-1), 1) := dk_2 (dk_at dksX7_begins_0 20 rfl rfl)
theorem dX7_begins_21 : decode cX7_begins 21 = .ok (.ireturn, 1) := dk_172 (dk_at dksX7_begins_0 21 rfl rfl)
theorem dX7_begins_22 : decode cX7_begins 22 = .ok (.iload_n 2, 1) := dk_28 (dk_at dksX7_begins_0 22 rfl rfl)
theorem dX7_begins_23 : decode cX7_begins 23 = .ok (.ifCond .ne 20, 3) := dk_154 0 20 (dk_at dksX7_begins_1 0 rfl rfl)
theorem dX7_begins_26 : decode cX7_begins 26 = .ok (.aload_n 0, 1) := dk_42 (dk_at dksX7_begins_1 3 rfl rfl)
theorem dX7_begins_27 : decode cX7_begins 27 = .ok (.iload_n 1, 1) := dk_27 (dk_at dksX7_begins_1 4 rfl rfl)
theorem dX7_begins_28 : decode cX7_begins 28 = .ok (.iconst 4, 1) := dk_7 (dk_at dksX7_begins_1 5 rfl rfl)
theorem dX7_begins_29 : decode cX7_begins 29 = .ok (.invokevirtual 221, 3) := dk_182 0 221 (dk_at dksX7_begins_1 6 rfl rfl)
theorem dX7_begins_32 : decode cX7_begins 32 = .ok (.ifCond .ne 11, 3) := dk_154 0 11 (dk_at dksX7_begins_1 9 rfl rfl)
theorem dX7_begins_35 : decode cX7_begins 35 = .ok (.aload_n 0, 1) := dk_42 (dk_at dksX7_begins_1 12 rfl rfl)
theorem dX7_begins_36 : decode cX7_begins 36 = .ok (.iload_n 1, 1) := dk_27 (dk_at dksX7_begins_1 13 rfl rfl)
theorem dX7_begins_37 : decode cX7_begins 37 = .ok (.invokevirtual 224, 3) := dk_182 0 224 (dk_at dksX7_begins_1 14 rfl rfl)
theorem dX7_begins_40 : decode cX7_begins 40 = .ok (.ifCond .eq 5, 3) := dk_153 0 5 (dk_at dksX7_begins_1 17 rfl rfl)
theorem dX7_begins_43 : decode cX7_begins 43 = .ok (.iload_n 1, 1) := dk_27 (dk_at dksX7_begins_1 20 rfl rfl)
theorem dX7_begins_44 : decode cX7_begins 44 = .ok (.ireturn, 1) := dk_172 (dk_at dksX7_begins_1 21 rfl rfl)
theorem dX7_begins_45 : decode cX7_begins 45 = .ok (.aload_n 0, 1) := dk_42 (dk_at dksX7_begins_1 22 rfl rfl)
theorem dX7_begins_46 : decode cX7_begins 46 = .ok (.aload_n 0, 1) := dk_42 (dk_at dksX7_begins_1 23 rfl rfl)
theorem dX7_begins_47 : decode cX7_begins 47 = .ok (.getfield 88, 3) := dk_180 0 88 (dk_at dksX7_begins_2 0 rfl rfl)
theorem dX7_begins_50 : decode cX7_begins 50 = .ok (.aload_n 0, 1) := dk_42 (dk_at dksX7_begins_2 3 rfl rfl)
theorem dX7_begins_51 : decode cX7_begins 51 = .ok (.getfield 426, 3) := dk_180 1 170 (dk_at dksX7_begins_2 4 rfl rfl)
theorem dX7_begins_54 : decode cX7_begins 54 = .ok (.iaload, 1) := dk_46 (dk_at dksX7_begins_2 7 rfl rfl)
theorem dX7_begins_55 : decode cX7_begins 55 = .ok (.iload_n 1, 1) := dk_27 (dk_at dksX7_begins_2 8 rfl rfl)
theorem dX7_begins_56 : decode cX7_begins 56 = .ok (.invokevirtual 256, 3) := dk_182 1 0 (dk_at dksX7_begins_2 9 rfl rfl)
theorem dX7_begins_59 : decode cX7_begins 59 = .ok (.istore_n 3, 1) := dk_62 (dk_at dksX7_begins_2 12 rfl rfl)
theorem dX7_begins_60 : decode cX7_begins 60 = .ok (.iload_n 3, 1) := dk_29 (dk_at dksX7_begins_2 13 rfl rfl)
theorem dX7_begins_61 : decode cX7_begins 61 = .ok (.iconst (-1), 1) := dk_2 (dk_at dksX7_begins_2 14 rfl rfl)
theorem dX7_begins_62 : decode cX7_begins 62 = .ok (.if_icmp .ne 14, 3) := dk_160 0 14 (dk_at dksX7_begins_2 15 rfl rfl)
theorem dX7_begins_65 : decode cX7_begins 65 = .ok (.aload_n 0, 1) := dk_42 (dk_at dksX7_begins_2 18 rfl rfl)
theorem dX7_begins_66 : decode cX7_begins 66 = .ok (.bipush 7, 2) := dk_16 7 (dk_at dksX7_begins_2 19 rfl rfl)
theorem dX7_begins_68 : decode cX7_begins 68 = .ok (.iload_n 1, 1) := dk_27 (dk_at dksX7_begins_2 21 rfl rfl)
theorem dX7_begins_69 : decode cX7_begins 69 = .ok (.aload_n 0, 1) := dk_42 (dk_at dksX7_begins_2 22 rfl rfl)
theorem dX7_begins_70 : decode cX7_begins 70 = .ok (.getfield 419, 3) := dk_180 1 163 (dk_at dksX7_begins_3 0 rfl rfl)
theorem dX7_begins_73 : decode cX7_begins 73 = .ok (.invokevirtual 422, 3) := dk_182 1 166 (dk_at dksX7_begins_3 3 rfl rfl)
theorem dX7_begins_76 : decode cX7_begins 76 = .ok (.iload_n 3, 1) := dk_29 (dk_at dksX7_begins_3 6 rfl rfl)
theorem dX7_begins_77 : decode cX7_begins 77 = .ok (.ireturn, 1) := dk_172 (dk_at dksX7_begins_3 7 rfl rfl)
abbrev cX7_fails : ByteArray := prog_30_method_97_code
def yX7_fails : MethodName := ⟨RX7, "fails", "(III)V"⟩
def dkwX7_fails_0 : List UInt8 := [42, 27, 181, 1, 151, 42, 27, 181, 1, 154, 42, 28, 181, 1, 157, 42, 29, 181, 1, 160, 177]
abbrev dktX7_fails_0 : List UInt8 := dkwX7_fails_0 ++ []
theorem dksX7_fails_0 : cX7_fails.data.toList.drop 0 = dktX7_fails_0 := by decide +kernel
theorem dX7_fails_0 : decode cX7_fails 0 = .ok (.aload_n 0, 1) := dk_42 (dk_at dksX7_fails_0 0 rfl rfl)
theorem dX7_fails_1 : decode cX7_fails 1 = .ok (.iload_n 1, 1) := dk_27 (dk_at dksX7_fails_0 1 rfl rfl)
theorem dX7_fails_2 : decode cX7_fails 2 = .ok (.putfield 407, 3) := dk_181 1 151 (dk_at dksX7_fails_0 2 rfl rfl)
theorem dX7_fails_5 : decode cX7_fails 5 = .ok (.aload_n 0, 1) := dk_42 (dk_at dksX7_fails_0 5 rfl rfl)
theorem dX7_fails_6 : decode cX7_fails 6 = .ok (.iload_n 1, 1) := dk_27 (dk_at dksX7_fails_0 6 rfl rfl)
theorem dX7_fails_7 : decode cX7_fails 7 = .ok (.putfield 410, 3) := dk_181 1 154 (dk_at dksX7_fails_0 7 rfl rfl)
theorem dX7_fails_10 : decode cX7_fails 10 = .ok (.aload_n 0, 1) := dk_42 (dk_at dksX7_fails_0 10 rfl rfl)
theorem dX7_fails_11 : decode cX7_fails 11 = .ok (.iload_n 2, 1) := dk_28 (dk_at dksX7_fails_0 11 rfl rfl)
theorem dX7_fails_12 : decode cX7_fails 12 = .ok (.putfield 413, 3) := dk_181 1 157 (dk_at dksX7_fails_0 12 rfl rfl)
theorem dX7_fails_15 : decode cX7_fails 15 = .ok (.aload_n 0, 1) := dk_42 (dk_at dksX7_fails_0 15 rfl rfl)
theorem dX7_fails_16 : decode cX7_fails 16 = .ok (.iload_n 3, 1) := dk_29 (dk_at dksX7_fails_0 16 rfl rfl)
theorem dX7_fails_17 : decode cX7_fails 17 = .ok (.putfield 416, 3) := dk_181 1 160 (dk_at dksX7_fails_0 17 rfl rfl)
theorem dX7_fails_20 : decode cX7_fails 20 = .ok (.return_, 1) := dk_177 (dk_at dksX7_fails_0 20 rfl rfl)
abbrev cX7_works : ByteArray := prog_30_method_101_code
def yX7_works : MethodName := ⟨RX7, "works", "()I"⟩
def dkwX7_works_15 : List UInt8 := [180, 0, 97, 16, 20, 21, 5, 104, 21, 6, 96, 47, 182, 1, 180, 167, 0, 3, 2, 172]
abbrev dktX7_works_15 : List UInt8 := dkwX7_works_15 ++ []
def dkwX7_works_14 : List UInt8 := [182, 1, 166, 167, 0, 38, 42, 42, 180, 0, 23, 42, 180, 0, 63, 6, 27, 104, 29, 96, 46, 46, 42]
abbrev dktX7_works_14 : List UInt8 := dkwX7_works_14 ++ dktX7_works_15
def dkwX7_works_13 : List UInt8 := [184, 0, 127, 154, 0, 27, 42, 21, 5, 156, 0, 7, 4, 167, 0, 4, 6, 27, 42, 180, 1, 163, 4, 100]
abbrev dktX7_works_13 : List UInt8 := dkwX7_works_13 ++ dktX7_works_14
def dkwX7_works_12 : List UInt8 := [136, 54, 6, 21, 5, 155, 0, 23, 21, 6, 133, 9, 42, 180, 0, 91, 21, 5, 46, 4, 100, 133]
abbrev dktX7_works_12 : List UInt8 := dkwX7_works_12 ++ dktX7_works_13
def dkwX7_works_11 : List UInt8 := [182, 1, 188, 172, 42, 180, 0, 121, 28, 29, 96, 47, 136, 54, 5, 42, 180, 0, 121, 28, 21, 4, 96, 47]
abbrev dktX7_works_11 : List UInt8 := dkwX7_works_11 ++ dktX7_works_12
def dkwX7_works_10 : List UInt8 := [180, 0, 63, 6, 27, 104, 21, 4, 96, 46, 182, 1, 192, 167, 0, 122, 42, 42, 180, 0, 81, 27, 46, 4]
abbrev dktX7_works_10 : List UInt8 := dkwX7_works_10 ++ dktX7_works_11
def dkwX7_works_9 : List UInt8 := [28, 29, 96, 47, 42, 180, 0, 121, 28, 21, 4, 96, 47, 42, 180, 0, 63, 6, 27, 104, 29, 96, 46, 42]
abbrev dktX7_works_9 : List UInt8 := dkwX7_works_9 ++ dktX7_works_10
def dkwX7_works_8 : List UInt8 := [180, 1, 163, 4, 100, 182, 1, 166, 167, 0, 175, 42, 29, 3, 182, 1, 188, 172, 42, 27, 42, 180, 0, 121]
abbrev dktX7_works_8 : List UInt8 := dkwX7_works_8 ++ dktX7_works_9
def dkwX7_works_7 : List UInt8 := [104, 21, 4, 96, 46, 42, 180, 0, 57, 29, 46, 184, 1, 112, 182, 1, 119, 167, 0, 190, 42, 29, 27, 42]
abbrev dktX7_works_7 : List UInt8 := dkwX7_works_7 ++ dktX7_works_8
def dkwX7_works_6 : List UInt8 := [167, 0, 231, 42, 29, 42, 180, 1, 170, 42, 180, 0, 121, 28, 21, 4, 96, 47, 42, 180, 0, 63, 6, 27]
abbrev dktX7_works_6 : List UInt8 := dkwX7_works_6 ++ dktX7_works_7
def dkwX7_works_5 : List UInt8 := [167, 0, 253, 42, 42, 180, 0, 57, 29, 46, 42, 29, 42, 180, 1, 170, 182, 1, 108, 182, 1, 180]
abbrev dktX7_works_5 : List UInt8 := dkwX7_works_5 ++ dktX7_works_6
def dkwX7_works_4 : List UInt8 := [42, 42, 180, 0, 63, 6, 27, 104, 29, 96, 46, 42, 180, 0, 121, 28, 29, 96, 47, 182, 1, 180]
abbrev dktX7_works_4 : List UInt8 := dkwX7_works_4 ++ dktX7_works_5
def dkwX7_works_3 : List UInt8 := [170, 0, 0, 0, 0, 0, 1, 67, 0, 0, 0, 1, 0, 0, 0, 8, 0, 0, 0, 48, 0, 0, 0, 73, 0, 0, 0, 95, 0, 0, 0, 136, 0, 0, 0, 151, 0, 0, 0, 158, 0, 0, 0, 204, 0, 0, 0, 216]
abbrev dktX7_works_3 : List UInt8 := dkwX7_works_3 ++ dktX7_works_4
def dkwX7_works_2 : List UInt8 := [27, 46]
abbrev dktX7_works_2 : List UInt8 := dkwX7_works_2 ++ dktX7_works_3
def dkwX7_works_1 : List UInt8 := [180, 0, 75, 27, 46, 62, 42, 180, 0, 78, 27, 46, 54, 4, 42, 2, 9, 182, 1, 180, 42, 180, 0, 72]
abbrev dktX7_works_1 : List UInt8 := dkwX7_works_1 ++ dktX7_works_2
def dkwX7_works_0 : List UInt8 := [42, 180, 0, 118, 42, 180, 1, 163, 4, 100, 46, 60, 6, 42, 180, 1, 163, 4, 100, 104, 61, 42]
abbrev dktX7_works_0 : List UInt8 := dkwX7_works_0 ++ dktX7_works_1
theorem dksX7_works_0 : cX7_works.data.toList.drop 0 = dktX7_works_0 := by decide +kernel
theorem dksX7_works_1 : cX7_works.data.toList.drop 22 = dktX7_works_1 := dk_seg dksX7_works_0 22 rfl rfl
theorem dksX7_works_2 : cX7_works.data.toList.drop 46 = dktX7_works_2 := dk_seg dksX7_works_1 24 rfl rfl
theorem dksX7_works_3 : cX7_works.data.toList.drop 48 = dktX7_works_3 := dk_seg dksX7_works_2 2 rfl rfl
theorem dksX7_works_4 : cX7_works.data.toList.drop 96 = dktX7_works_4 := dk_seg dksX7_works_3 48 rfl rfl
theorem dksX7_works_5 : cX7_works.data.toList.drop 118 = dktX7_works_5 := dk_seg dksX7_works_4 22 rfl rfl
theorem dksX7_works_6 : cX7_works.data.toList.drop 140 = dktX7_works_6 := dk_seg dksX7_works_5 22 rfl rfl
theorem dksX7_works_7 : cX7_works.data.toList.drop 164 = dktX7_works_7 := dk_seg dksX7_works_6 24 rfl rfl
theorem dksX7_works_8 : cX7_works.data.toList.drop 188 = dktX7_works_8 := dk_seg dksX7_works_7 24 rfl rfl
theorem dksX7_works_9 : cX7_works.data.toList.drop 212 = dktX7_works_9 := dk_seg dksX7_works_8 24 rfl rfl
theorem dksX7_works_10 : cX7_works.data.toList.drop 236 = dktX7_works_10 := dk_seg dksX7_works_9 24 rfl rfl
theorem dksX7_works_11 : cX7_works.data.toList.drop 260 = dktX7_works_11 := dk_seg dksX7_works_10 24 rfl rfl
theorem dksX7_works_12 : cX7_works.data.toList.drop 284 = dktX7_works_12 := dk_seg dksX7_works_11 24 rfl rfl
theorem dksX7_works_13 : cX7_works.data.toList.drop 306 = dktX7_works_13 := dk_seg dksX7_works_12 22 rfl rfl
theorem dksX7_works_14 : cX7_works.data.toList.drop 330 = dktX7_works_14 := dk_seg dksX7_works_13 24 rfl rfl
theorem dksX7_works_15 : cX7_works.data.toList.drop 353 = dktX7_works_15 := dk_seg dksX7_works_14 23 rfl rfl
theorem dX7_works_0 : decode cX7_works 0 = .ok (.aload_n 0, 1) := dk_42 (dk_at dksX7_works_0 0 rfl rfl)
theorem dX7_works_1 : decode cX7_works 1 = .ok (.getfield 118, 3) := dk_180 0 118 (dk_at dksX7_works_0 1 rfl rfl)
theorem dX7_works_4 : decode cX7_works 4 = .ok (.aload_n 0, 1) := dk_42 (dk_at dksX7_works_0 4 rfl rfl)
theorem dX7_works_5 : decode cX7_works 5 = .ok (.getfield 419, 3) := dk_180 1 163 (dk_at dksX7_works_0 5 rfl rfl)
theorem dX7_works_8 : decode cX7_works 8 = .ok (.iconst 1, 1) := dk_4 (dk_at dksX7_works_0 8 rfl rfl)
theorem dX7_works_9 : decode cX7_works 9 = .ok (.isub, 1) := dk_100 (dk_at dksX7_works_0 9 rfl rfl)
theorem dX7_works_10 : decode cX7_works 10 = .ok (.iaload, 1) := dk_46 (dk_at dksX7_works_0 10 rfl rfl)
theorem dX7_works_11 : decode cX7_works 11 = .ok (.istore_n 1, 1) := dk_60 (dk_at dksX7_works_0 11 rfl rfl)
theorem dX7_works_12 : decode cX7_works 12 = .ok (.iconst 3, 1) := dk_6 (dk_at dksX7_works_0 12 rfl rfl)
theorem dX7_works_13 : decode cX7_works 13 = .ok (.aload_n 0, 1) := dk_42 (dk_at dksX7_works_0 13 rfl rfl)
theorem dX7_works_14 : decode cX7_works 14 = .ok (.getfield 419, 3) := dk_180 1 163 (dk_at dksX7_works_0 14 rfl rfl)
theorem dX7_works_17 : decode cX7_works 17 = .ok (.iconst 1, 1) := dk_4 (dk_at dksX7_works_0 17 rfl rfl)
theorem dX7_works_18 : decode cX7_works 18 = .ok (.isub, 1) := dk_100 (dk_at dksX7_works_0 18 rfl rfl)
theorem dX7_works_19 : decode cX7_works 19 = .ok (.imul, 1) := dk_104 (dk_at dksX7_works_0 19 rfl rfl)
theorem dX7_works_20 : decode cX7_works 20 = .ok (.istore_n 2, 1) := dk_61 (dk_at dksX7_works_0 20 rfl rfl)
theorem dX7_works_21 : decode cX7_works 21 = .ok (.aload_n 0, 1) := dk_42 (dk_at dksX7_works_0 21 rfl rfl)
theorem dX7_works_22 : decode cX7_works 22 = .ok (.getfield 75, 3) := dk_180 0 75 (dk_at dksX7_works_1 0 rfl rfl)
theorem dX7_works_25 : decode cX7_works 25 = .ok (.iload_n 1, 1) := dk_27 (dk_at dksX7_works_1 3 rfl rfl)
theorem dX7_works_26 : decode cX7_works 26 = .ok (.iaload, 1) := dk_46 (dk_at dksX7_works_1 4 rfl rfl)
theorem dX7_works_27 : decode cX7_works 27 = .ok (.istore_n 3, 1) := dk_62 (dk_at dksX7_works_1 5 rfl rfl)
theorem dX7_works_28 : decode cX7_works 28 = .ok (.aload_n 0, 1) := dk_42 (dk_at dksX7_works_1 6 rfl rfl)
theorem dX7_works_29 : decode cX7_works 29 = .ok (.getfield 78, 3) := dk_180 0 78 (dk_at dksX7_works_1 7 rfl rfl)
theorem dX7_works_32 : decode cX7_works 32 = .ok (.iload_n 1, 1) := dk_27 (dk_at dksX7_works_1 10 rfl rfl)
theorem dX7_works_33 : decode cX7_works 33 = .ok (.iaload, 1) := dk_46 (dk_at dksX7_works_1 11 rfl rfl)
theorem dX7_works_34 : decode cX7_works 34 = .ok (.istore 4, 2) := dk_54 4 (dk_at dksX7_works_1 12 rfl rfl)
theorem dX7_works_36 : decode cX7_works 36 = .ok (.aload_n 0, 1) := dk_42 (dk_at dksX7_works_1 14 rfl rfl)
theorem dX7_works_37 : decode cX7_works 37 = .ok (.iconst (-1), 1) := dk_2 (dk_at dksX7_works_1 15 rfl rfl)
theorem dX7_works_38 : decode cX7_works 38 = .ok (.lconst 0, 1) := dk_9 (dk_at dksX7_works_1 16 rfl rfl)
theorem dX7_works_39 : decode cX7_works 39 = .ok (.invokevirtual 436, 3) := dk_182 1 180 (dk_at dksX7_works_1 17 rfl rfl)
theorem dX7_works_42 : decode cX7_works 42 = .ok (.aload_n 0, 1) := dk_42 (dk_at dksX7_works_1 20 rfl rfl)
theorem dX7_works_43 : decode cX7_works 43 = .ok (.getfield 72, 3) := dk_180 0 72 (dk_at dksX7_works_1 21 rfl rfl)
theorem dX7_works_46 : decode cX7_works 46 = .ok (.iload_n 1, 1) := dk_27 (dk_at dksX7_works_2 0 rfl rfl)
theorem dX7_works_47 : decode cX7_works 47 = .ok (.iaload, 1) := dk_46 (dk_at dksX7_works_2 1 rfl rfl)
theorem dX7_works_48 : decode cX7_works 48 = .ok (.tableswitch 323 1 8 #[48, 73, 95, 136, 151, 158, 204, 216], 48) := by decide +kernel
theorem dX7_works_96 : decode cX7_works 96 = .ok (.aload_n 0, 1) := dk_42 (dk_at dksX7_works_4 0 rfl rfl)
theorem dX7_works_97 : decode cX7_works 97 = .ok (.aload_n 0, 1) := dk_42 (dk_at dksX7_works_4 1 rfl rfl)
theorem dX7_works_98 : decode cX7_works 98 = .ok (.getfield 63, 3) := dk_180 0 63 (dk_at dksX7_works_4 2 rfl rfl)
theorem dX7_works_101 : decode cX7_works 101 = .ok (.iconst 3, 1) := dk_6 (dk_at dksX7_works_4 5 rfl rfl)
theorem dX7_works_102 : decode cX7_works 102 = .ok (.iload_n 1, 1) := dk_27 (dk_at dksX7_works_4 6 rfl rfl)
theorem dX7_works_103 : decode cX7_works 103 = .ok (.imul, 1) := dk_104 (dk_at dksX7_works_4 7 rfl rfl)
theorem dX7_works_104 : decode cX7_works 104 = .ok (.iload_n 3, 1) := dk_29 (dk_at dksX7_works_4 8 rfl rfl)
theorem dX7_works_105 : decode cX7_works 105 = .ok (.iadd, 1) := dk_96 (dk_at dksX7_works_4 9 rfl rfl)
theorem dX7_works_106 : decode cX7_works 106 = .ok (.iaload, 1) := dk_46 (dk_at dksX7_works_4 10 rfl rfl)
theorem dX7_works_107 : decode cX7_works 107 = .ok (.aload_n 0, 1) := dk_42 (dk_at dksX7_works_4 11 rfl rfl)
theorem dX7_works_108 : decode cX7_works 108 = .ok (.getfield 121, 3) := dk_180 0 121 (dk_at dksX7_works_4 12 rfl rfl)
theorem dX7_works_111 : decode cX7_works 111 = .ok (.iload_n 2, 1) := dk_28 (dk_at dksX7_works_4 15 rfl rfl)
theorem dX7_works_112 : decode cX7_works 112 = .ok (.iload_n 3, 1) := dk_29 (dk_at dksX7_works_4 16 rfl rfl)
theorem dX7_works_113 : decode cX7_works 113 = .ok (.iadd, 1) := dk_96 (dk_at dksX7_works_4 17 rfl rfl)
theorem dX7_works_114 : decode cX7_works 114 = .ok (.laload, 1) := dk_47 (dk_at dksX7_works_4 18 rfl rfl)
theorem dX7_works_115 : decode cX7_works 115 = .ok (.invokevirtual 436, 3) := dk_182 1 180 (dk_at dksX7_works_4 19 rfl rfl)
theorem dX7_works_118 : decode cX7_works 118 = .ok (.goto 253, 3) := dk_167 0 253 (dk_at dksX7_works_5 0 rfl rfl)
theorem dX7_works_121 : decode cX7_works 121 = .ok (.aload_n 0, 1) := dk_42 (dk_at dksX7_works_5 3 rfl rfl)
theorem dX7_works_122 : decode cX7_works 122 = .ok (.aload_n 0, 1) := dk_42 (dk_at dksX7_works_5 4 rfl rfl)
theorem dX7_works_123 : decode cX7_works 123 = .ok (.getfield 57, 3) := dk_180 0 57 (dk_at dksX7_works_5 5 rfl rfl)
theorem dX7_works_126 : decode cX7_works 126 = .ok (.iload_n 3, 1) := dk_29 (dk_at dksX7_works_5 8 rfl rfl)
theorem dX7_works_127 : decode cX7_works 127 = .ok (.iaload, 1) := dk_46 (dk_at dksX7_works_5 9 rfl rfl)
theorem dX7_works_128 : decode cX7_works 128 = .ok (.aload_n 0, 1) := dk_42 (dk_at dksX7_works_5 10 rfl rfl)
theorem dX7_works_129 : decode cX7_works 129 = .ok (.iload_n 3, 1) := dk_29 (dk_at dksX7_works_5 11 rfl rfl)
theorem dX7_works_130 : decode cX7_works 130 = .ok (.aload_n 0, 1) := dk_42 (dk_at dksX7_works_5 12 rfl rfl)
theorem dX7_works_131 : decode cX7_works 131 = .ok (.getfield 426, 3) := dk_180 1 170 (dk_at dksX7_works_5 13 rfl rfl)
theorem dX7_works_134 : decode cX7_works 134 = .ok (.invokevirtual 364, 3) := dk_182 1 108 (dk_at dksX7_works_5 16 rfl rfl)
theorem dX7_works_137 : decode cX7_works 137 = .ok (.invokevirtual 436, 3) := dk_182 1 180 (dk_at dksX7_works_5 19 rfl rfl)
theorem dX7_works_140 : decode cX7_works 140 = .ok (.goto 231, 3) := dk_167 0 231 (dk_at dksX7_works_6 0 rfl rfl)
theorem dX7_works_143 : decode cX7_works 143 = .ok (.aload_n 0, 1) := dk_42 (dk_at dksX7_works_6 3 rfl rfl)
theorem dX7_works_144 : decode cX7_works 144 = .ok (.iload_n 3, 1) := dk_29 (dk_at dksX7_works_6 4 rfl rfl)
theorem dX7_works_145 : decode cX7_works 145 = .ok (.aload_n 0, 1) := dk_42 (dk_at dksX7_works_6 5 rfl rfl)
theorem dX7_works_146 : decode cX7_works 146 = .ok (.getfield 426, 3) := dk_180 1 170 (dk_at dksX7_works_6 6 rfl rfl)
theorem dX7_works_149 : decode cX7_works 149 = .ok (.aload_n 0, 1) := dk_42 (dk_at dksX7_works_6 9 rfl rfl)
theorem dX7_works_150 : decode cX7_works 150 = .ok (.getfield 121, 3) := dk_180 0 121 (dk_at dksX7_works_6 10 rfl rfl)
theorem dX7_works_153 : decode cX7_works 153 = .ok (.iload_n 2, 1) := dk_28 (dk_at dksX7_works_6 13 rfl rfl)
theorem dX7_works_154 : decode cX7_works 154 = .ok (.iload 4, 2) := dk_21 4 (dk_at dksX7_works_6 14 rfl rfl)
theorem dX7_works_156 : decode cX7_works 156 = .ok (.iadd, 1) := dk_96 (dk_at dksX7_works_6 16 rfl rfl)
theorem dX7_works_157 : decode cX7_works 157 = .ok (.laload, 1) := dk_47 (dk_at dksX7_works_6 17 rfl rfl)
theorem dX7_works_158 : decode cX7_works 158 = .ok (.aload_n 0, 1) := dk_42 (dk_at dksX7_works_6 18 rfl rfl)
theorem dX7_works_159 : decode cX7_works 159 = .ok (.getfield 63, 3) := dk_180 0 63 (dk_at dksX7_works_6 19 rfl rfl)
theorem dX7_works_162 : decode cX7_works 162 = .ok (.iconst 3, 1) := dk_6 (dk_at dksX7_works_6 22 rfl rfl)
theorem dX7_works_163 : decode cX7_works 163 = .ok (.iload_n 1, 1) := dk_27 (dk_at dksX7_works_6 23 rfl rfl)
theorem dX7_works_164 : decode cX7_works 164 = .ok (.imul, 1) := dk_104 (dk_at dksX7_works_7 0 rfl rfl)
theorem dX7_works_165 : decode cX7_works 165 = .ok (.iload 4, 2) := dk_21 4 (dk_at dksX7_works_7 1 rfl rfl)
theorem dX7_works_167 : decode cX7_works 167 = .ok (.iadd, 1) := dk_96 (dk_at dksX7_works_7 3 rfl rfl)
theorem dX7_works_168 : decode cX7_works 168 = .ok (.iaload, 1) := dk_46 (dk_at dksX7_works_7 4 rfl rfl)
theorem dX7_works_169 : decode cX7_works 169 = .ok (.aload_n 0, 1) := dk_42 (dk_at dksX7_works_7 5 rfl rfl)
theorem dX7_works_170 : decode cX7_works 170 = .ok (.getfield 57, 3) := dk_180 0 57 (dk_at dksX7_works_7 6 rfl rfl)
theorem dX7_works_173 : decode cX7_works 173 = .ok (.iload_n 3, 1) := dk_29 (dk_at dksX7_works_7 9 rfl rfl)
theorem dX7_works_174 : decode cX7_works 174 = .ok (.iaload, 1) := dk_46 (dk_at dksX7_works_7 10 rfl rfl)
theorem dX7_works_175 : decode cX7_works 175 = .ok (.invokestatic 368, 3) := dk_184 1 112 (dk_at dksX7_works_7 11 rfl rfl)
theorem dX7_works_178 : decode cX7_works 178 = .ok (.invokevirtual 375, 3) := dk_182 1 119 (dk_at dksX7_works_7 14 rfl rfl)
theorem dX7_works_181 : decode cX7_works 181 = .ok (.goto 190, 3) := dk_167 0 190 (dk_at dksX7_works_7 17 rfl rfl)
theorem dX7_works_184 : decode cX7_works 184 = .ok (.aload_n 0, 1) := dk_42 (dk_at dksX7_works_7 20 rfl rfl)
theorem dX7_works_185 : decode cX7_works 185 = .ok (.iload_n 3, 1) := dk_29 (dk_at dksX7_works_7 21 rfl rfl)
theorem dX7_works_186 : decode cX7_works 186 = .ok (.iload_n 1, 1) := dk_27 (dk_at dksX7_works_7 22 rfl rfl)
theorem dX7_works_187 : decode cX7_works 187 = .ok (.aload_n 0, 1) := dk_42 (dk_at dksX7_works_7 23 rfl rfl)
theorem dX7_works_188 : decode cX7_works 188 = .ok (.getfield 419, 3) := dk_180 1 163 (dk_at dksX7_works_8 0 rfl rfl)
theorem dX7_works_191 : decode cX7_works 191 = .ok (.iconst 1, 1) := dk_4 (dk_at dksX7_works_8 3 rfl rfl)
theorem dX7_works_192 : decode cX7_works 192 = .ok (.isub, 1) := dk_100 (dk_at dksX7_works_8 4 rfl rfl)
theorem dX7_works_193 : decode cX7_works 193 = .ok (.invokevirtual 422, 3) := dk_182 1 166 (dk_at dksX7_works_8 5 rfl rfl)
theorem dX7_works_196 : decode cX7_works 196 = .ok (.goto 175, 3) := dk_167 0 175 (dk_at dksX7_works_8 8 rfl rfl)
theorem dX7_works_199 : decode cX7_works 199 = .ok (.aload_n 0, 1) := dk_42 (dk_at dksX7_works_8 11 rfl rfl)
theorem dX7_works_200 : decode cX7_works 200 = .ok (.iload_n 3, 1) := dk_29 (dk_at dksX7_works_8 12 rfl rfl)
theorem dX7_works_201 : decode cX7_works 201 = .ok (.iconst 0, 1) := dk_3 (dk_at dksX7_works_8 13 rfl rfl)
theorem dX7_works_202 : decode cX7_works 202 = .ok (.invokevirtual 444, 3) := dk_182 1 188 (dk_at dksX7_works_8 14 rfl rfl)
theorem dX7_works_205 : decode cX7_works 205 = .ok (.ireturn, 1) := dk_172 (dk_at dksX7_works_8 17 rfl rfl)
theorem dX7_works_206 : decode cX7_works 206 = .ok (.aload_n 0, 1) := dk_42 (dk_at dksX7_works_8 18 rfl rfl)
theorem dX7_works_207 : decode cX7_works 207 = .ok (.iload_n 1, 1) := dk_27 (dk_at dksX7_works_8 19 rfl rfl)
theorem dX7_works_208 : decode cX7_works 208 = .ok (.aload_n 0, 1) := dk_42 (dk_at dksX7_works_8 20 rfl rfl)
theorem dX7_works_209 : decode cX7_works 209 = .ok (.getfield 121, 3) := dk_180 0 121 (dk_at dksX7_works_8 21 rfl rfl)
theorem dX7_works_212 : decode cX7_works 212 = .ok (.iload_n 2, 1) := dk_28 (dk_at dksX7_works_9 0 rfl rfl)
theorem dX7_works_213 : decode cX7_works 213 = .ok (.iload_n 3, 1) := dk_29 (dk_at dksX7_works_9 1 rfl rfl)
theorem dX7_works_214 : decode cX7_works 214 = .ok (.iadd, 1) := dk_96 (dk_at dksX7_works_9 2 rfl rfl)
theorem dX7_works_215 : decode cX7_works 215 = .ok (.laload, 1) := dk_47 (dk_at dksX7_works_9 3 rfl rfl)
theorem dX7_works_216 : decode cX7_works 216 = .ok (.aload_n 0, 1) := dk_42 (dk_at dksX7_works_9 4 rfl rfl)
theorem dX7_works_217 : decode cX7_works 217 = .ok (.getfield 121, 3) := dk_180 0 121 (dk_at dksX7_works_9 5 rfl rfl)
theorem dX7_works_220 : decode cX7_works 220 = .ok (.iload_n 2, 1) := dk_28 (dk_at dksX7_works_9 8 rfl rfl)
theorem dX7_works_221 : decode cX7_works 221 = .ok (.iload 4, 2) := dk_21 4 (dk_at dksX7_works_9 9 rfl rfl)
theorem dX7_works_223 : decode cX7_works 223 = .ok (.iadd, 1) := dk_96 (dk_at dksX7_works_9 11 rfl rfl)
theorem dX7_works_224 : decode cX7_works 224 = .ok (.laload, 1) := dk_47 (dk_at dksX7_works_9 12 rfl rfl)
theorem dX7_works_225 : decode cX7_works 225 = .ok (.aload_n 0, 1) := dk_42 (dk_at dksX7_works_9 13 rfl rfl)
theorem dX7_works_226 : decode cX7_works 226 = .ok (.getfield 63, 3) := dk_180 0 63 (dk_at dksX7_works_9 14 rfl rfl)
theorem dX7_works_229 : decode cX7_works 229 = .ok (.iconst 3, 1) := dk_6 (dk_at dksX7_works_9 17 rfl rfl)
theorem dX7_works_230 : decode cX7_works 230 = .ok (.iload_n 1, 1) := dk_27 (dk_at dksX7_works_9 18 rfl rfl)
theorem dX7_works_231 : decode cX7_works 231 = .ok (.imul, 1) := dk_104 (dk_at dksX7_works_9 19 rfl rfl)
theorem dX7_works_232 : decode cX7_works 232 = .ok (.iload_n 3, 1) := dk_29 (dk_at dksX7_works_9 20 rfl rfl)
theorem dX7_works_233 : decode cX7_works 233 = .ok (.iadd, 1) := dk_96 (dk_at dksX7_works_9 21 rfl rfl)
theorem dX7_works_234 : decode cX7_works 234 = .ok (.iaload, 1) := dk_46 (dk_at dksX7_works_9 22 rfl rfl)
theorem dX7_works_235 : decode cX7_works 235 = .ok (.aload_n 0, 1) := dk_42 (dk_at dksX7_works_9 23 rfl rfl)
theorem dX7_works_236 : decode cX7_works 236 = .ok (.getfield 63, 3) := dk_180 0 63 (dk_at dksX7_works_10 0 rfl rfl)
theorem dX7_works_239 : decode cX7_works 239 = .ok (.iconst 3, 1) := dk_6 (dk_at dksX7_works_10 3 rfl rfl)
theorem dX7_works_240 : decode cX7_works 240 = .ok (.iload_n 1, 1) := dk_27 (dk_at dksX7_works_10 4 rfl rfl)
theorem dX7_works_241 : decode cX7_works 241 = .ok (.imul, 1) := dk_104 (dk_at dksX7_works_10 5 rfl rfl)
theorem dX7_works_242 : decode cX7_works 242 = .ok (.iload 4, 2) := dk_21 4 (dk_at dksX7_works_10 6 rfl rfl)
theorem dX7_works_244 : decode cX7_works 244 = .ok (.iadd, 1) := dk_96 (dk_at dksX7_works_10 8 rfl rfl)
theorem dX7_works_245 : decode cX7_works 245 = .ok (.iaload, 1) := dk_46 (dk_at dksX7_works_10 9 rfl rfl)
theorem dX7_works_246 : decode cX7_works 246 = .ok (.invokevirtual 448, 3) := dk_182 1 192 (dk_at dksX7_works_10 10 rfl rfl)
theorem dX7_works_249 : decode cX7_works 249 = .ok (.goto 122, 3) := dk_167 0 122 (dk_at dksX7_works_10 13 rfl rfl)
theorem dX7_works_252 : decode cX7_works 252 = .ok (.aload_n 0, 1) := dk_42 (dk_at dksX7_works_10 16 rfl rfl)
theorem dX7_works_253 : decode cX7_works 253 = .ok (.aload_n 0, 1) := dk_42 (dk_at dksX7_works_10 17 rfl rfl)
theorem dX7_works_254 : decode cX7_works 254 = .ok (.getfield 81, 3) := dk_180 0 81 (dk_at dksX7_works_10 18 rfl rfl)
theorem dX7_works_257 : decode cX7_works 257 = .ok (.iload_n 1, 1) := dk_27 (dk_at dksX7_works_10 21 rfl rfl)
theorem dX7_works_258 : decode cX7_works 258 = .ok (.iaload, 1) := dk_46 (dk_at dksX7_works_10 22 rfl rfl)
theorem dX7_works_259 : decode cX7_works 259 = .ok (.iconst 1, 1) := dk_4 (dk_at dksX7_works_10 23 rfl rfl)
theorem dX7_works_260 : decode cX7_works 260 = .ok (.invokevirtual 444, 3) := dk_182 1 188 (dk_at dksX7_works_11 0 rfl rfl)
theorem dX7_works_263 : decode cX7_works 263 = .ok (.ireturn, 1) := dk_172 (dk_at dksX7_works_11 3 rfl rfl)
theorem dX7_works_264 : decode cX7_works 264 = .ok (.aload_n 0, 1) := dk_42 (dk_at dksX7_works_11 4 rfl rfl)
theorem dX7_works_265 : decode cX7_works 265 = .ok (.getfield 121, 3) := dk_180 0 121 (dk_at dksX7_works_11 5 rfl rfl)
theorem dX7_works_268 : decode cX7_works 268 = .ok (.iload_n 2, 1) := dk_28 (dk_at dksX7_works_11 8 rfl rfl)
theorem dX7_works_269 : decode cX7_works 269 = .ok (.iload_n 3, 1) := dk_29 (dk_at dksX7_works_11 9 rfl rfl)
theorem dX7_works_270 : decode cX7_works 270 = .ok (.iadd, 1) := dk_96 (dk_at dksX7_works_11 10 rfl rfl)
theorem dX7_works_271 : decode cX7_works 271 = .ok (.laload, 1) := dk_47 (dk_at dksX7_works_11 11 rfl rfl)
theorem dX7_works_272 : decode cX7_works 272 = .ok (.l2i, 1) := dk_136 (dk_at dksX7_works_11 12 rfl rfl)
theorem dX7_works_273 : decode cX7_works 273 = .ok (.istore 5, 2) := dk_54 5 (dk_at dksX7_works_11 13 rfl rfl)
theorem dX7_works_275 : decode cX7_works 275 = .ok (.aload_n 0, 1) := dk_42 (dk_at dksX7_works_11 15 rfl rfl)
theorem dX7_works_276 : decode cX7_works 276 = .ok (.getfield 121, 3) := dk_180 0 121 (dk_at dksX7_works_11 16 rfl rfl)
theorem dX7_works_279 : decode cX7_works 279 = .ok (.iload_n 2, 1) := dk_28 (dk_at dksX7_works_11 19 rfl rfl)
theorem dX7_works_280 : decode cX7_works 280 = .ok (.iload 4, 2) := dk_21 4 (dk_at dksX7_works_11 20 rfl rfl)
theorem dX7_works_282 : decode cX7_works 282 = .ok (.iadd, 1) := dk_96 (dk_at dksX7_works_11 22 rfl rfl)
theorem dX7_works_283 : decode cX7_works 283 = .ok (.laload, 1) := dk_47 (dk_at dksX7_works_11 23 rfl rfl)
theorem dX7_works_284 : decode cX7_works 284 = .ok (.l2i, 1) := dk_136 (dk_at dksX7_works_12 0 rfl rfl)
theorem dX7_works_285 : decode cX7_works 285 = .ok (.istore 6, 2) := dk_54 6 (dk_at dksX7_works_12 1 rfl rfl)
theorem dX7_works_287 : decode cX7_works 287 = .ok (.iload 5, 2) := dk_21 5 (dk_at dksX7_works_12 3 rfl rfl)
theorem dX7_works_289 : decode cX7_works 289 = .ok (.ifCond .lt 23, 3) := dk_155 0 23 (dk_at dksX7_works_12 5 rfl rfl)
theorem dX7_works_292 : decode cX7_works 292 = .ok (.iload 6, 2) := dk_21 6 (dk_at dksX7_works_12 8 rfl rfl)
theorem dX7_works_294 : decode cX7_works 294 = .ok (.i2l, 1) := dk_133 (dk_at dksX7_works_12 10 rfl rfl)
theorem dX7_works_295 : decode cX7_works 295 = .ok (.lconst 0, 1) := dk_9 (dk_at dksX7_works_12 11 rfl rfl)
theorem dX7_works_296 : decode cX7_works 296 = .ok (.aload_n 0, 1) := dk_42 (dk_at dksX7_works_12 12 rfl rfl)
theorem dX7_works_297 : decode cX7_works 297 = .ok (.getfield 91, 3) := dk_180 0 91 (dk_at dksX7_works_12 13 rfl rfl)
theorem dX7_works_300 : decode cX7_works 300 = .ok (.iload 5, 2) := dk_21 5 (dk_at dksX7_works_12 16 rfl rfl)
theorem dX7_works_302 : decode cX7_works 302 = .ok (.iaload, 1) := dk_46 (dk_at dksX7_works_12 18 rfl rfl)
theorem dX7_works_303 : decode cX7_works 303 = .ok (.iconst 1, 1) := dk_4 (dk_at dksX7_works_12 19 rfl rfl)
theorem dX7_works_304 : decode cX7_works 304 = .ok (.isub, 1) := dk_100 (dk_at dksX7_works_12 20 rfl rfl)
theorem dX7_works_305 : decode cX7_works 305 = .ok (.i2l, 1) := dk_133 (dk_at dksX7_works_12 21 rfl rfl)
theorem dX7_works_306 : decode cX7_works 306 = .ok (.invokestatic 127, 3) := dk_184 0 127 (dk_at dksX7_works_13 0 rfl rfl)
theorem dX7_works_309 : decode cX7_works 309 = .ok (.ifCond .ne 27, 3) := dk_154 0 27 (dk_at dksX7_works_13 3 rfl rfl)
theorem dX7_works_312 : decode cX7_works 312 = .ok (.aload_n 0, 1) := dk_42 (dk_at dksX7_works_13 6 rfl rfl)
theorem dX7_works_313 : decode cX7_works 313 = .ok (.iload 5, 2) := dk_21 5 (dk_at dksX7_works_13 7 rfl rfl)
theorem dX7_works_315 : decode cX7_works 315 = .ok (.ifCond .ge 7, 3) := dk_156 0 7 (dk_at dksX7_works_13 9 rfl rfl)
theorem dX7_works_318 : decode cX7_works 318 = .ok (.iconst 1, 1) := dk_4 (dk_at dksX7_works_13 12 rfl rfl)
theorem dX7_works_319 : decode cX7_works 319 = .ok (.goto 4, 3) := dk_167 0 4 (dk_at dksX7_works_13 13 rfl rfl)
theorem dX7_works_322 : decode cX7_works 322 = .ok (.iconst 3, 1) := dk_6 (dk_at dksX7_works_13 16 rfl rfl)
theorem dX7_works_323 : decode cX7_works 323 = .ok (.iload_n 1, 1) := dk_27 (dk_at dksX7_works_13 17 rfl rfl)
theorem dX7_works_324 : decode cX7_works 324 = .ok (.aload_n 0, 1) := dk_42 (dk_at dksX7_works_13 18 rfl rfl)
theorem dX7_works_325 : decode cX7_works 325 = .ok (.getfield 419, 3) := dk_180 1 163 (dk_at dksX7_works_13 19 rfl rfl)
theorem dX7_works_328 : decode cX7_works 328 = .ok (.iconst 1, 1) := dk_4 (dk_at dksX7_works_13 22 rfl rfl)
theorem dX7_works_329 : decode cX7_works 329 = .ok (.isub, 1) := dk_100 (dk_at dksX7_works_13 23 rfl rfl)
theorem dX7_works_330 : decode cX7_works 330 = .ok (.invokevirtual 422, 3) := dk_182 1 166 (dk_at dksX7_works_14 0 rfl rfl)
theorem dX7_works_333 : decode cX7_works 333 = .ok (.goto 38, 3) := dk_167 0 38 (dk_at dksX7_works_14 3 rfl rfl)
theorem dX7_works_336 : decode cX7_works 336 = .ok (.aload_n 0, 1) := dk_42 (dk_at dksX7_works_14 6 rfl rfl)
theorem dX7_works_337 : decode cX7_works 337 = .ok (.aload_n 0, 1) := dk_42 (dk_at dksX7_works_14 7 rfl rfl)
theorem dX7_works_338 : decode cX7_works 338 = .ok (.getfield 23, 3) := dk_180 0 23 (dk_at dksX7_works_14 8 rfl rfl)
theorem dX7_works_341 : decode cX7_works 341 = .ok (.aload_n 0, 1) := dk_42 (dk_at dksX7_works_14 11 rfl rfl)
theorem dX7_works_342 : decode cX7_works 342 = .ok (.getfield 63, 3) := dk_180 0 63 (dk_at dksX7_works_14 12 rfl rfl)
theorem dX7_works_345 : decode cX7_works 345 = .ok (.iconst 3, 1) := dk_6 (dk_at dksX7_works_14 15 rfl rfl)
theorem dX7_works_346 : decode cX7_works 346 = .ok (.iload_n 1, 1) := dk_27 (dk_at dksX7_works_14 16 rfl rfl)
theorem dX7_works_347 : decode cX7_works 347 = .ok (.imul, 1) := dk_104 (dk_at dksX7_works_14 17 rfl rfl)
theorem dX7_works_348 : decode cX7_works 348 = .ok (.iload_n 3, 1) := dk_29 (dk_at dksX7_works_14 18 rfl rfl)
theorem dX7_works_349 : decode cX7_works 349 = .ok (.iadd, 1) := dk_96 (dk_at dksX7_works_14 19 rfl rfl)
theorem dX7_works_350 : decode cX7_works 350 = .ok (.iaload, 1) := dk_46 (dk_at dksX7_works_14 20 rfl rfl)
theorem dX7_works_351 : decode cX7_works 351 = .ok (.iaload, 1) := dk_46 (dk_at dksX7_works_14 21 rfl rfl)
theorem dX7_works_352 : decode cX7_works 352 = .ok (.aload_n 0, 1) := dk_42 (dk_at dksX7_works_14 22 rfl rfl)
theorem dX7_works_353 : decode cX7_works 353 = .ok (.getfield 97, 3) := dk_180 0 97 (dk_at dksX7_works_15 0 rfl rfl)
theorem dX7_works_356 : decode cX7_works 356 = .ok (.bipush 20, 2) := dk_16 20 (dk_at dksX7_works_15 3 rfl rfl)
theorem dX7_works_358 : decode cX7_works 358 = .ok (.iload 5, 2) := dk_21 5 (dk_at dksX7_works_15 5 rfl rfl)
theorem dX7_works_360 : decode cX7_works 360 = .ok (.imul, 1) := dk_104 (dk_at dksX7_works_15 7 rfl rfl)
theorem dX7_works_361 : decode cX7_works 361 = .ok (.iload 6, 2) := dk_21 6 (dk_at dksX7_works_15 8 rfl rfl)
theorem dX7_works_363 : decode cX7_works 363 = .ok (.iadd, 1) := dk_96 (dk_at dksX7_works_15 10 rfl rfl)
theorem dX7_works_364 : decode cX7_works 364 = .ok (.laload, 1) := dk_47 (dk_at dksX7_works_15 11 rfl rfl)
theorem dX7_works_365 : decode cX7_works 365 = .ok (.invokevirtual 436, 3) := dk_182 1 180 (dk_at dksX7_works_15 12 rfl rfl)
theorem dX7_works_368 : decode cX7_works 368 = .ok (.goto 3, 3) := dk_167 0 3 (dk_at dksX7_works_15 15 rfl rfl)
theorem dX7_works_371 : decode cX7_works 371 = .ok (.iconst (-1), 1) := dk_2 (dk_at dksX7_works_15 18 rfl rfl)
theorem dX7_works_372 : decode cX7_works 372 = .ok (.ireturn, 1) := dk_172 (dk_at dksX7_works_15 19 rfl rfl)
abbrev cX7_comesTo : ByteArray := prog_30_method_99_code
def yX7_comesTo : MethodName := ⟨RX7, "comesTo", "(IJ)V"⟩
def dkwX7_comesTo_0 : List UInt8 := [42, 27, 181, 1, 173, 42, 32, 181, 1, 176, 177]
abbrev dktX7_comesTo_0 : List UInt8 := dkwX7_comesTo_0 ++ []
theorem dksX7_comesTo_0 : cX7_comesTo.data.toList.drop 0 = dktX7_comesTo_0 := by decide +kernel
theorem dX7_comesTo_0 : decode cX7_comesTo 0 = .ok (.aload_n 0, 1) := dk_42 (dk_at dksX7_comesTo_0 0 rfl rfl)
theorem dX7_comesTo_1 : decode cX7_comesTo 1 = .ok (.iload_n 1, 1) := dk_27 (dk_at dksX7_comesTo_0 1 rfl rfl)
theorem dX7_comesTo_2 : decode cX7_comesTo 2 = .ok (.putfield 429, 3) := dk_181 1 173 (dk_at dksX7_comesTo_0 2 rfl rfl)
theorem dX7_comesTo_5 : decode cX7_comesTo 5 = .ok (.aload_n 0, 1) := dk_42 (dk_at dksX7_comesTo_0 5 rfl rfl)
theorem dX7_comesTo_6 : decode cX7_comesTo 6 = .ok (.lload_n 2, 1) := dk_32 (dk_at dksX7_comesTo_0 6 rfl rfl)
theorem dX7_comesTo_7 : decode cX7_comesTo 7 = .ok (.putfield 432, 3) := dk_181 1 176 (dk_at dksX7_comesTo_0 7 rfl rfl)
theorem dX7_comesTo_10 : decode cX7_comesTo 10 = .ok (.return_, 1) := dk_177 (dk_at dksX7_comesTo_0 10 rfl rfl)
abbrev cX7_adds : ByteArray := prog_30_method_100_code
def yX7_adds : MethodName := ⟨RX7, "adds", "(IJJII)V"⟩
def dkwX7_adds_8 : List UInt8 := [184, 1, 57, 167, 0, 11, 24, 13, 24, 15, 99, 184, 1, 53, 182, 1, 180, 177]
abbrev dktX7_adds_8 : List UInt8 := dkwX7_adds_8 ++ []
def dkwX7_adds_7 : List UInt8 := [4, 100, 182, 1, 166, 167, 0, 36, 42, 21, 8, 21, 8, 16, 6, 160, 0, 15, 24, 13, 24, 15, 99, 144]
abbrev dktX7_adds_7 : List UInt8 := dkwX7_adds_7 ++ dktX7_adds_8
def dkwX7_adds_6 : List UInt8 := [24, 13, 24, 17, 119, 152, 156, 0, 26, 24, 15, 24, 17, 151, 158, 0, 18, 42, 5, 27, 42, 180, 1, 163]
abbrev dktX7_adds_6 : List UInt8 := dkwX7_adds_6 ++ dktX7_adds_7
def dkwX7_adds_5 : List UInt8 := [57, 15, 20, 1, 37, 57, 17, 24, 13, 24, 17, 151, 158, 0, 12, 24, 15, 24, 17, 119, 152, 155, 0, 20]
abbrev dktX7_adds_5 : List UInt8 := dkwX7_adds_5 ++ dktX7_adds_6
def dkwX7_adds_4 : List UInt8 := [57, 13, 21, 8, 16, 6, 160, 0, 12, 22, 11, 184, 1, 49, 141, 167, 0, 8, 22, 11, 184, 1, 184]
abbrev dktX7_adds_4 : List UInt8 := dkwX7_adds_4 ++ dktX7_adds_5
def dkwX7_adds_3 : List UInt8 := [167, 0, 136, 21, 8, 16, 6, 160, 0, 12, 22, 9, 184, 1, 49, 141, 167, 0, 8, 22, 9, 184, 1, 184]
abbrev dktX7_adds_3 : List UInt8 := dkwX7_adds_3 ++ dktX7_adds_4
def dkwX7_adds_2 : List UInt8 := [182, 1, 180, 167, 0, 156, 21, 8, 8, 160, 0, 17, 42, 21, 8, 22, 9, 22, 11, 97, 182, 1, 180]
abbrev dktX7_adds_2 : List UInt8 := dkwX7_adds_2 ++ dktX7_adds_3
def dkwX7_adds_1 : List UInt8 := [21, 8, 184, 1, 112, 55, 11, 21, 8, 7, 160, 0, 19, 42, 21, 8, 22, 9, 22, 11, 97, 136, 133]
abbrev dktX7_adds_1 : List UInt8 := dkwX7_adds_1 ++ dktX7_adds_2
def dkwX7_adds_0 : List UInt8 := [21, 6, 21, 7, 184, 1, 141, 54, 8, 32, 21, 6, 21, 8, 184, 1, 112, 55, 9, 22, 4, 21, 7]
abbrev dktX7_adds_0 : List UInt8 := dkwX7_adds_0 ++ dktX7_adds_1
theorem dksX7_adds_0 : cX7_adds.data.toList.drop 0 = dktX7_adds_0 := by decide +kernel
theorem dksX7_adds_1 : cX7_adds.data.toList.drop 23 = dktX7_adds_1 := dk_seg dksX7_adds_0 23 rfl rfl
theorem dksX7_adds_2 : cX7_adds.data.toList.drop 46 = dktX7_adds_2 := dk_seg dksX7_adds_1 23 rfl rfl
theorem dksX7_adds_3 : cX7_adds.data.toList.drop 69 = dktX7_adds_3 := dk_seg dksX7_adds_2 23 rfl rfl
theorem dksX7_adds_4 : cX7_adds.data.toList.drop 93 = dktX7_adds_4 := dk_seg dksX7_adds_3 24 rfl rfl
theorem dksX7_adds_5 : cX7_adds.data.toList.drop 116 = dktX7_adds_5 := dk_seg dksX7_adds_4 23 rfl rfl
theorem dksX7_adds_6 : cX7_adds.data.toList.drop 140 = dktX7_adds_6 := dk_seg dksX7_adds_5 24 rfl rfl
theorem dksX7_adds_7 : cX7_adds.data.toList.drop 164 = dktX7_adds_7 := dk_seg dksX7_adds_6 24 rfl rfl
theorem dksX7_adds_8 : cX7_adds.data.toList.drop 188 = dktX7_adds_8 := dk_seg dksX7_adds_7 24 rfl rfl
theorem dX7_adds_0 : decode cX7_adds 0 = .ok (.iload 6, 2) := dk_21 6 (dk_at dksX7_adds_0 0 rfl rfl)
theorem dX7_adds_2 : decode cX7_adds 2 = .ok (.iload 7, 2) := dk_21 7 (dk_at dksX7_adds_0 2 rfl rfl)
theorem dX7_adds_4 : decode cX7_adds 4 = .ok (.invokestatic 397, 3) := dk_184 1 141 (dk_at dksX7_adds_0 4 rfl rfl)
theorem dX7_adds_7 : decode cX7_adds 7 = .ok (.istore 8, 2) := dk_54 8 (dk_at dksX7_adds_0 7 rfl rfl)
theorem dX7_adds_9 : decode cX7_adds 9 = .ok (.lload_n 2, 1) := dk_32 (dk_at dksX7_adds_0 9 rfl rfl)
theorem dX7_adds_10 : decode cX7_adds 10 = .ok (.iload 6, 2) := dk_21 6 (dk_at dksX7_adds_0 10 rfl rfl)
theorem dX7_adds_12 : decode cX7_adds 12 = .ok (.iload 8, 2) := dk_21 8 (dk_at dksX7_adds_0 12 rfl rfl)
theorem dX7_adds_14 : decode cX7_adds 14 = .ok (.invokestatic 368, 3) := dk_184 1 112 (dk_at dksX7_adds_0 14 rfl rfl)
theorem dX7_adds_17 : decode cX7_adds 17 = .ok (.lstore 9, 2) := dk_55 9 (dk_at dksX7_adds_0 17 rfl rfl)
theorem dX7_adds_19 : decode cX7_adds 19 = .ok (.lload 4, 2) := dk_22 4 (dk_at dksX7_adds_0 19 rfl rfl)
theorem dX7_adds_21 : decode cX7_adds 21 = .ok (.iload 7, 2) := dk_21 7 (dk_at dksX7_adds_0 21 rfl rfl)
theorem dX7_adds_23 : decode cX7_adds 23 = .ok (.iload 8, 2) := dk_21 8 (dk_at dksX7_adds_1 0 rfl rfl)
theorem dX7_adds_25 : decode cX7_adds 25 = .ok (.invokestatic 368, 3) := dk_184 1 112 (dk_at dksX7_adds_1 2 rfl rfl)
theorem dX7_adds_28 : decode cX7_adds 28 = .ok (.lstore 11, 2) := dk_55 11 (dk_at dksX7_adds_1 5 rfl rfl)
theorem dX7_adds_30 : decode cX7_adds 30 = .ok (.iload 8, 2) := dk_21 8 (dk_at dksX7_adds_1 7 rfl rfl)
theorem dX7_adds_32 : decode cX7_adds 32 = .ok (.iconst 4, 1) := dk_7 (dk_at dksX7_adds_1 9 rfl rfl)
theorem dX7_adds_33 : decode cX7_adds 33 = .ok (.if_icmp .ne 19, 3) := dk_160 0 19 (dk_at dksX7_adds_1 10 rfl rfl)
theorem dX7_adds_36 : decode cX7_adds 36 = .ok (.aload_n 0, 1) := dk_42 (dk_at dksX7_adds_1 13 rfl rfl)
theorem dX7_adds_37 : decode cX7_adds 37 = .ok (.iload 8, 2) := dk_21 8 (dk_at dksX7_adds_1 14 rfl rfl)
theorem dX7_adds_39 : decode cX7_adds 39 = .ok (.lload 9, 2) := dk_22 9 (dk_at dksX7_adds_1 16 rfl rfl)
theorem dX7_adds_41 : decode cX7_adds 41 = .ok (.lload 11, 2) := dk_22 11 (dk_at dksX7_adds_1 18 rfl rfl)
theorem dX7_adds_43 : decode cX7_adds 43 = .ok (.ladd, 1) := dk_97 (dk_at dksX7_adds_1 20 rfl rfl)
theorem dX7_adds_44 : decode cX7_adds 44 = .ok (.l2i, 1) := dk_136 (dk_at dksX7_adds_1 21 rfl rfl)
theorem dX7_adds_45 : decode cX7_adds 45 = .ok (.i2l, 1) := dk_133 (dk_at dksX7_adds_1 22 rfl rfl)
theorem dX7_adds_46 : decode cX7_adds 46 = .ok (.invokevirtual 436, 3) := dk_182 1 180 (dk_at dksX7_adds_2 0 rfl rfl)
theorem dX7_adds_49 : decode cX7_adds 49 = .ok (.goto 156, 3) := dk_167 0 156 (dk_at dksX7_adds_2 3 rfl rfl)
theorem dX7_adds_52 : decode cX7_adds 52 = .ok (.iload 8, 2) := dk_21 8 (dk_at dksX7_adds_2 6 rfl rfl)
theorem dX7_adds_54 : decode cX7_adds 54 = .ok (.iconst 5, 1) := dk_8 (dk_at dksX7_adds_2 8 rfl rfl)
theorem dX7_adds_55 : decode cX7_adds 55 = .ok (.if_icmp .ne 17, 3) := dk_160 0 17 (dk_at dksX7_adds_2 9 rfl rfl)
theorem dX7_adds_58 : decode cX7_adds 58 = .ok (.aload_n 0, 1) := dk_42 (dk_at dksX7_adds_2 12 rfl rfl)
theorem dX7_adds_59 : decode cX7_adds 59 = .ok (.iload 8, 2) := dk_21 8 (dk_at dksX7_adds_2 13 rfl rfl)
theorem dX7_adds_61 : decode cX7_adds 61 = .ok (.lload 9, 2) := dk_22 9 (dk_at dksX7_adds_2 15 rfl rfl)
theorem dX7_adds_63 : decode cX7_adds 63 = .ok (.lload 11, 2) := dk_22 11 (dk_at dksX7_adds_2 17 rfl rfl)
theorem dX7_adds_65 : decode cX7_adds 65 = .ok (.ladd, 1) := dk_97 (dk_at dksX7_adds_2 19 rfl rfl)
theorem dX7_adds_66 : decode cX7_adds 66 = .ok (.invokevirtual 436, 3) := dk_182 1 180 (dk_at dksX7_adds_2 20 rfl rfl)
theorem dX7_adds_69 : decode cX7_adds 69 = .ok (.goto 136, 3) := dk_167 0 136 (dk_at dksX7_adds_3 0 rfl rfl)
theorem dX7_adds_72 : decode cX7_adds 72 = .ok (.iload 8, 2) := dk_21 8 (dk_at dksX7_adds_3 3 rfl rfl)
theorem dX7_adds_74 : decode cX7_adds 74 = .ok (.bipush 6, 2) := dk_16 6 (dk_at dksX7_adds_3 5 rfl rfl)
theorem dX7_adds_76 : decode cX7_adds 76 = .ok (.if_icmp .ne 12, 3) := dk_160 0 12 (dk_at dksX7_adds_3 7 rfl rfl)
theorem dX7_adds_79 : decode cX7_adds 79 = .ok (.lload 9, 2) := dk_22 9 (dk_at dksX7_adds_3 10 rfl rfl)
theorem dX7_adds_81 : decode cX7_adds 81 = .ok (.invokestatic 305, 3) := dk_184 1 49 (dk_at dksX7_adds_3 12 rfl rfl)
theorem dX7_adds_84 : decode cX7_adds 84 = .ok (.f2d, 1) := dk_141 (dk_at dksX7_adds_3 15 rfl rfl)
theorem dX7_adds_85 : decode cX7_adds 85 = .ok (.goto 8, 3) := dk_167 0 8 (dk_at dksX7_adds_3 16 rfl rfl)
theorem dX7_adds_88 : decode cX7_adds 88 = .ok (.lload 9, 2) := dk_22 9 (dk_at dksX7_adds_3 19 rfl rfl)
theorem dX7_adds_90 : decode cX7_adds 90 = .ok (.invokestatic 440, 3) := dk_184 1 184 (dk_at dksX7_adds_3 21 rfl rfl)
theorem dX7_adds_93 : decode cX7_adds 93 = .ok (.dstore 13, 2) := dk_57 13 (dk_at dksX7_adds_4 0 rfl rfl)
theorem dX7_adds_95 : decode cX7_adds 95 = .ok (.iload 8, 2) := dk_21 8 (dk_at dksX7_adds_4 2 rfl rfl)
theorem dX7_adds_97 : decode cX7_adds 97 = .ok (.bipush 6, 2) := dk_16 6 (dk_at dksX7_adds_4 4 rfl rfl)
theorem dX7_adds_99 : decode cX7_adds 99 = .ok (.if_icmp .ne 12, 3) := dk_160 0 12 (dk_at dksX7_adds_4 6 rfl rfl)
theorem dX7_adds_102 : decode cX7_adds 102 = .ok (.lload 11, 2) := dk_22 11 (dk_at dksX7_adds_4 9 rfl rfl)
theorem dX7_adds_104 : decode cX7_adds 104 = .ok (.invokestatic 305, 3) := dk_184 1 49 (dk_at dksX7_adds_4 11 rfl rfl)
theorem dX7_adds_107 : decode cX7_adds 107 = .ok (.f2d, 1) := dk_141 (dk_at dksX7_adds_4 14 rfl rfl)
theorem dX7_adds_108 : decode cX7_adds 108 = .ok (.goto 8, 3) := dk_167 0 8 (dk_at dksX7_adds_4 15 rfl rfl)
theorem dX7_adds_111 : decode cX7_adds 111 = .ok (.lload 11, 2) := dk_22 11 (dk_at dksX7_adds_4 18 rfl rfl)
theorem dX7_adds_113 : decode cX7_adds 113 = .ok (.invokestatic 440, 3) := dk_184 1 184 (dk_at dksX7_adds_4 20 rfl rfl)
theorem dX7_adds_116 : decode cX7_adds 116 = .ok (.dstore 15, 2) := dk_57 15 (dk_at dksX7_adds_5 0 rfl rfl)
theorem dX7_adds_118 : decode cX7_adds 118 = .ok (.ldc2_w 293, 3) := dk_20 1 37 (dk_at dksX7_adds_5 2 rfl rfl)
theorem dX7_adds_121 : decode cX7_adds 121 = .ok (.dstore 17, 2) := dk_57 17 (dk_at dksX7_adds_5 5 rfl rfl)
theorem dX7_adds_123 : decode cX7_adds 123 = .ok (.dload 13, 2) := dk_24 13 (dk_at dksX7_adds_5 7 rfl rfl)
theorem dX7_adds_125 : decode cX7_adds 125 = .ok (.dload 17, 2) := dk_24 17 (dk_at dksX7_adds_5 9 rfl rfl)
theorem dX7_adds_127 : decode cX7_adds 127 = .ok (.dcmp .l, 1) := dk_151 (dk_at dksX7_adds_5 11 rfl rfl)
theorem dX7_adds_128 : decode cX7_adds 128 = .ok (.ifCond .le 12, 3) := dk_158 0 12 (dk_at dksX7_adds_5 12 rfl rfl)
theorem dX7_adds_131 : decode cX7_adds 131 = .ok (.dload 15, 2) := dk_24 15 (dk_at dksX7_adds_5 15 rfl rfl)
theorem dX7_adds_133 : decode cX7_adds 133 = .ok (.dload 17, 2) := dk_24 17 (dk_at dksX7_adds_5 17 rfl rfl)
theorem dX7_adds_135 : decode cX7_adds 135 = .ok (.dneg, 1) := dk_119 (dk_at dksX7_adds_5 19 rfl rfl)
theorem dX7_adds_136 : decode cX7_adds 136 = .ok (.dcmp .g, 1) := dk_152 (dk_at dksX7_adds_5 20 rfl rfl)
theorem dX7_adds_137 : decode cX7_adds 137 = .ok (.ifCond .lt 20, 3) := dk_155 0 20 (dk_at dksX7_adds_5 21 rfl rfl)
theorem dX7_adds_140 : decode cX7_adds 140 = .ok (.dload 13, 2) := dk_24 13 (dk_at dksX7_adds_6 0 rfl rfl)
theorem dX7_adds_142 : decode cX7_adds 142 = .ok (.dload 17, 2) := dk_24 17 (dk_at dksX7_adds_6 2 rfl rfl)
theorem dX7_adds_144 : decode cX7_adds 144 = .ok (.dneg, 1) := dk_119 (dk_at dksX7_adds_6 4 rfl rfl)
theorem dX7_adds_145 : decode cX7_adds 145 = .ok (.dcmp .g, 1) := dk_152 (dk_at dksX7_adds_6 5 rfl rfl)
theorem dX7_adds_146 : decode cX7_adds 146 = .ok (.ifCond .ge 26, 3) := dk_156 0 26 (dk_at dksX7_adds_6 6 rfl rfl)
theorem dX7_adds_149 : decode cX7_adds 149 = .ok (.dload 15, 2) := dk_24 15 (dk_at dksX7_adds_6 9 rfl rfl)
theorem dX7_adds_151 : decode cX7_adds 151 = .ok (.dload 17, 2) := dk_24 17 (dk_at dksX7_adds_6 11 rfl rfl)
theorem dX7_adds_153 : decode cX7_adds 153 = .ok (.dcmp .l, 1) := dk_151 (dk_at dksX7_adds_6 13 rfl rfl)
theorem dX7_adds_154 : decode cX7_adds 154 = .ok (.ifCond .le 18, 3) := dk_158 0 18 (dk_at dksX7_adds_6 14 rfl rfl)
theorem dX7_adds_157 : decode cX7_adds 157 = .ok (.aload_n 0, 1) := dk_42 (dk_at dksX7_adds_6 17 rfl rfl)
theorem dX7_adds_158 : decode cX7_adds 158 = .ok (.iconst 2, 1) := dk_5 (dk_at dksX7_adds_6 18 rfl rfl)
theorem dX7_adds_159 : decode cX7_adds 159 = .ok (.iload_n 1, 1) := dk_27 (dk_at dksX7_adds_6 19 rfl rfl)
theorem dX7_adds_160 : decode cX7_adds 160 = .ok (.aload_n 0, 1) := dk_42 (dk_at dksX7_adds_6 20 rfl rfl)
theorem dX7_adds_161 : decode cX7_adds 161 = .ok (.getfield 419, 3) := dk_180 1 163 (dk_at dksX7_adds_6 21 rfl rfl)
theorem dX7_adds_164 : decode cX7_adds 164 = .ok (.iconst 1, 1) := dk_4 (dk_at dksX7_adds_7 0 rfl rfl)
theorem dX7_adds_165 : decode cX7_adds 165 = .ok (.isub, 1) := dk_100 (dk_at dksX7_adds_7 1 rfl rfl)
theorem dX7_adds_166 : decode cX7_adds 166 = .ok (.invokevirtual 422, 3) := dk_182 1 166 (dk_at dksX7_adds_7 2 rfl rfl)
theorem dX7_adds_169 : decode cX7_adds 169 = .ok (.goto 36, 3) := dk_167 0 36 (dk_at dksX7_adds_7 5 rfl rfl)
theorem dX7_adds_172 : decode cX7_adds 172 = .ok (.aload_n 0, 1) := dk_42 (dk_at dksX7_adds_7 8 rfl rfl)
theorem dX7_adds_173 : decode cX7_adds 173 = .ok (.iload 8, 2) := dk_21 8 (dk_at dksX7_adds_7 9 rfl rfl)
theorem dX7_adds_175 : decode cX7_adds 175 = .ok (.iload 8, 2) := dk_21 8 (dk_at dksX7_adds_7 11 rfl rfl)
theorem dX7_adds_177 : decode cX7_adds 177 = .ok (.bipush 6, 2) := dk_16 6 (dk_at dksX7_adds_7 13 rfl rfl)
theorem dX7_adds_179 : decode cX7_adds 179 = .ok (.if_icmp .ne 15, 3) := dk_160 0 15 (dk_at dksX7_adds_7 15 rfl rfl)
theorem dX7_adds_182 : decode cX7_adds 182 = .ok (.dload 13, 2) := dk_24 13 (dk_at dksX7_adds_7 18 rfl rfl)
theorem dX7_adds_184 : decode cX7_adds 184 = .ok (.dload 15, 2) := dk_24 15 (dk_at dksX7_adds_7 20 rfl rfl)
theorem dX7_adds_186 : decode cX7_adds 186 = .ok (.dadd, 1) := dk_99 (dk_at dksX7_adds_7 22 rfl rfl)
theorem dX7_adds_187 : decode cX7_adds 187 = .ok (.d2f, 1) := dk_144 (dk_at dksX7_adds_7 23 rfl rfl)
theorem dX7_adds_188 : decode cX7_adds 188 = .ok (.invokestatic 313, 3) := dk_184 1 57 (dk_at dksX7_adds_8 0 rfl rfl)
theorem dX7_adds_191 : decode cX7_adds 191 = .ok (.goto 11, 3) := dk_167 0 11 (dk_at dksX7_adds_8 3 rfl rfl)
theorem dX7_adds_194 : decode cX7_adds 194 = .ok (.dload 13, 2) := dk_24 13 (dk_at dksX7_adds_8 6 rfl rfl)
theorem dX7_adds_196 : decode cX7_adds 196 = .ok (.dload 15, 2) := dk_24 15 (dk_at dksX7_adds_8 8 rfl rfl)
theorem dX7_adds_198 : decode cX7_adds 198 = .ok (.dadd, 1) := dk_99 (dk_at dksX7_adds_8 10 rfl rfl)
theorem dX7_adds_199 : decode cX7_adds 199 = .ok (.invokestatic 309, 3) := dk_184 1 53 (dk_at dksX7_adds_8 11 rfl rfl)
theorem dX7_adds_202 : decode cX7_adds 202 = .ok (.invokevirtual 436, 3) := dk_182 1 180 (dk_at dksX7_adds_8 14 rfl rfl)
theorem dX7_adds_205 : decode cX7_adds 205 = .ok (.return_, 1) := dk_177 (dk_at dksX7_adds_8 17 rfl rfl)
abbrev cX7_doubleOf : ByteArray := prog_30_method_60_code
def yX7_doubleOf : MethodName := ⟨RX7, "doubleOf", "(J)D"⟩
def dkwX7_doubleOf_3 : List UInt8 := [156, 0, 9, 24, 5, 119, 167, 0, 5, 24, 5, 175]
abbrev dktX7_doubleOf_3 : List UInt8 := dkwX7_doubleOf_3 ++ []
def dkwX7_doubleOf_2 : List UInt8 := [167, 0, 18, 32, 20, 1, 28, 97, 138, 21, 4, 17, 4, 51, 100, 184, 1, 24, 57, 5, 30, 9, 148]
abbrev dktX7_doubleOf_2 : List UInt8 := dkwX7_doubleOf_2 ++ dktX7_doubleOf_3
def dkwX7_doubleOf_1 : List UInt8 := [160, 0, 9, 20, 1, 22, 167, 0, 34, 21, 4, 154, 0, 14, 32, 138, 17, 251, 206, 184, 1, 24]
abbrev dktX7_doubleOf_1 : List UInt8 := dkwX7_doubleOf_1 ++ dktX7_doubleOf_2
def dkwX7_doubleOf_0 : List UInt8 := [30, 20, 1, 18, 127, 65, 30, 16, 52, 123, 20, 1, 20, 127, 136, 54, 4, 21, 4, 17, 7, 255]
abbrev dktX7_doubleOf_0 : List UInt8 := dkwX7_doubleOf_0 ++ dktX7_doubleOf_1
theorem dksX7_doubleOf_0 : cX7_doubleOf.data.toList.drop 0 = dktX7_doubleOf_0 := by decide +kernel
theorem dksX7_doubleOf_1 : cX7_doubleOf.data.toList.drop 22 = dktX7_doubleOf_1 := dk_seg dksX7_doubleOf_0 22 rfl rfl
theorem dksX7_doubleOf_2 : cX7_doubleOf.data.toList.drop 44 = dktX7_doubleOf_2 := dk_seg dksX7_doubleOf_1 22 rfl rfl
theorem dksX7_doubleOf_3 : cX7_doubleOf.data.toList.drop 67 = dktX7_doubleOf_3 := dk_seg dksX7_doubleOf_2 23 rfl rfl
theorem dX7_doubleOf_0 : decode cX7_doubleOf 0 = .ok (.lload_n 0, 1) := dk_30 (dk_at dksX7_doubleOf_0 0 rfl rfl)
theorem dX7_doubleOf_1 : decode cX7_doubleOf 1 = .ok (.ldc2_w 274, 3) := dk_20 1 18 (dk_at dksX7_doubleOf_0 1 rfl rfl)
theorem dX7_doubleOf_4 : decode cX7_doubleOf 4 = .ok (.land, 1) := dk_127 (dk_at dksX7_doubleOf_0 4 rfl rfl)
theorem dX7_doubleOf_5 : decode cX7_doubleOf 5 = .ok (.lstore_n 2, 1) := dk_65 (dk_at dksX7_doubleOf_0 5 rfl rfl)
theorem dX7_doubleOf_6 : decode cX7_doubleOf 6 = .ok (.lload_n 0, 1) := dk_30 (dk_at dksX7_doubleOf_0 6 rfl rfl)
theorem dX7_doubleOf_7 : decode cX7_doubleOf 7 = .ok (.bipush 52, 2) := dk_16 52 (dk_at dksX7_doubleOf_0 7 rfl rfl)
theorem dX7_doubleOf_9 : decode cX7_doubleOf 9 = .ok (.lshr, 1) := dk_123 (dk_at dksX7_doubleOf_0 9 rfl rfl)
theorem dX7_doubleOf_10 : decode cX7_doubleOf 10 = .ok (.ldc2_w 276, 3) := dk_20 1 20 (dk_at dksX7_doubleOf_0 10 rfl rfl)
theorem dX7_doubleOf_13 : decode cX7_doubleOf 13 = .ok (.land, 1) := dk_127 (dk_at dksX7_doubleOf_0 13 rfl rfl)
theorem dX7_doubleOf_14 : decode cX7_doubleOf 14 = .ok (.l2i, 1) := dk_136 (dk_at dksX7_doubleOf_0 14 rfl rfl)
theorem dX7_doubleOf_15 : decode cX7_doubleOf 15 = .ok (.istore 4, 2) := dk_54 4 (dk_at dksX7_doubleOf_0 15 rfl rfl)
theorem dX7_doubleOf_17 : decode cX7_doubleOf 17 = .ok (.iload 4, 2) := dk_21 4 (dk_at dksX7_doubleOf_0 17 rfl rfl)
theorem dX7_doubleOf_19 : decode cX7_doubleOf 19 = .ok (.sipush 2047, 3) := dk_17 7 255 (dk_at dksX7_doubleOf_0 19 rfl rfl)
theorem dX7_doubleOf_22 : decode cX7_doubleOf 22 = .ok (.if_icmp .ne 9, 3) := dk_160 0 9 (dk_at dksX7_doubleOf_1 0 rfl rfl)
theorem dX7_doubleOf_25 : decode cX7_doubleOf 25 = .ok (.ldc2_w 278, 3) := dk_20 1 22 (dk_at dksX7_doubleOf_1 3 rfl rfl)
theorem dX7_doubleOf_28 : decode cX7_doubleOf 28 = .ok (.goto 34, 3) := dk_167 0 34 (dk_at dksX7_doubleOf_1 6 rfl rfl)
theorem dX7_doubleOf_31 : decode cX7_doubleOf 31 = .ok (.iload 4, 2) := dk_21 4 (dk_at dksX7_doubleOf_1 9 rfl rfl)
theorem dX7_doubleOf_33 : decode cX7_doubleOf 33 = .ok (.ifCond .ne 14, 3) := dk_154 0 14 (dk_at dksX7_doubleOf_1 11 rfl rfl)
theorem dX7_doubleOf_36 : decode cX7_doubleOf 36 = .ok (.lload_n 2, 1) := dk_32 (dk_at dksX7_doubleOf_1 14 rfl rfl)
theorem dX7_doubleOf_37 : decode cX7_doubleOf 37 = .ok (.l2d, 1) := dk_138 (dk_at dksX7_doubleOf_1 15 rfl rfl)
theorem dX7_doubleOf_38 : decode cX7_doubleOf 38 = .ok (.sipush (-1074), 3) := dk_17 251 206 (dk_at dksX7_doubleOf_1 16 rfl rfl)
theorem dX7_doubleOf_41 : decode cX7_doubleOf 41 = .ok (.invokestatic 280, 3) := dk_184 1 24 (dk_at dksX7_doubleOf_1 19 rfl rfl)
theorem dX7_doubleOf_44 : decode cX7_doubleOf 44 = .ok (.goto 18, 3) := dk_167 0 18 (dk_at dksX7_doubleOf_2 0 rfl rfl)
theorem dX7_doubleOf_47 : decode cX7_doubleOf 47 = .ok (.lload_n 2, 1) := dk_32 (dk_at dksX7_doubleOf_2 3 rfl rfl)
theorem dX7_doubleOf_48 : decode cX7_doubleOf 48 = .ok (.ldc2_w 284, 3) := dk_20 1 28 (dk_at dksX7_doubleOf_2 4 rfl rfl)
theorem dX7_doubleOf_51 : decode cX7_doubleOf 51 = .ok (.ladd, 1) := dk_97 (dk_at dksX7_doubleOf_2 7 rfl rfl)
theorem dX7_doubleOf_52 : decode cX7_doubleOf 52 = .ok (.l2d, 1) := dk_138 (dk_at dksX7_doubleOf_2 8 rfl rfl)
theorem dX7_doubleOf_53 : decode cX7_doubleOf 53 = .ok (.iload 4, 2) := dk_21 4 (dk_at dksX7_doubleOf_2 9 rfl rfl)
theorem dX7_doubleOf_55 : decode cX7_doubleOf 55 = .ok (.sipush 1075, 3) := dk_17 4 51 (dk_at dksX7_doubleOf_2 11 rfl rfl)
theorem dX7_doubleOf_58 : decode cX7_doubleOf 58 = .ok (.isub, 1) := dk_100 (dk_at dksX7_doubleOf_2 14 rfl rfl)
theorem dX7_doubleOf_59 : decode cX7_doubleOf 59 = .ok (.invokestatic 280, 3) := dk_184 1 24 (dk_at dksX7_doubleOf_2 15 rfl rfl)
theorem dX7_doubleOf_62 : decode cX7_doubleOf 62 = .ok (.dstore 5, 2) := dk_57 5 (dk_at dksX7_doubleOf_2 18 rfl rfl)
theorem dX7_doubleOf_64 : decode cX7_doubleOf 64 = .ok (.lload_n 0, 1) := dk_30 (dk_at dksX7_doubleOf_2 20 rfl rfl)
theorem dX7_doubleOf_65 : decode cX7_doubleOf 65 = .ok (.lconst 0, 1) := dk_9 (dk_at dksX7_doubleOf_2 21 rfl rfl)
theorem dX7_doubleOf_66 : decode cX7_doubleOf 66 = .ok (.lcmp, 1) := dk_148 (dk_at dksX7_doubleOf_2 22 rfl rfl)
theorem dX7_doubleOf_67 : decode cX7_doubleOf 67 = .ok (.ifCond .ge 9, 3) := dk_156 0 9 (dk_at dksX7_doubleOf_3 0 rfl rfl)
theorem dX7_doubleOf_70 : decode cX7_doubleOf 70 = .ok (.dload 5, 2) := dk_24 5 (dk_at dksX7_doubleOf_3 3 rfl rfl)
theorem dX7_doubleOf_72 : decode cX7_doubleOf 72 = .ok (.dneg, 1) := dk_119 (dk_at dksX7_doubleOf_3 5 rfl rfl)
theorem dX7_doubleOf_73 : decode cX7_doubleOf 73 = .ok (.goto 5, 3) := dk_167 0 5 (dk_at dksX7_doubleOf_3 6 rfl rfl)
theorem dX7_doubleOf_76 : decode cX7_doubleOf 76 = .ok (.dload 5, 2) := dk_24 5 (dk_at dksX7_doubleOf_3 9 rfl rfl)
theorem dX7_doubleOf_78 : decode cX7_doubleOf 78 = .ok (.dreturn, 1) := dk_175 (dk_at dksX7_doubleOf_3 11 rfl rfl)
abbrev cX7_opens : ByteArray := prog_30_method_102_code
def yX7_opens : MethodName := ⟨RX7, "opens", "(II)V"⟩
def dkwX7_opens_5 : List UInt8 := [181, 1, 196, 177]
abbrev dktX7_opens_5 : List UInt8 := dkwX7_opens_5 ++ []
def dkwX7_opens_4 : List UInt8 := [42, 180, 1, 163, 27, 79, 42, 89, 180, 1, 163, 4, 96, 181, 1, 163, 42, 89, 180, 1, 196, 4, 96]
abbrev dktX7_opens_4 : List UInt8 := dkwX7_opens_4 ++ dktX7_opens_5
def dkwX7_opens_3 : List UInt8 := [180, 0, 63, 6, 28, 104, 21, 4, 96, 46, 184, 1, 112, 80, 132, 4, 1, 167, 255, 187, 42, 180, 0, 118]
abbrev dktX7_opens_3 : List UInt8 := dkwX7_opens_3 ++ dktX7_opens_4
def dkwX7_opens_2 : List UInt8 := [180, 1, 163, 4, 100, 104, 21, 4, 96, 47, 42, 180, 0, 63, 6, 29, 104, 21, 4, 96, 46, 42]
abbrev dktX7_opens_2 : List UInt8 := dkwX7_opens_2 ++ dktX7_opens_3
def dkwX7_opens_1 : List UInt8 := [162, 0, 64, 42, 180, 0, 121, 6, 42, 180, 1, 163, 104, 21, 4, 96, 42, 180, 0, 121, 6, 42]
abbrev dktX7_opens_1 : List UInt8 := dkwX7_opens_1 ++ dktX7_opens_2
def dkwX7_opens_0 : List UInt8 := [42, 180, 0, 118, 42, 180, 1, 163, 4, 100, 46, 62, 3, 54, 4, 21, 4, 42, 180, 0, 60, 28, 46]
abbrev dktX7_opens_0 : List UInt8 := dkwX7_opens_0 ++ dktX7_opens_1
theorem dksX7_opens_0 : cX7_opens.data.toList.drop 0 = dktX7_opens_0 := by decide +kernel
theorem dksX7_opens_1 : cX7_opens.data.toList.drop 23 = dktX7_opens_1 := dk_seg dksX7_opens_0 23 rfl rfl
theorem dksX7_opens_2 : cX7_opens.data.toList.drop 45 = dktX7_opens_2 := dk_seg dksX7_opens_1 22 rfl rfl
theorem dksX7_opens_3 : cX7_opens.data.toList.drop 67 = dktX7_opens_3 := dk_seg dksX7_opens_2 22 rfl rfl
theorem dksX7_opens_4 : cX7_opens.data.toList.drop 91 = dktX7_opens_4 := dk_seg dksX7_opens_3 24 rfl rfl
theorem dksX7_opens_5 : cX7_opens.data.toList.drop 114 = dktX7_opens_5 := dk_seg dksX7_opens_4 23 rfl rfl
theorem dX7_opens_0 : decode cX7_opens 0 = .ok (.aload_n 0, 1) := dk_42 (dk_at dksX7_opens_0 0 rfl rfl)
theorem dX7_opens_1 : decode cX7_opens 1 = .ok (.getfield 118, 3) := dk_180 0 118 (dk_at dksX7_opens_0 1 rfl rfl)
theorem dX7_opens_4 : decode cX7_opens 4 = .ok (.aload_n 0, 1) := dk_42 (dk_at dksX7_opens_0 4 rfl rfl)
theorem dX7_opens_5 : decode cX7_opens 5 = .ok (.getfield 419, 3) := dk_180 1 163 (dk_at dksX7_opens_0 5 rfl rfl)
theorem dX7_opens_8 : decode cX7_opens 8 = .ok (.iconst 1, 1) := dk_4 (dk_at dksX7_opens_0 8 rfl rfl)
theorem dX7_opens_9 : decode cX7_opens 9 = .ok (.isub, 1) := dk_100 (dk_at dksX7_opens_0 9 rfl rfl)
theorem dX7_opens_10 : decode cX7_opens 10 = .ok (.iaload, 1) := dk_46 (dk_at dksX7_opens_0 10 rfl rfl)
theorem dX7_opens_11 : decode cX7_opens 11 = .ok (.istore_n 3, 1) := dk_62 (dk_at dksX7_opens_0 11 rfl rfl)
theorem dX7_opens_12 : decode cX7_opens 12 = .ok (.iconst 0, 1) := dk_3 (dk_at dksX7_opens_0 12 rfl rfl)
theorem dX7_opens_13 : decode cX7_opens 13 = .ok (.istore 4, 2) := dk_54 4 (dk_at dksX7_opens_0 13 rfl rfl)
theorem dX7_opens_15 : decode cX7_opens 15 = .ok (.iload 4, 2) := dk_21 4 (dk_at dksX7_opens_0 15 rfl rfl)
theorem dX7_opens_17 : decode cX7_opens 17 = .ok (.aload_n 0, 1) := dk_42 (dk_at dksX7_opens_0 17 rfl rfl)
theorem dX7_opens_18 : decode cX7_opens 18 = .ok (.getfield 60, 3) := dk_180 0 60 (dk_at dksX7_opens_0 18 rfl rfl)
theorem dX7_opens_21 : decode cX7_opens 21 = .ok (.iload_n 2, 1) := dk_28 (dk_at dksX7_opens_0 21 rfl rfl)
theorem dX7_opens_22 : decode cX7_opens 22 = .ok (.iaload, 1) := dk_46 (dk_at dksX7_opens_0 22 rfl rfl)
theorem dX7_opens_23 : decode cX7_opens 23 = .ok (.if_icmp .ge 64, 3) := dk_162 0 64 (dk_at dksX7_opens_1 0 rfl rfl)
theorem dX7_opens_26 : decode cX7_opens 26 = .ok (.aload_n 0, 1) := dk_42 (dk_at dksX7_opens_1 3 rfl rfl)
theorem dX7_opens_27 : decode cX7_opens 27 = .ok (.getfield 121, 3) := dk_180 0 121 (dk_at dksX7_opens_1 4 rfl rfl)
theorem dX7_opens_30 : decode cX7_opens 30 = .ok (.iconst 3, 1) := dk_6 (dk_at dksX7_opens_1 7 rfl rfl)
theorem dX7_opens_31 : decode cX7_opens 31 = .ok (.aload_n 0, 1) := dk_42 (dk_at dksX7_opens_1 8 rfl rfl)
theorem dX7_opens_32 : decode cX7_opens 32 = .ok (.getfield 419, 3) := dk_180 1 163 (dk_at dksX7_opens_1 9 rfl rfl)
theorem dX7_opens_35 : decode cX7_opens 35 = .ok (.imul, 1) := dk_104 (dk_at dksX7_opens_1 12 rfl rfl)
theorem dX7_opens_36 : decode cX7_opens 36 = .ok (.iload 4, 2) := dk_21 4 (dk_at dksX7_opens_1 13 rfl rfl)
theorem dX7_opens_38 : decode cX7_opens 38 = .ok (.iadd, 1) := dk_96 (dk_at dksX7_opens_1 15 rfl rfl)
theorem dX7_opens_39 : decode cX7_opens 39 = .ok (.aload_n 0, 1) := dk_42 (dk_at dksX7_opens_1 16 rfl rfl)
theorem dX7_opens_40 : decode cX7_opens 40 = .ok (.getfield 121, 3) := dk_180 0 121 (dk_at dksX7_opens_1 17 rfl rfl)
theorem dX7_opens_43 : decode cX7_opens 43 = .ok (.iconst 3, 1) := dk_6 (dk_at dksX7_opens_1 20 rfl rfl)
theorem dX7_opens_44 : decode cX7_opens 44 = .ok (.aload_n 0, 1) := dk_42 (dk_at dksX7_opens_1 21 rfl rfl)
theorem dX7_opens_45 : decode cX7_opens 45 = .ok (.getfield 419, 3) := dk_180 1 163 (dk_at dksX7_opens_2 0 rfl rfl)
theorem dX7_opens_48 : decode cX7_opens 48 = .ok (.iconst 1, 1) := dk_4 (dk_at dksX7_opens_2 3 rfl rfl)
theorem dX7_opens_49 : decode cX7_opens 49 = .ok (.isub, 1) := dk_100 (dk_at dksX7_opens_2 4 rfl rfl)
theorem dX7_opens_50 : decode cX7_opens 50 = .ok (.imul, 1) := dk_104 (dk_at dksX7_opens_2 5 rfl rfl)
theorem dX7_opens_51 : decode cX7_opens 51 = .ok (.iload 4, 2) := dk_21 4 (dk_at dksX7_opens_2 6 rfl rfl)
theorem dX7_opens_53 : decode cX7_opens 53 = .ok (.iadd, 1) := dk_96 (dk_at dksX7_opens_2 8 rfl rfl)
theorem dX7_opens_54 : decode cX7_opens 54 = .ok (.laload, 1) := dk_47 (dk_at dksX7_opens_2 9 rfl rfl)
theorem dX7_opens_55 : decode cX7_opens 55 = .ok (.aload_n 0, 1) := dk_42 (dk_at dksX7_opens_2 10 rfl rfl)
theorem dX7_opens_56 : decode cX7_opens 56 = .ok (.getfield 63, 3) := dk_180 0 63 (dk_at dksX7_opens_2 11 rfl rfl)
theorem dX7_opens_59 : decode cX7_opens 59 = .ok (.iconst 3, 1) := dk_6 (dk_at dksX7_opens_2 14 rfl rfl)
theorem dX7_opens_60 : decode cX7_opens 60 = .ok (.iload_n 3, 1) := dk_29 (dk_at dksX7_opens_2 15 rfl rfl)
theorem dX7_opens_61 : decode cX7_opens 61 = .ok (.imul, 1) := dk_104 (dk_at dksX7_opens_2 16 rfl rfl)
theorem dX7_opens_62 : decode cX7_opens 62 = .ok (.iload 4, 2) := dk_21 4 (dk_at dksX7_opens_2 17 rfl rfl)
theorem dX7_opens_64 : decode cX7_opens 64 = .ok (.iadd, 1) := dk_96 (dk_at dksX7_opens_2 19 rfl rfl)
theorem dX7_opens_65 : decode cX7_opens 65 = .ok (.iaload, 1) := dk_46 (dk_at dksX7_opens_2 20 rfl rfl)
theorem dX7_opens_66 : decode cX7_opens 66 = .ok (.aload_n 0, 1) := dk_42 (dk_at dksX7_opens_2 21 rfl rfl)
theorem dX7_opens_67 : decode cX7_opens 67 = .ok (.getfield 63, 3) := dk_180 0 63 (dk_at dksX7_opens_3 0 rfl rfl)
theorem dX7_opens_70 : decode cX7_opens 70 = .ok (.iconst 3, 1) := dk_6 (dk_at dksX7_opens_3 3 rfl rfl)
theorem dX7_opens_71 : decode cX7_opens 71 = .ok (.iload_n 2, 1) := dk_28 (dk_at dksX7_opens_3 4 rfl rfl)
theorem dX7_opens_72 : decode cX7_opens 72 = .ok (.imul, 1) := dk_104 (dk_at dksX7_opens_3 5 rfl rfl)
theorem dX7_opens_73 : decode cX7_opens 73 = .ok (.iload 4, 2) := dk_21 4 (dk_at dksX7_opens_3 6 rfl rfl)
theorem dX7_opens_75 : decode cX7_opens 75 = .ok (.iadd, 1) := dk_96 (dk_at dksX7_opens_3 8 rfl rfl)
theorem dX7_opens_76 : decode cX7_opens 76 = .ok (.iaload, 1) := dk_46 (dk_at dksX7_opens_3 9 rfl rfl)
theorem dX7_opens_77 : decode cX7_opens 77 = .ok (.invokestatic 368, 3) := dk_184 1 112 (dk_at dksX7_opens_3 10 rfl rfl)
theorem dX7_opens_80 : decode cX7_opens 80 = .ok (.lastore, 1) := dk_80 (dk_at dksX7_opens_3 13 rfl rfl)
theorem dX7_opens_81 : decode cX7_opens 81 = .ok (.iinc 4 1, 3) := dk_132 4 1 (dk_at dksX7_opens_3 14 rfl rfl)
theorem dX7_opens_84 : decode cX7_opens 84 = .ok (.goto (-69), 3) := dk_167 255 187 (dk_at dksX7_opens_3 17 rfl rfl)
theorem dX7_opens_87 : decode cX7_opens 87 = .ok (.aload_n 0, 1) := dk_42 (dk_at dksX7_opens_3 20 rfl rfl)
theorem dX7_opens_88 : decode cX7_opens 88 = .ok (.getfield 118, 3) := dk_180 0 118 (dk_at dksX7_opens_3 21 rfl rfl)
theorem dX7_opens_91 : decode cX7_opens 91 = .ok (.aload_n 0, 1) := dk_42 (dk_at dksX7_opens_4 0 rfl rfl)
theorem dX7_opens_92 : decode cX7_opens 92 = .ok (.getfield 419, 3) := dk_180 1 163 (dk_at dksX7_opens_4 1 rfl rfl)
theorem dX7_opens_95 : decode cX7_opens 95 = .ok (.iload_n 1, 1) := dk_27 (dk_at dksX7_opens_4 4 rfl rfl)
theorem dX7_opens_96 : decode cX7_opens 96 = .ok (.iastore, 1) := dk_79 (dk_at dksX7_opens_4 5 rfl rfl)
theorem dX7_opens_97 : decode cX7_opens 97 = .ok (.aload_n 0, 1) := dk_42 (dk_at dksX7_opens_4 6 rfl rfl)
theorem dX7_opens_98 : decode cX7_opens 98 = .ok (.dup, 1) := dk_89 (dk_at dksX7_opens_4 7 rfl rfl)
theorem dX7_opens_99 : decode cX7_opens 99 = .ok (.getfield 419, 3) := dk_180 1 163 (dk_at dksX7_opens_4 8 rfl rfl)
theorem dX7_opens_102 : decode cX7_opens 102 = .ok (.iconst 1, 1) := dk_4 (dk_at dksX7_opens_4 11 rfl rfl)
theorem dX7_opens_103 : decode cX7_opens 103 = .ok (.iadd, 1) := dk_96 (dk_at dksX7_opens_4 12 rfl rfl)
theorem dX7_opens_104 : decode cX7_opens 104 = .ok (.putfield 419, 3) := dk_181 1 163 (dk_at dksX7_opens_4 13 rfl rfl)
theorem dX7_opens_107 : decode cX7_opens 107 = .ok (.aload_n 0, 1) := dk_42 (dk_at dksX7_opens_4 16 rfl rfl)
theorem dX7_opens_108 : decode cX7_opens 108 = .ok (.dup, 1) := dk_89 (dk_at dksX7_opens_4 17 rfl rfl)
theorem dX7_opens_109 : decode cX7_opens 109 = .ok (.getfield 452, 3) := dk_180 1 196 (dk_at dksX7_opens_4 18 rfl rfl)
theorem dX7_opens_112 : decode cX7_opens 112 = .ok (.iconst 1, 1) := dk_4 (dk_at dksX7_opens_4 21 rfl rfl)
theorem dX7_opens_113 : decode cX7_opens 113 = .ok (.iadd, 1) := dk_96 (dk_at dksX7_opens_4 22 rfl rfl)
theorem dX7_opens_114 : decode cX7_opens 114 = .ok (.putfield 452, 3) := dk_181 1 196 (dk_at dksX7_opens_5 0 rfl rfl)
theorem dX7_opens_117 : decode cX7_opens 117 = .ok (.return_, 1) := dk_177 (dk_at dksX7_opens_5 3 rfl rfl)
abbrev cX7_closeAll : ByteArray := prog_30_method_103_code
def yX7_closeAll : MethodName := ⟨RX7, "closeAll", "()V"⟩
def dkwX7_closeAll_3 : List UInt8 := [28, 42, 180, 1, 176, 42, 180, 1, 173, 28, 184, 1, 112, 182, 1, 180, 167, 255, 171, 177]
abbrev dktX7_closeAll_3 : List UInt8 := dkwX7_closeAll_3 ++ []
def dkwX7_closeAll_2 : List UInt8 := [167, 0, 40, 42, 180, 1, 173, 2, 160, 0, 15, 42, 28, 28, 184, 0, 195, 182, 1, 180, 167, 0, 20, 42]
abbrev dktX7_closeAll_2 : List UInt8 := dkwX7_closeAll_2 ++ dktX7_closeAll_3
def dkwX7_closeAll_1 : List UInt8 := [180, 1, 163, 46, 60, 42, 180, 0, 57, 27, 46, 61, 28, 2, 160, 0, 12, 42, 2, 9, 182, 1, 180]
abbrev dktX7_closeAll_1 : List UInt8 := dkwX7_closeAll_1 ++ dktX7_closeAll_2
def dkwX7_closeAll_0 : List UInt8 := [42, 180, 1, 163, 158, 0, 84, 42, 89, 180, 1, 163, 4, 100, 181, 1, 163, 42, 180, 0, 118, 42]
abbrev dktX7_closeAll_0 : List UInt8 := dkwX7_closeAll_0 ++ dktX7_closeAll_1
theorem dksX7_closeAll_0 : cX7_closeAll.data.toList.drop 0 = dktX7_closeAll_0 := by decide +kernel
theorem dksX7_closeAll_1 : cX7_closeAll.data.toList.drop 22 = dktX7_closeAll_1 := dk_seg dksX7_closeAll_0 22 rfl rfl
theorem dksX7_closeAll_2 : cX7_closeAll.data.toList.drop 45 = dktX7_closeAll_2 := dk_seg dksX7_closeAll_1 23 rfl rfl
theorem dksX7_closeAll_3 : cX7_closeAll.data.toList.drop 69 = dktX7_closeAll_3 := dk_seg dksX7_closeAll_2 24 rfl rfl
theorem dX7_closeAll_0 : decode cX7_closeAll 0 = .ok (.aload_n 0, 1) := dk_42 (dk_at dksX7_closeAll_0 0 rfl rfl)
theorem dX7_closeAll_1 : decode cX7_closeAll 1 = .ok (.getfield 419, 3) := dk_180 1 163 (dk_at dksX7_closeAll_0 1 rfl rfl)
theorem dX7_closeAll_4 : decode cX7_closeAll 4 = .ok (.ifCond .le 84, 3) := dk_158 0 84 (dk_at dksX7_closeAll_0 4 rfl rfl)
theorem dX7_closeAll_7 : decode cX7_closeAll 7 = .ok (.aload_n 0, 1) := dk_42 (dk_at dksX7_closeAll_0 7 rfl rfl)
theorem dX7_closeAll_8 : decode cX7_closeAll 8 = .ok (.dup, 1) := dk_89 (dk_at dksX7_closeAll_0 8 rfl rfl)
theorem dX7_closeAll_9 : decode cX7_closeAll 9 = .ok (.getfield 419, 3) := dk_180 1 163 (dk_at dksX7_closeAll_0 9 rfl rfl)
theorem dX7_closeAll_12 : decode cX7_closeAll 12 = .ok (.iconst 1, 1) := dk_4 (dk_at dksX7_closeAll_0 12 rfl rfl)
theorem dX7_closeAll_13 : decode cX7_closeAll 13 = .ok (.isub, 1) := dk_100 (dk_at dksX7_closeAll_0 13 rfl rfl)
theorem dX7_closeAll_14 : decode cX7_closeAll 14 = .ok (.putfield 419, 3) := dk_181 1 163 (dk_at dksX7_closeAll_0 14 rfl rfl)
theorem dX7_closeAll_17 : decode cX7_closeAll 17 = .ok (.aload_n 0, 1) := dk_42 (dk_at dksX7_closeAll_0 17 rfl rfl)
theorem dX7_closeAll_18 : decode cX7_closeAll 18 = .ok (.getfield 118, 3) := dk_180 0 118 (dk_at dksX7_closeAll_0 18 rfl rfl)
theorem dX7_closeAll_21 : decode cX7_closeAll 21 = .ok (.aload_n 0, 1) := dk_42 (dk_at dksX7_closeAll_0 21 rfl rfl)
theorem dX7_closeAll_22 : decode cX7_closeAll 22 = .ok (.getfield 419, 3) := dk_180 1 163 (dk_at dksX7_closeAll_1 0 rfl rfl)
theorem dX7_closeAll_25 : decode cX7_closeAll 25 = .ok (.iaload, 1) := dk_46 (dk_at dksX7_closeAll_1 3 rfl rfl)
theorem dX7_closeAll_26 : decode cX7_closeAll 26 = .ok (.istore_n 1, 1) := dk_60 (dk_at dksX7_closeAll_1 4 rfl rfl)
theorem dX7_closeAll_27 : decode cX7_closeAll 27 = .ok (.aload_n 0, 1) := dk_42 (dk_at dksX7_closeAll_1 5 rfl rfl)
theorem dX7_closeAll_28 : decode cX7_closeAll 28 = .ok (.getfield 57, 3) := dk_180 0 57 (dk_at dksX7_closeAll_1 6 rfl rfl)
theorem dX7_closeAll_31 : decode cX7_closeAll 31 = .ok (.iload_n 1, 1) := dk_27 (dk_at dksX7_closeAll_1 9 rfl rfl)
theorem dX7_closeAll_32 : decode cX7_closeAll 32 = .ok (.iaload, 1) := dk_46 (dk_at dksX7_closeAll_1 10 rfl rfl)
theorem dX7_closeAll_33 : decode cX7_closeAll 33 = .ok (.istore_n 2, 1) := dk_61 (dk_at dksX7_closeAll_1 11 rfl rfl)
theorem dX7_closeAll_34 : decode cX7_closeAll 34 = .ok (.iload_n 2, 1) := dk_28 (dk_at dksX7_closeAll_1 12 rfl rfl)
theorem dX7_closeAll_35 : decode cX7_closeAll 35 = .ok (.iconst (-1), 1) := dk_2 (dk_at dksX7_closeAll_1 13 rfl rfl)
theorem dX7_closeAll_36 : decode cX7_closeAll 36 = .ok (.if_icmp .ne 12, 3) := dk_160 0 12 (dk_at dksX7_closeAll_1 14 rfl rfl)
theorem dX7_closeAll_39 : decode cX7_closeAll 39 = .ok (.aload_n 0, 1) := dk_42 (dk_at dksX7_closeAll_1 17 rfl rfl)
theorem dX7_closeAll_40 : decode cX7_closeAll 40 = .ok (.iconst (-1), 1) := dk_2 (dk_at dksX7_closeAll_1 18 rfl rfl)
theorem dX7_closeAll_41 : decode cX7_closeAll 41 = .ok (.lconst 0, 1) := dk_9 (dk_at dksX7_closeAll_1 19 rfl rfl)
theorem dX7_closeAll_42 : decode cX7_closeAll 42 = .ok (.invokevirtual 436, 3) := dk_182 1 180 (dk_at dksX7_closeAll_1 20 rfl rfl)
theorem dX7_closeAll_45 : decode cX7_closeAll 45 = .ok (.goto 40, 3) := dk_167 0 40 (dk_at dksX7_closeAll_2 0 rfl rfl)
theorem dX7_closeAll_48 : decode cX7_closeAll 48 = .ok (.aload_n 0, 1) := dk_42 (dk_at dksX7_closeAll_2 3 rfl rfl)
theorem dX7_closeAll_49 : decode cX7_closeAll 49 = .ok (.getfield 429, 3) := dk_180 1 173 (dk_at dksX7_closeAll_2 4 rfl rfl)
theorem dX7_closeAll_52 : decode cX7_closeAll 52 = .ok (.iconst (-1), 1) := dk_2 (dk_at dksX7_closeAll_2 7 rfl rfl)
theorem dX7_closeAll_53 : decode cX7_closeAll 53 = .ok (.if_icmp .ne 15, 3) := dk_160 0 15 (dk_at dksX7_closeAll_2 8 rfl rfl)
theorem dX7_closeAll_56 : decode cX7_closeAll 56 = .ok (.aload_n 0, 1) := dk_42 (dk_at dksX7_closeAll_2 11 rfl rfl)
theorem dX7_closeAll_57 : decode cX7_closeAll 57 = .ok (.iload_n 2, 1) := dk_28 (dk_at dksX7_closeAll_2 12 rfl rfl)
theorem dX7_closeAll_58 : decode cX7_closeAll 58 = .ok (.iload_n 2, 1) := dk_28 (dk_at dksX7_closeAll_2 13 rfl rfl)
theorem dX7_closeAll_59 : decode cX7_closeAll 59 = .ok (.invokestatic 195, 3) := dk_184 0 195 (dk_at dksX7_closeAll_2 14 rfl rfl)
theorem dX7_closeAll_62 : decode cX7_closeAll 62 = .ok (.invokevirtual 436, 3) := dk_182 1 180 (dk_at dksX7_closeAll_2 17 rfl rfl)
theorem dX7_closeAll_65 : decode cX7_closeAll 65 = .ok (.goto 20, 3) := dk_167 0 20 (dk_at dksX7_closeAll_2 20 rfl rfl)
theorem dX7_closeAll_68 : decode cX7_closeAll 68 = .ok (.aload_n 0, 1) := dk_42 (dk_at dksX7_closeAll_2 23 rfl rfl)
theorem dX7_closeAll_69 : decode cX7_closeAll 69 = .ok (.iload_n 2, 1) := dk_28 (dk_at dksX7_closeAll_3 0 rfl rfl)
theorem dX7_closeAll_70 : decode cX7_closeAll 70 = .ok (.aload_n 0, 1) := dk_42 (dk_at dksX7_closeAll_3 1 rfl rfl)
theorem dX7_closeAll_71 : decode cX7_closeAll 71 = .ok (.getfield 432, 3) := dk_180 1 176 (dk_at dksX7_closeAll_3 2 rfl rfl)
theorem dX7_closeAll_74 : decode cX7_closeAll 74 = .ok (.aload_n 0, 1) := dk_42 (dk_at dksX7_closeAll_3 5 rfl rfl)
theorem dX7_closeAll_75 : decode cX7_closeAll 75 = .ok (.getfield 429, 3) := dk_180 1 173 (dk_at dksX7_closeAll_3 6 rfl rfl)
theorem dX7_closeAll_78 : decode cX7_closeAll 78 = .ok (.iload_n 2, 1) := dk_28 (dk_at dksX7_closeAll_3 9 rfl rfl)
theorem dX7_closeAll_79 : decode cX7_closeAll 79 = .ok (.invokestatic 368, 3) := dk_184 1 112 (dk_at dksX7_closeAll_3 10 rfl rfl)
theorem dX7_closeAll_82 : decode cX7_closeAll 82 = .ok (.invokevirtual 436, 3) := dk_182 1 180 (dk_at dksX7_closeAll_3 13 rfl rfl)
theorem dX7_closeAll_85 : decode cX7_closeAll 85 = .ok (.goto (-85), 3) := dk_167 255 171 (dk_at dksX7_closeAll_3 16 rfl rfl)
theorem dX7_closeAll_88 : decode cX7_closeAll 88 = .ok (.return_, 1) := dk_177 (dk_at dksX7_closeAll_3 19 rfl rfl)
abbrev cX7_cause : ByteArray := prog_30_method_106_code
def yX7_cause : MethodName := ⟨RX7, "cause", "(I)I"⟩
def dkwX7_cause_1 : List UInt8 := [5, 160, 0, 10, 42, 180, 1, 160, 167, 0, 4, 2, 172]
abbrev dktX7_cause_1 : List UInt8 := dkwX7_cause_1 ++ []
def dkwX7_cause_0 : List UInt8 := [27, 154, 0, 10, 42, 180, 1, 154, 167, 0, 28, 27, 4, 160, 0, 10, 42, 180, 1, 157, 167, 0, 16, 27]
abbrev dktX7_cause_0 : List UInt8 := dkwX7_cause_0 ++ dktX7_cause_1
theorem dksX7_cause_0 : cX7_cause.data.toList.drop 0 = dktX7_cause_0 := by decide +kernel
theorem dksX7_cause_1 : cX7_cause.data.toList.drop 24 = dktX7_cause_1 := dk_seg dksX7_cause_0 24 rfl rfl
theorem dX7_cause_0 : decode cX7_cause 0 = .ok (.iload_n 1, 1) := dk_27 (dk_at dksX7_cause_0 0 rfl rfl)
theorem dX7_cause_1 : decode cX7_cause 1 = .ok (.ifCond .ne 10, 3) := dk_154 0 10 (dk_at dksX7_cause_0 1 rfl rfl)
theorem dX7_cause_4 : decode cX7_cause 4 = .ok (.aload_n 0, 1) := dk_42 (dk_at dksX7_cause_0 4 rfl rfl)
theorem dX7_cause_5 : decode cX7_cause 5 = .ok (.getfield 410, 3) := dk_180 1 154 (dk_at dksX7_cause_0 5 rfl rfl)
theorem dX7_cause_8 : decode cX7_cause 8 = .ok (.goto 28, 3) := dk_167 0 28 (dk_at dksX7_cause_0 8 rfl rfl)
theorem dX7_cause_11 : decode cX7_cause 11 = .ok (.iload_n 1, 1) := dk_27 (dk_at dksX7_cause_0 11 rfl rfl)
theorem dX7_cause_12 : decode cX7_cause 12 = .ok (.iconst 1, 1) := dk_4 (dk_at dksX7_cause_0 12 rfl rfl)
theorem dX7_cause_13 : decode cX7_cause 13 = .ok (.if_icmp .ne 10, 3) := dk_160 0 10 (dk_at dksX7_cause_0 13 rfl rfl)
theorem dX7_cause_16 : decode cX7_cause 16 = .ok (.aload_n 0, 1) := dk_42 (dk_at dksX7_cause_0 16 rfl rfl)
theorem dX7_cause_17 : decode cX7_cause 17 = .ok (.getfield 413, 3) := dk_180 1 157 (dk_at dksX7_cause_0 17 rfl rfl)
theorem dX7_cause_20 : decode cX7_cause 20 = .ok (.goto 16, 3) := dk_167 0 16 (dk_at dksX7_cause_0 20 rfl rfl)
theorem dX7_cause_23 : decode cX7_cause 23 = .ok (.iload_n 1, 1) := dk_27 (dk_at dksX7_cause_0 23 rfl rfl)
theorem dX7_cause_24 : decode cX7_cause 24 = .ok (.iconst 2, 1) := dk_5 (dk_at dksX7_cause_1 0 rfl rfl)
theorem dX7_cause_25 : decode cX7_cause 25 = .ok (.if_icmp .ne 10, 3) := dk_160 0 10 (dk_at dksX7_cause_1 1 rfl rfl)
theorem dX7_cause_28 : decode cX7_cause 28 = .ok (.aload_n 0, 1) := dk_42 (dk_at dksX7_cause_1 4 rfl rfl)
theorem dX7_cause_29 : decode cX7_cause 29 = .ok (.getfield 416, 3) := dk_180 1 160 (dk_at dksX7_cause_1 5 rfl rfl)
theorem dX7_cause_32 : decode cX7_cause 32 = .ok (.goto 4, 3) := dk_167 0 4 (dk_at dksX7_cause_1 8 rfl rfl)
theorem dX7_cause_35 : decode cX7_cause 35 = .ok (.iconst (-1), 1) := dk_2 (dk_at dksX7_cause_1 11 rfl rfl)
theorem dX7_cause_36 : decode cX7_cause 36 = .ok (.ireturn, 1) := dk_172 (dk_at dksX7_cause_1 12 rfl rfl)
abbrev cX7_count : ByteArray := prog_30_method_107_code
def yX7_count : MethodName := ⟨RX7, "count", "(I)I"⟩
def dkwX7_count_3 : List UInt8 := [172, 42, 180, 0, 209, 172, 2, 172]
abbrev dktX7_count_3 : List UInt8 := dkwX7_count_3 ++ []
def dkwX7_count_2 : List UInt8 := [42, 180, 0, 7, 172, 42, 180, 0, 182, 172, 42, 180, 0, 168, 172, 42, 180, 1, 196, 172, 42, 180, 1, 211]
abbrev dktX7_count_2 : List UInt8 := dkwX7_count_2 ++ dktX7_count_3
def dkwX7_count_1 : List UInt8 := [170, 0, 0, 0, 0, 0, 69, 0, 0, 0, 0, 0, 0, 0, 5, 0, 0, 0, 39, 0, 0, 0, 44, 0, 0, 0, 49, 0, 0, 0, 54, 0, 0, 0, 59, 0, 0, 0, 64]
abbrev dktX7_count_1 : List UInt8 := dkwX7_count_1 ++ dktX7_count_2
def dkwX7_count_0 : List UInt8 := [27]
abbrev dktX7_count_0 : List UInt8 := dkwX7_count_0 ++ dktX7_count_1
theorem dksX7_count_0 : cX7_count.data.toList.drop 0 = dktX7_count_0 := by decide +kernel
theorem dksX7_count_1 : cX7_count.data.toList.drop 1 = dktX7_count_1 := dk_seg dksX7_count_0 1 rfl rfl
theorem dksX7_count_2 : cX7_count.data.toList.drop 40 = dktX7_count_2 := dk_seg dksX7_count_1 39 rfl rfl
theorem dksX7_count_3 : cX7_count.data.toList.drop 64 = dktX7_count_3 := dk_seg dksX7_count_2 24 rfl rfl
theorem dX7_count_0 : decode cX7_count 0 = .ok (.iload_n 1, 1) := dk_27 (dk_at dksX7_count_0 0 rfl rfl)
theorem dX7_count_1 : decode cX7_count 1 = .ok (.tableswitch 69 0 5 #[39, 44, 49, 54, 59, 64], 39) := by decide +kernel
theorem dX7_count_40 : decode cX7_count 40 = .ok (.aload_n 0, 1) := dk_42 (dk_at dksX7_count_2 0 rfl rfl)
theorem dX7_count_41 : decode cX7_count 41 = .ok (.getfield 7, 3) := dk_180 0 7 (dk_at dksX7_count_2 1 rfl rfl)
theorem dX7_count_44 : decode cX7_count 44 = .ok (.ireturn, 1) := dk_172 (dk_at dksX7_count_2 4 rfl rfl)
theorem dX7_count_45 : decode cX7_count 45 = .ok (.aload_n 0, 1) := dk_42 (dk_at dksX7_count_2 5 rfl rfl)
theorem dX7_count_46 : decode cX7_count 46 = .ok (.getfield 182, 3) := dk_180 0 182 (dk_at dksX7_count_2 6 rfl rfl)
theorem dX7_count_49 : decode cX7_count 49 = .ok (.ireturn, 1) := dk_172 (dk_at dksX7_count_2 9 rfl rfl)
theorem dX7_count_50 : decode cX7_count 50 = .ok (.aload_n 0, 1) := dk_42 (dk_at dksX7_count_2 10 rfl rfl)
theorem dX7_count_51 : decode cX7_count 51 = .ok (.getfield 168, 3) := dk_180 0 168 (dk_at dksX7_count_2 11 rfl rfl)
theorem dX7_count_54 : decode cX7_count 54 = .ok (.ireturn, 1) := dk_172 (dk_at dksX7_count_2 14 rfl rfl)
theorem dX7_count_55 : decode cX7_count 55 = .ok (.aload_n 0, 1) := dk_42 (dk_at dksX7_count_2 15 rfl rfl)
theorem dX7_count_56 : decode cX7_count 56 = .ok (.getfield 452, 3) := dk_180 1 196 (dk_at dksX7_count_2 16 rfl rfl)
theorem dX7_count_59 : decode cX7_count 59 = .ok (.ireturn, 1) := dk_172 (dk_at dksX7_count_2 19 rfl rfl)
theorem dX7_count_60 : decode cX7_count 60 = .ok (.aload_n 0, 1) := dk_42 (dk_at dksX7_count_2 20 rfl rfl)
theorem dX7_count_61 : decode cX7_count 61 = .ok (.getfield 467, 3) := dk_180 1 211 (dk_at dksX7_count_2 21 rfl rfl)
theorem dX7_count_64 : decode cX7_count 64 = .ok (.ireturn, 1) := dk_172 (dk_at dksX7_count_3 0 rfl rfl)
theorem dX7_count_65 : decode cX7_count 65 = .ok (.aload_n 0, 1) := dk_42 (dk_at dksX7_count_3 1 rfl rfl)
theorem dX7_count_66 : decode cX7_count 66 = .ok (.getfield 209, 3) := dk_180 0 209 (dk_at dksX7_count_3 2 rfl rfl)
theorem dX7_count_69 : decode cX7_count 69 = .ok (.ireturn, 1) := dk_172 (dk_at dksX7_count_3 5 rfl rfl)
theorem dX7_count_70 : decode cX7_count 70 = .ok (.iconst (-1), 1) := dk_2 (dk_at dksX7_count_3 6 rfl rfl)
theorem dX7_count_71 : decode cX7_count 71 = .ok (.ireturn, 1) := dk_172 (dk_at dksX7_count_3 7 rfl rfl)
theorem q97 : (Jvm.Cond.initialized "ReflectMirrorModel") ∈ lw_all := lw_g (lw_at lw_m1 8 rfl) rfl
theorem q1970 : (Jvm.Cond.instantiable "ReflectMirrorModel" (52 : Nat)) ∈ lw_all := lw_g (lw_at lw_m8 201 rfl) rfl
theorem q1972 : (Jvm.Cond.instanceMethod ({ cls := "ReflectMirrorModel", name := "<init>", desc := "()V" } : Jvm.MethodName)) ∈ lw_all := lw_g (lw_at lw_m8 203 rfl) rfl
theorem q1973 : (Jvm.Cond.code ({ cls := "ReflectMirrorModel", name := "<init>", desc := "()V" } : Jvm.MethodName) prog_30_method_1_code (2 : Nat) (Option.none : Option Jvm.ClassFile.FieldType)) ∈ lw_all := lw_g (lw_at lw_m8 204 rfl) rfl
theorem q1974 : (Jvm.Cond.methodLink "ReflectMirrorModel" (1 : Nat) ({ cls := "java/lang/Object", name := "<init>", desc := "()V" } : Jvm.MethodName)) ∈ lw_all := lw_g (lw_at lw_m8 205 rfl) rfl
theorem q1975 : (Jvm.Cond.methodLink "ReflectMirrorModel" (124 : Nat) ({ cls := "ReflectMirrorModel", name := "layOut", desc := "()V" } : Jvm.MethodName)) ∈ lw_all := lw_g (lw_at lw_m8 206 rfl) rfl
theorem q1976 : (Jvm.Cond.privateMethod ({ cls := "ReflectMirrorModel", name := "layOut", desc := "()V" } : Jvm.MethodName)) ∈ lw_tbl := lw_at lw_m8 207 rfl
theorem q1977 : (Jvm.Cond.instanceMethod ({ cls := "ReflectMirrorModel", name := "layOut", desc := "()V" } : Jvm.MethodName)) ∈ lw_all := lw_g (lw_at lw_m8 208 rfl) rfl
theorem q1978 : (Jvm.Cond.code ({ cls := "ReflectMirrorModel", name := "layOut", desc := "()V" } : Jvm.MethodName) prog_30_method_13_code (4 : Nat) (Option.none : Option Jvm.ClassFile.FieldType)) ∈ lw_all := lw_g (lw_at lw_m8 209 rfl) rfl
theorem q1979 : (Jvm.Cond.methodLink "ReflectMirrorModel" (142 : Nat) ({ cls := "ReflectMirrorModel", name := "list", desc := "(II)V" } : Jvm.MethodName)) ∈ lw_all := lw_g (lw_at lw_m8 210 rfl) rfl
theorem q1980 : (Jvm.Cond.privateMethod ({ cls := "ReflectMirrorModel", name := "list", desc := "(II)V" } : Jvm.MethodName)) ∈ lw_tbl := lw_at lw_m8 211 rfl
theorem q1981 : (Jvm.Cond.instanceMethod ({ cls := "ReflectMirrorModel", name := "list", desc := "(II)V" } : Jvm.MethodName)) ∈ lw_all := lw_g (lw_at lw_m8 212 rfl) rfl
theorem q1982 : (Jvm.Cond.code ({ cls := "ReflectMirrorModel", name := "list", desc := "(II)V" } : Jvm.MethodName) prog_30_method_11_code (3 : Nat) (Option.none : Option Jvm.ClassFile.FieldType)) ∈ lw_all := lw_g (lw_at lw_m8 213 rfl) rfl
theorem q1983 : (Jvm.Cond.methodLink "ReflectMirrorModel" (138 : Nat) ({ cls := "ReflectMirrorModel", name := "isListed", desc := "(II)Z" } : Jvm.MethodName)) ∈ lw_all := lw_g (lw_at lw_m8 214 rfl) rfl
theorem q1984 : (Jvm.Cond.privateMethod ({ cls := "ReflectMirrorModel", name := "isListed", desc := "(II)Z" } : Jvm.MethodName)) ∈ lw_tbl := lw_at lw_m8 215 rfl
theorem q1985 : (Jvm.Cond.instanceMethod ({ cls := "ReflectMirrorModel", name := "isListed", desc := "(II)Z" } : Jvm.MethodName)) ∈ lw_all := lw_g (lw_at lw_m8 216 rfl) rfl
theorem q1986 : (Jvm.Cond.code ({ cls := "ReflectMirrorModel", name := "isListed", desc := "(II)Z" } : Jvm.MethodName) prog_30_method_10_code (5 : Nat) (Option.some Jvm.ClassFile.FieldType.boolean)) ∈ lw_all := lw_g (lw_at lw_m8 217 rfl) rfl
theorem q1987 : (Jvm.Cond.methodLink "ReflectMirrorModel" (146 : Nat) ({ cls := "ReflectMirrorModel", name := "takeOver", desc := "(II)V" } : Jvm.MethodName)) ∈ lw_all := lw_g (lw_at lw_m8 218 rfl) rfl
theorem q1988 : (Jvm.Cond.privateMethod ({ cls := "ReflectMirrorModel", name := "takeOver", desc := "(II)V" } : Jvm.MethodName)) ∈ lw_tbl := lw_at lw_m8 219 rfl
theorem q1989 : (Jvm.Cond.instanceMethod ({ cls := "ReflectMirrorModel", name := "takeOver", desc := "(II)V" } : Jvm.MethodName)) ∈ lw_all := lw_g (lw_at lw_m8 220 rfl) rfl
theorem q1990 : (Jvm.Cond.code ({ cls := "ReflectMirrorModel", name := "takeOver", desc := "(II)V" } : Jvm.MethodName) prog_30_method_9_code (4 : Nat) (Option.none : Option Jvm.ClassFile.FieldType)) ∈ lw_all := lw_g (lw_at lw_m8 221 rfl) rfl
theorem q1991 : (Jvm.Cond.methodLink "ReflectMirrorModel" (149 : Nat) ({ cls := "ReflectMirrorModel", name := "listAll", desc := "(IIZ)V" } : Jvm.MethodName)) ∈ lw_all := lw_g (lw_at lw_m8 222 rfl) rfl
theorem q1992 : (Jvm.Cond.privateMethod ({ cls := "ReflectMirrorModel", name := "listAll", desc := "(IIZ)V" } : Jvm.MethodName)) ∈ lw_tbl := lw_at lw_m8 223 rfl
theorem q1993 : (Jvm.Cond.instanceMethod ({ cls := "ReflectMirrorModel", name := "listAll", desc := "(IIZ)V" } : Jvm.MethodName)) ∈ lw_all := lw_g (lw_at lw_m8 224 rfl) rfl
theorem q1994 : (Jvm.Cond.code ({ cls := "ReflectMirrorModel", name := "listAll", desc := "(IIZ)V" } : Jvm.MethodName) prog_30_method_12_code (6 : Nat) (Option.none : Option Jvm.ClassFile.FieldType)) ∈ lw_all := lw_g (lw_at lw_m8 225 rfl) rfl
theorem q1995 : (Jvm.Cond.fieldLink "ReflectMirrorModel" (7 : Nat) "ReflectMirrorModel" "types" "I") ∈ lw_all := lw_g (lw_at lw_m8 226 rfl) rfl
theorem q1996 : (Jvm.Cond.fieldLink "ReflectMirrorModel" (13 : Nat) "ReflectMirrorModel" "sort" "[I") ∈ lw_all := lw_g (lw_at lw_m8 227 rfl) rfl
theorem q1997 : (Jvm.Cond.fieldLink "ReflectMirrorModel" (17 : Nat) "ReflectMirrorModel" "parent" "[I") ∈ lw_all := lw_g (lw_at lw_m8 228 rfl) rfl
theorem q1998 : (Jvm.Cond.fieldLink "ReflectMirrorModel" (20 : Nat) "ReflectMirrorModel" "pack" "[I") ∈ lw_all := lw_g (lw_at lw_m8 229 rfl) rfl
theorem q1999 : (Jvm.Cond.fieldLink "ReflectMirrorModel" (23 : Nat) "ReflectMirrorModel" "itemOf" "[I") ∈ lw_all := lw_g (lw_at lw_m8 230 rfl) rfl
theorem q2000 : (Jvm.Cond.fieldLink "ReflectMirrorModel" (26 : Nat) "ReflectMirrorModel" "rowsOf" "[I") ∈ lw_all := lw_g (lw_at lw_m8 231 rfl) rfl
theorem q2001 : (Jvm.Cond.fieldLink "ReflectMirrorModel" (29 : Nat) "ReflectMirrorModel" "faceMany" "[I") ∈ lw_all := lw_g (lw_at lw_m8 232 rfl) rfl
theorem q2002 : (Jvm.Cond.fieldLink "ReflectMirrorModel" (32 : Nat) "ReflectMirrorModel" "faces" "[I") ∈ lw_all := lw_g (lw_at lw_m8 233 rfl) rfl
theorem q2003 : (Jvm.Cond.fieldLink "ReflectMirrorModel" (35 : Nat) "ReflectMirrorModel" "isA" "[Z") ∈ lw_all := lw_g (lw_at lw_m8 234 rfl) rfl
theorem q2004 : (Jvm.Cond.fieldLink "ReflectMirrorModel" (39 : Nat) "ReflectMirrorModel" "ancestors" "[I") ∈ lw_all := lw_g (lw_at lw_m8 235 rfl) rfl
theorem q2005 : (Jvm.Cond.fieldLink "ReflectMirrorModel" (42 : Nat) "ReflectMirrorModel" "ancestorMany" "[I") ∈ lw_all := lw_g (lw_at lw_m8 236 rfl) rfl
theorem q2006 : (Jvm.Cond.fieldLink "ReflectMirrorModel" (182 : Nat) "ReflectMirrorModel" "members" "I") ∈ lw_all := lw_g (lw_at lw_m8 237 rfl) rfl
theorem q2007 : (Jvm.Cond.fieldLink "ReflectMirrorModel" (209 : Nat) "ReflectMirrorModel" "fields" "I") ∈ lw_all := lw_g (lw_at lw_m8 238 rfl) rfl
theorem q2008 : (Jvm.Cond.fieldLink "ReflectMirrorModel" (45 : Nat) "ReflectMirrorModel" "owner" "[I") ∈ lw_all := lw_g (lw_at lw_m8 239 rfl) rfl
theorem q2009 : (Jvm.Cond.fieldLink "ReflectMirrorModel" (48 : Nat) "ReflectMirrorModel" "name" "[I") ∈ lw_all := lw_g (lw_at lw_m9 0 rfl) rfl
theorem q2010 : (Jvm.Cond.fieldLink "ReflectMirrorModel" (51 : Nat) "ReflectMirrorModel" "marks" "[I") ∈ lw_all := lw_g (lw_at lw_m9 1 rfl) rfl
theorem q2011 : (Jvm.Cond.fieldLink "ReflectMirrorModel" (54 : Nat) "ReflectMirrorModel" "isField" "[Z") ∈ lw_all := lw_g (lw_at lw_m9 2 rfl) rfl
theorem q2012 : (Jvm.Cond.fieldLink "ReflectMirrorModel" (57 : Nat) "ReflectMirrorModel" "of" "[I") ∈ lw_all := lw_g (lw_at lw_m9 3 rfl) rfl
theorem q2013 : (Jvm.Cond.fieldLink "ReflectMirrorModel" (60 : Nat) "ReflectMirrorModel" "paramMany" "[I") ∈ lw_all := lw_g (lw_at lw_m9 4 rfl) rfl
theorem q2014 : (Jvm.Cond.fieldLink "ReflectMirrorModel" (63 : Nat) "ReflectMirrorModel" "params" "[I") ∈ lw_all := lw_g (lw_at lw_m9 5 rfl) rfl
theorem q2015 : (Jvm.Cond.fieldLink "ReflectMirrorModel" (66 : Nat) "ReflectMirrorModel" "isOpen" "[Z") ∈ lw_all := lw_g (lw_at lw_m9 6 rfl) rfl
theorem q2016 : (Jvm.Cond.fieldLink "ReflectMirrorModel" (69 : Nat) "ReflectMirrorModel" "isTold" "[Z") ∈ lw_all := lw_g (lw_at lw_m9 7 rfl) rfl
theorem q2017 : (Jvm.Cond.fieldLink "ReflectMirrorModel" (72 : Nat) "ReflectMirrorModel" "bodyKind" "[I") ∈ lw_all := lw_g (lw_at lw_m9 8 rfl) rfl
theorem q2018 : (Jvm.Cond.fieldLink "ReflectMirrorModel" (75 : Nat) "ReflectMirrorModel" "bodyX" "[I") ∈ lw_all := lw_g (lw_at lw_m9 9 rfl) rfl
theorem q2019 : (Jvm.Cond.fieldLink "ReflectMirrorModel" (78 : Nat) "ReflectMirrorModel" "bodyY" "[I") ∈ lw_all := lw_g (lw_at lw_m9 10 rfl) rfl
theorem q2020 : (Jvm.Cond.fieldLink "ReflectMirrorModel" (81 : Nat) "ReflectMirrorModel" "above" "[I") ∈ lw_all := lw_g (lw_at lw_m9 11 rfl) rfl
theorem q2021 : (Jvm.Cond.fieldLink "ReflectMirrorModel" (84 : Nat) "ReflectMirrorModel" "common" "[J") ∈ lw_all := lw_g (lw_at lw_m9 12 rfl) rfl
theorem q2022 : (Jvm.Cond.fieldLink "ReflectMirrorModel" (168 : Nat) "ReflectMirrorModel" "things" "I") ∈ lw_all := lw_g (lw_at lw_m9 13 rfl) rfl
theorem q2023 : (Jvm.Cond.fieldLink "ReflectMirrorModel" (88 : Nat) "ReflectMirrorModel" "typeOf" "[I") ∈ lw_all := lw_g (lw_at lw_m9 14 rfl) rfl
theorem q2024 : (Jvm.Cond.fieldLink "ReflectMirrorModel" (91 : Nat) "ReflectMirrorModel" "itemMany" "[I") ∈ lw_all := lw_g (lw_at lw_m9 15 rfl) rfl
theorem q2025 : (Jvm.Cond.fieldLink "ReflectMirrorModel" (94 : Nat) "ReflectMirrorModel" "values" "[J") ∈ lw_all := lw_g (lw_at lw_m9 16 rfl) rfl
theorem q2026 : (Jvm.Cond.fieldLink "ReflectMirrorModel" (97 : Nat) "ReflectMirrorModel" "items" "[J") ∈ lw_all := lw_g (lw_at lw_m9 17 rfl) rfl
theorem q2027 : (Jvm.Cond.fieldLink "ReflectMirrorModel" (100 : Nat) "ReflectMirrorModel" "slotKind" "[I") ∈ lw_all := lw_g (lw_at lw_m9 18 rfl) rfl
theorem q2028 : (Jvm.Cond.fieldLink "ReflectMirrorModel" (103 : Nat) "ReflectMirrorModel" "slotBits" "[J") ∈ lw_all := lw_g (lw_at lw_m9 19 rfl) rfl
theorem q2029 : (Jvm.Cond.fieldLink "ReflectMirrorModel" (106 : Nat) "ReflectMirrorModel" "caller" "I") ∈ lw_all := lw_g (lw_at lw_m9 20 rfl) rfl
theorem q2030 : (Jvm.Cond.fieldLink "ReflectMirrorModel" (452 : Nat) "ReflectMirrorModel" "begunEver" "I") ∈ lw_all := lw_g (lw_at lw_m9 21 rfl) rfl
theorem q2031 : (Jvm.Cond.fieldLink "ReflectMirrorModel" (467 : Nat) "ReflectMirrorModel" "causes" "I") ∈ lw_all := lw_g (lw_at lw_m9 22 rfl) rfl
theorem q2032 : (Jvm.Cond.fieldLink "ReflectMirrorModel" (410 : Nat) "ReflectMirrorModel" "causeKind" "I") ∈ lw_all := lw_g (lw_at lw_m9 23 rfl) rfl
theorem q2033 : (Jvm.Cond.fieldLink "ReflectMirrorModel" (413 : Nat) "ReflectMirrorModel" "causeMethod" "I") ∈ lw_all := lw_g (lw_at lw_m9 24 rfl) rfl
theorem q2034 : (Jvm.Cond.fieldLink "ReflectMirrorModel" (416 : Nat) "ReflectMirrorModel" "causeDepth" "I") ∈ lw_all := lw_g (lw_at lw_m9 25 rfl) rfl
theorem q2035 : (Jvm.Cond.fieldLink "ReflectMirrorModel" (109 : Nat) "ReflectMirrorModel" "ahead" "[I") ∈ lw_all := lw_g (lw_at lw_m9 26 rfl) rfl
theorem q2036 : (Jvm.Cond.fieldLink "ReflectMirrorModel" (230 : Nat) "ReflectMirrorModel" "aheadMany" "I") ∈ lw_all := lw_g (lw_at lw_m9 27 rfl) rfl
theorem q2037 : (Jvm.Cond.fieldLink "ReflectMirrorModel" (112 : Nat) "ReflectMirrorModel" "seen" "[Z") ∈ lw_all := lw_g (lw_at lw_m9 28 rfl) rfl
theorem q2038 : (Jvm.Cond.fieldLink "ReflectMirrorModel" (115 : Nat) "ReflectMirrorModel" "middle" "[J") ∈ lw_all := lw_g (lw_at lw_m9 29 rfl) rfl
theorem q2039 : (Jvm.Cond.fieldLink "ReflectMirrorModel" (385 : Nat) "ReflectMirrorModel" "comes" "I") ∈ lw_all := lw_g (lw_at lw_m9 30 rfl) rfl
theorem q2040 : (Jvm.Cond.fieldLink "ReflectMirrorModel" (419 : Nat) "ReflectMirrorModel" "open" "I") ∈ lw_all := lw_g (lw_at lw_m9 31 rfl) rfl
theorem q2041 : (Jvm.Cond.fieldLink "ReflectMirrorModel" (118 : Nat) "ReflectMirrorModel" "openMethod" "[I") ∈ lw_all := lw_g (lw_at lw_m9 32 rfl) rfl
theorem q2042 : (Jvm.Cond.fieldLink "ReflectMirrorModel" (121 : Nat) "ReflectMirrorModel" "argument" "[J") ∈ lw_all := lw_g (lw_at lw_m9 33 rfl) rfl
theorem q2043 : (Jvm.Cond.fieldLink "ReflectMirrorModel" (426 : Nat) "ReflectMirrorModel" "self" "I") ∈ lw_all := lw_g (lw_at lw_m9 34 rfl) rfl
theorem q2044 : (Jvm.Cond.fieldLink "ReflectMirrorModel" (429 : Nat) "ReflectMirrorModel" "cameType" "I") ∈ lw_all := lw_g (lw_at lw_m9 35 rfl) rfl
theorem q2045 : (Jvm.Cond.fieldLink "ReflectMirrorModel" (432 : Nat) "ReflectMirrorModel" "came" "J") ∈ lw_all := lw_g (lw_at lw_m9 36 rfl) rfl
theorem q2046 : (Jvm.Cond.fieldLink "ReflectMirrorModel" (407 : Nat) "ReflectMirrorModel" "failure" "I") ∈ lw_all := lw_g (lw_at lw_m9 37 rfl) rfl
theorem q2047 : (Jvm.Cond.lays "ReflectMirrorModel" "ReflectMirrorModel" "types" "I") ∈ lw_all := lw_g (lw_at lw_m9 38 rfl) rfl
theorem q2048 : (Jvm.Cond.soleField "ReflectMirrorModel" "types") ∈ lw_all := lw_g (lw_at lw_m9 39 rfl) rfl
theorem q2049 : (Jvm.Cond.laysFinal "ReflectMirrorModel" "ReflectMirrorModel" "sort" "[I") ∈ lw_all := lw_g (lw_at lw_m9 40 rfl) rfl
theorem q2050 : (Jvm.Cond.soleField "ReflectMirrorModel" "sort") ∈ lw_all := lw_g (lw_at lw_m9 41 rfl) rfl
theorem q2051 : (Jvm.Cond.laysFinal "ReflectMirrorModel" "ReflectMirrorModel" "parent" "[I") ∈ lw_all := lw_g (lw_at lw_m9 42 rfl) rfl
theorem q2052 : (Jvm.Cond.soleField "ReflectMirrorModel" "parent") ∈ lw_all := lw_g (lw_at lw_m9 43 rfl) rfl
theorem q2053 : (Jvm.Cond.laysFinal "ReflectMirrorModel" "ReflectMirrorModel" "pack" "[I") ∈ lw_all := lw_g (lw_at lw_m9 44 rfl) rfl
theorem q2054 : (Jvm.Cond.soleField "ReflectMirrorModel" "pack") ∈ lw_all := lw_g (lw_at lw_m9 45 rfl) rfl
theorem q2055 : (Jvm.Cond.laysFinal "ReflectMirrorModel" "ReflectMirrorModel" "itemOf" "[I") ∈ lw_all := lw_g (lw_at lw_m9 46 rfl) rfl
theorem q2056 : (Jvm.Cond.soleField "ReflectMirrorModel" "itemOf") ∈ lw_all := lw_g (lw_at lw_m9 47 rfl) rfl
theorem q2057 : (Jvm.Cond.laysFinal "ReflectMirrorModel" "ReflectMirrorModel" "rowsOf" "[I") ∈ lw_all := lw_g (lw_at lw_m9 48 rfl) rfl
theorem q2058 : (Jvm.Cond.soleField "ReflectMirrorModel" "rowsOf") ∈ lw_all := lw_g (lw_at lw_m9 49 rfl) rfl
theorem q2059 : (Jvm.Cond.laysFinal "ReflectMirrorModel" "ReflectMirrorModel" "faceMany" "[I") ∈ lw_all := lw_g (lw_at lw_m9 50 rfl) rfl
theorem q2060 : (Jvm.Cond.soleField "ReflectMirrorModel" "faceMany") ∈ lw_all := lw_g (lw_at lw_m9 51 rfl) rfl
theorem q2061 : (Jvm.Cond.laysFinal "ReflectMirrorModel" "ReflectMirrorModel" "faces" "[I") ∈ lw_all := lw_g (lw_at lw_m9 52 rfl) rfl
theorem q2062 : (Jvm.Cond.soleField "ReflectMirrorModel" "faces") ∈ lw_all := lw_g (lw_at lw_m9 53 rfl) rfl
theorem q2063 : (Jvm.Cond.laysFinal "ReflectMirrorModel" "ReflectMirrorModel" "isA" "[Z") ∈ lw_all := lw_g (lw_at lw_m9 54 rfl) rfl
theorem q2064 : (Jvm.Cond.soleField "ReflectMirrorModel" "isA") ∈ lw_all := lw_g (lw_at lw_m9 55 rfl) rfl
theorem q2065 : (Jvm.Cond.laysFinal "ReflectMirrorModel" "ReflectMirrorModel" "ancestors" "[I") ∈ lw_all := lw_g (lw_at lw_m9 56 rfl) rfl
theorem q2066 : (Jvm.Cond.soleField "ReflectMirrorModel" "ancestors") ∈ lw_all := lw_g (lw_at lw_m9 57 rfl) rfl
theorem q2067 : (Jvm.Cond.laysFinal "ReflectMirrorModel" "ReflectMirrorModel" "ancestorMany" "[I") ∈ lw_all := lw_g (lw_at lw_m9 58 rfl) rfl
theorem q2068 : (Jvm.Cond.soleField "ReflectMirrorModel" "ancestorMany") ∈ lw_all := lw_g (lw_at lw_m9 59 rfl) rfl
theorem q2069 : (Jvm.Cond.lays "ReflectMirrorModel" "ReflectMirrorModel" "members" "I") ∈ lw_all := lw_g (lw_at lw_m9 60 rfl) rfl
theorem q2070 : (Jvm.Cond.soleField "ReflectMirrorModel" "members") ∈ lw_all := lw_g (lw_at lw_m9 61 rfl) rfl
theorem q2071 : (Jvm.Cond.lays "ReflectMirrorModel" "ReflectMirrorModel" "fields" "I") ∈ lw_all := lw_g (lw_at lw_m9 62 rfl) rfl
theorem q2072 : (Jvm.Cond.soleField "ReflectMirrorModel" "fields") ∈ lw_all := lw_g (lw_at lw_m9 63 rfl) rfl
theorem q2073 : (Jvm.Cond.laysFinal "ReflectMirrorModel" "ReflectMirrorModel" "owner" "[I") ∈ lw_all := lw_g (lw_at lw_m9 64 rfl) rfl
theorem q2074 : (Jvm.Cond.soleField "ReflectMirrorModel" "owner") ∈ lw_all := lw_g (lw_at lw_m9 65 rfl) rfl
theorem q2075 : (Jvm.Cond.laysFinal "ReflectMirrorModel" "ReflectMirrorModel" "name" "[I") ∈ lw_all := lw_g (lw_at lw_m9 66 rfl) rfl
theorem q2076 : (Jvm.Cond.soleField "ReflectMirrorModel" "name") ∈ lw_all := lw_g (lw_at lw_m9 67 rfl) rfl
theorem q2077 : (Jvm.Cond.laysFinal "ReflectMirrorModel" "ReflectMirrorModel" "marks" "[I") ∈ lw_all := lw_g (lw_at lw_m9 68 rfl) rfl
theorem q2078 : (Jvm.Cond.soleField "ReflectMirrorModel" "marks") ∈ lw_all := lw_g (lw_at lw_m9 69 rfl) rfl
theorem q2079 : (Jvm.Cond.laysFinal "ReflectMirrorModel" "ReflectMirrorModel" "isField" "[Z") ∈ lw_all := lw_g (lw_at lw_m9 70 rfl) rfl
theorem q2080 : (Jvm.Cond.soleField "ReflectMirrorModel" "isField") ∈ lw_all := lw_g (lw_at lw_m9 71 rfl) rfl
theorem q2081 : (Jvm.Cond.laysFinal "ReflectMirrorModel" "ReflectMirrorModel" "of" "[I") ∈ lw_all := lw_g (lw_at lw_m9 72 rfl) rfl
theorem q2082 : (Jvm.Cond.soleField "ReflectMirrorModel" "of") ∈ lw_all := lw_g (lw_at lw_m9 73 rfl) rfl
theorem q2083 : (Jvm.Cond.laysFinal "ReflectMirrorModel" "ReflectMirrorModel" "paramMany" "[I") ∈ lw_all := lw_g (lw_at lw_m9 74 rfl) rfl
theorem q2084 : (Jvm.Cond.soleField "ReflectMirrorModel" "paramMany") ∈ lw_all := lw_g (lw_at lw_m9 75 rfl) rfl
theorem q2085 : (Jvm.Cond.laysFinal "ReflectMirrorModel" "ReflectMirrorModel" "params" "[I") ∈ lw_all := lw_g (lw_at lw_m9 76 rfl) rfl
theorem q2086 : (Jvm.Cond.soleField "ReflectMirrorModel" "params") ∈ lw_all := lw_g (lw_at lw_m9 77 rfl) rfl
theorem q2087 : (Jvm.Cond.laysFinal "ReflectMirrorModel" "ReflectMirrorModel" "isOpen" "[Z") ∈ lw_all := lw_g (lw_at lw_m9 78 rfl) rfl
theorem q2088 : (Jvm.Cond.soleField "ReflectMirrorModel" "isOpen") ∈ lw_all := lw_g (lw_at lw_m9 79 rfl) rfl
theorem q2089 : (Jvm.Cond.laysFinal "ReflectMirrorModel" "ReflectMirrorModel" "isTold" "[Z") ∈ lw_all := lw_g (lw_at lw_m9 80 rfl) rfl
theorem q2090 : (Jvm.Cond.soleField "ReflectMirrorModel" "isTold") ∈ lw_all := lw_g (lw_at lw_m9 81 rfl) rfl
theorem q2091 : (Jvm.Cond.laysFinal "ReflectMirrorModel" "ReflectMirrorModel" "bodyKind" "[I") ∈ lw_all := lw_g (lw_at lw_m9 82 rfl) rfl
theorem q2092 : (Jvm.Cond.soleField "ReflectMirrorModel" "bodyKind") ∈ lw_all := lw_g (lw_at lw_m9 83 rfl) rfl
theorem q2093 : (Jvm.Cond.laysFinal "ReflectMirrorModel" "ReflectMirrorModel" "bodyX" "[I") ∈ lw_all := lw_g (lw_at lw_m9 84 rfl) rfl
theorem q2094 : (Jvm.Cond.soleField "ReflectMirrorModel" "bodyX") ∈ lw_all := lw_g (lw_at lw_m9 85 rfl) rfl
theorem q2095 : (Jvm.Cond.laysFinal "ReflectMirrorModel" "ReflectMirrorModel" "bodyY" "[I") ∈ lw_all := lw_g (lw_at lw_m9 86 rfl) rfl
theorem q2096 : (Jvm.Cond.soleField "ReflectMirrorModel" "bodyY") ∈ lw_all := lw_g (lw_at lw_m9 87 rfl) rfl
theorem q2097 : (Jvm.Cond.laysFinal "ReflectMirrorModel" "ReflectMirrorModel" "above" "[I") ∈ lw_all := lw_g (lw_at lw_m9 88 rfl) rfl
theorem q2098 : (Jvm.Cond.soleField "ReflectMirrorModel" "above") ∈ lw_all := lw_g (lw_at lw_m9 89 rfl) rfl
theorem q2099 : (Jvm.Cond.laysFinal "ReflectMirrorModel" "ReflectMirrorModel" "common" "[J") ∈ lw_all := lw_g (lw_at lw_m9 90 rfl) rfl
theorem q2100 : (Jvm.Cond.soleField "ReflectMirrorModel" "common") ∈ lw_all := lw_g (lw_at lw_m9 91 rfl) rfl
theorem q2101 : (Jvm.Cond.lays "ReflectMirrorModel" "ReflectMirrorModel" "things" "I") ∈ lw_all := lw_g (lw_at lw_m9 92 rfl) rfl
theorem q2102 : (Jvm.Cond.soleField "ReflectMirrorModel" "things") ∈ lw_all := lw_g (lw_at lw_m9 93 rfl) rfl
theorem q2103 : (Jvm.Cond.laysFinal "ReflectMirrorModel" "ReflectMirrorModel" "typeOf" "[I") ∈ lw_all := lw_g (lw_at lw_m9 94 rfl) rfl
theorem q2104 : (Jvm.Cond.soleField "ReflectMirrorModel" "typeOf") ∈ lw_all := lw_g (lw_at lw_m9 95 rfl) rfl
theorem q2105 : (Jvm.Cond.laysFinal "ReflectMirrorModel" "ReflectMirrorModel" "itemMany" "[I") ∈ lw_all := lw_g (lw_at lw_m9 96 rfl) rfl
theorem q2106 : (Jvm.Cond.soleField "ReflectMirrorModel" "itemMany") ∈ lw_all := lw_g (lw_at lw_m9 97 rfl) rfl
theorem q2107 : (Jvm.Cond.laysFinal "ReflectMirrorModel" "ReflectMirrorModel" "values" "[J") ∈ lw_all := lw_g (lw_at lw_m9 98 rfl) rfl
theorem q2108 : (Jvm.Cond.soleField "ReflectMirrorModel" "values") ∈ lw_all := lw_g (lw_at lw_m9 99 rfl) rfl
theorem q2109 : (Jvm.Cond.laysFinal "ReflectMirrorModel" "ReflectMirrorModel" "items" "[J") ∈ lw_all := lw_g (lw_at lw_m9 100 rfl) rfl
theorem q2110 : (Jvm.Cond.soleField "ReflectMirrorModel" "items") ∈ lw_all := lw_g (lw_at lw_m9 101 rfl) rfl
theorem q2111 : (Jvm.Cond.laysFinal "ReflectMirrorModel" "ReflectMirrorModel" "slotKind" "[I") ∈ lw_all := lw_g (lw_at lw_m9 102 rfl) rfl
theorem q2112 : (Jvm.Cond.soleField "ReflectMirrorModel" "slotKind") ∈ lw_all := lw_g (lw_at lw_m9 103 rfl) rfl
theorem q2113 : (Jvm.Cond.laysFinal "ReflectMirrorModel" "ReflectMirrorModel" "slotBits" "[J") ∈ lw_all := lw_g (lw_at lw_m9 104 rfl) rfl
theorem q2114 : (Jvm.Cond.soleField "ReflectMirrorModel" "slotBits") ∈ lw_all := lw_g (lw_at lw_m9 105 rfl) rfl
theorem q2115 : (Jvm.Cond.lays "ReflectMirrorModel" "ReflectMirrorModel" "caller" "I") ∈ lw_all := lw_g (lw_at lw_m9 106 rfl) rfl
theorem q2116 : (Jvm.Cond.soleField "ReflectMirrorModel" "caller") ∈ lw_all := lw_g (lw_at lw_m9 107 rfl) rfl
theorem q2117 : (Jvm.Cond.lays "ReflectMirrorModel" "ReflectMirrorModel" "begunEver" "I") ∈ lw_all := lw_g (lw_at lw_m9 108 rfl) rfl
theorem q2118 : (Jvm.Cond.soleField "ReflectMirrorModel" "begunEver") ∈ lw_all := lw_g (lw_at lw_m9 109 rfl) rfl
theorem q2119 : (Jvm.Cond.lays "ReflectMirrorModel" "ReflectMirrorModel" "causes" "I") ∈ lw_all := lw_g (lw_at lw_m9 110 rfl) rfl
theorem q2120 : (Jvm.Cond.soleField "ReflectMirrorModel" "causes") ∈ lw_all := lw_g (lw_at lw_m9 111 rfl) rfl
theorem q2121 : (Jvm.Cond.lays "ReflectMirrorModel" "ReflectMirrorModel" "causeKind" "I") ∈ lw_all := lw_g (lw_at lw_m9 112 rfl) rfl
theorem q2122 : (Jvm.Cond.soleField "ReflectMirrorModel" "causeKind") ∈ lw_all := lw_g (lw_at lw_m9 113 rfl) rfl
theorem q2123 : (Jvm.Cond.lays "ReflectMirrorModel" "ReflectMirrorModel" "causeMethod" "I") ∈ lw_all := lw_g (lw_at lw_m9 114 rfl) rfl
theorem q2124 : (Jvm.Cond.soleField "ReflectMirrorModel" "causeMethod") ∈ lw_all := lw_g (lw_at lw_m9 115 rfl) rfl
theorem q2125 : (Jvm.Cond.lays "ReflectMirrorModel" "ReflectMirrorModel" "causeDepth" "I") ∈ lw_all := lw_g (lw_at lw_m9 116 rfl) rfl
theorem q2126 : (Jvm.Cond.soleField "ReflectMirrorModel" "causeDepth") ∈ lw_all := lw_g (lw_at lw_m9 117 rfl) rfl
theorem q2127 : (Jvm.Cond.laysFinal "ReflectMirrorModel" "ReflectMirrorModel" "ahead" "[I") ∈ lw_all := lw_g (lw_at lw_m9 118 rfl) rfl
theorem q2128 : (Jvm.Cond.soleField "ReflectMirrorModel" "ahead") ∈ lw_all := lw_g (lw_at lw_m9 119 rfl) rfl
theorem q2129 : (Jvm.Cond.lays "ReflectMirrorModel" "ReflectMirrorModel" "aheadMany" "I") ∈ lw_all := lw_g (lw_at lw_m9 120 rfl) rfl
theorem q2130 : (Jvm.Cond.soleField "ReflectMirrorModel" "aheadMany") ∈ lw_all := lw_g (lw_at lw_m9 121 rfl) rfl
theorem q2131 : (Jvm.Cond.laysFinal "ReflectMirrorModel" "ReflectMirrorModel" "seen" "[Z") ∈ lw_all := lw_g (lw_at lw_m9 122 rfl) rfl
theorem q2132 : (Jvm.Cond.soleField "ReflectMirrorModel" "seen") ∈ lw_all := lw_g (lw_at lw_m9 123 rfl) rfl
theorem q2133 : (Jvm.Cond.laysFinal "ReflectMirrorModel" "ReflectMirrorModel" "middle" "[J") ∈ lw_all := lw_g (lw_at lw_m9 124 rfl) rfl
theorem q2134 : (Jvm.Cond.soleField "ReflectMirrorModel" "middle") ∈ lw_all := lw_g (lw_at lw_m9 125 rfl) rfl
theorem q2135 : (Jvm.Cond.lays "ReflectMirrorModel" "ReflectMirrorModel" "comes" "I") ∈ lw_all := lw_g (lw_at lw_m9 126 rfl) rfl
theorem q2136 : (Jvm.Cond.soleField "ReflectMirrorModel" "comes") ∈ lw_all := lw_g (lw_at lw_m9 127 rfl) rfl
theorem q2137 : (Jvm.Cond.lays "ReflectMirrorModel" "ReflectMirrorModel" "open" "I") ∈ lw_all := lw_g (lw_at lw_m9 128 rfl) rfl
theorem q2138 : (Jvm.Cond.soleField "ReflectMirrorModel" "open") ∈ lw_all := lw_g (lw_at lw_m9 129 rfl) rfl
theorem q2139 : (Jvm.Cond.laysFinal "ReflectMirrorModel" "ReflectMirrorModel" "openMethod" "[I") ∈ lw_all := lw_g (lw_at lw_m9 130 rfl) rfl
theorem q2140 : (Jvm.Cond.soleField "ReflectMirrorModel" "openMethod") ∈ lw_all := lw_g (lw_at lw_m9 131 rfl) rfl
theorem q2141 : (Jvm.Cond.laysFinal "ReflectMirrorModel" "ReflectMirrorModel" "argument" "[J") ∈ lw_all := lw_g (lw_at lw_m9 132 rfl) rfl
theorem q2142 : (Jvm.Cond.soleField "ReflectMirrorModel" "argument") ∈ lw_all := lw_g (lw_at lw_m9 133 rfl) rfl
theorem q2143 : (Jvm.Cond.lays "ReflectMirrorModel" "ReflectMirrorModel" "self" "I") ∈ lw_all := lw_g (lw_at lw_m9 134 rfl) rfl
theorem q2144 : (Jvm.Cond.soleField "ReflectMirrorModel" "self") ∈ lw_all := lw_g (lw_at lw_m9 135 rfl) rfl
theorem q2145 : (Jvm.Cond.lays "ReflectMirrorModel" "ReflectMirrorModel" "cameType" "I") ∈ lw_all := lw_g (lw_at lw_m9 136 rfl) rfl
theorem q2146 : (Jvm.Cond.soleField "ReflectMirrorModel" "cameType") ∈ lw_all := lw_g (lw_at lw_m9 137 rfl) rfl
theorem q2147 : (Jvm.Cond.lays "ReflectMirrorModel" "ReflectMirrorModel" "came" "J") ∈ lw_all := lw_g (lw_at lw_m9 138 rfl) rfl
theorem q2148 : (Jvm.Cond.soleField "ReflectMirrorModel" "came") ∈ lw_all := lw_g (lw_at lw_m9 139 rfl) rfl
theorem q2149 : (Jvm.Cond.lays "ReflectMirrorModel" "ReflectMirrorModel" "failure" "I") ∈ lw_all := lw_g (lw_at lw_m9 140 rfl) rfl
theorem q2150 : (Jvm.Cond.soleField "ReflectMirrorModel" "failure") ∈ lw_all := lw_g (lw_at lw_m9 141 rfl) rfl
theorem q2151 : (Jvm.Cond.superclass "ReflectMirrorModel" "java/lang/Object") ∈ lw_all := lw_g (lw_at lw_m9 142 rfl) rfl
theorem q2153 : (Jvm.Cond.instanceMethod ({ cls := "ReflectMirrorModel", name := "type", desc := "(IIZ)I" } : Jvm.MethodName)) ∈ lw_all := lw_g (lw_at lw_m9 144 rfl) rfl
theorem q2154 : (Jvm.Cond.selects "ReflectMirrorModel" ({ cls := "ReflectMirrorModel", name := "type", desc := "(IIZ)I" } : Jvm.MethodName) ({ cls := "ReflectMirrorModel", name := "type", desc := "(IIZ)I" } : Jvm.MethodName)) ∈ lw_all := lw_g (lw_at lw_m9 145 rfl) rfl
theorem q2155 : (Jvm.Cond.code ({ cls := "ReflectMirrorModel", name := "type", desc := "(IIZ)I" } : Jvm.MethodName) prog_30_method_17_code (4 : Nat) (Option.some Jvm.ClassFile.FieldType.int)) ∈ lw_all := lw_g (lw_at lw_m9 146 rfl) rfl
theorem q2156 : (Jvm.Cond.methodLink "ReflectMirrorModel" (135 : Nat) ({ cls := "ReflectMirrorModel", name := "isClass", desc := "(I)Z" } : Jvm.MethodName)) ∈ lw_all := lw_g (lw_at lw_m9 147 rfl) rfl
theorem q2157 : (Jvm.Cond.privateMethod ({ cls := "ReflectMirrorModel", name := "isClass", desc := "(I)Z" } : Jvm.MethodName)) ∈ lw_tbl := lw_at lw_m9 148 rfl
theorem q2158 : (Jvm.Cond.instanceMethod ({ cls := "ReflectMirrorModel", name := "isClass", desc := "(I)Z" } : Jvm.MethodName)) ∈ lw_all := lw_g (lw_at lw_m9 149 rfl) rfl
theorem q2159 : (Jvm.Cond.code ({ cls := "ReflectMirrorModel", name := "isClass", desc := "(I)Z" } : Jvm.MethodName) prog_30_method_6_code (2 : Nat) (Option.some Jvm.ClassFile.FieldType.boolean)) ∈ lw_all := lw_g (lw_at lw_m9 150 rfl) rfl
theorem q2160 : (Jvm.Cond.methodLink "ReflectMirrorModel" (131 : Nat) ({ cls := "ReflectMirrorModel", name := "isType", desc := "(I)Z" } : Jvm.MethodName)) ∈ lw_all := lw_g (lw_at lw_m9 151 rfl) rfl
theorem q2161 : (Jvm.Cond.privateMethod ({ cls := "ReflectMirrorModel", name := "isType", desc := "(I)Z" } : Jvm.MethodName)) ∈ lw_tbl := lw_at lw_m9 152 rfl
theorem q2162 : (Jvm.Cond.instanceMethod ({ cls := "ReflectMirrorModel", name := "isType", desc := "(I)Z" } : Jvm.MethodName)) ∈ lw_all := lw_g (lw_at lw_m9 153 rfl) rfl
theorem q2163 : (Jvm.Cond.code ({ cls := "ReflectMirrorModel", name := "isType", desc := "(I)Z" } : Jvm.MethodName) prog_30_method_4_code (2 : Nat) (Option.some Jvm.ClassFile.FieldType.boolean)) ∈ lw_all := lw_g (lw_at lw_m9 154 rfl) rfl
theorem q2164 : (Jvm.Cond.methodLink "ReflectMirrorModel" (127 : Nat) ({ cls := "ReflectMirrorModel", name := "in", desc := "(JJJ)Z" } : Jvm.MethodName)) ∈ lw_all := lw_g (lw_at lw_m9 155 rfl) rfl
theorem q2165 : (Jvm.Cond.static ({ cls := "ReflectMirrorModel", name := "in", desc := "(JJJ)Z" } : Jvm.MethodName)) ∈ lw_all := lw_g (lw_at lw_m9 156 rfl) rfl
theorem q2166 : (Jvm.Cond.code ({ cls := "ReflectMirrorModel", name := "in", desc := "(JJJ)Z" } : Jvm.MethodName) prog_30_method_3_code (6 : Nat) (Option.some Jvm.ClassFile.FieldType.boolean)) ∈ lw_all := lw_g (lw_at lw_m9 157 rfl) rfl
theorem q2167 : (Jvm.Cond.constantLong "ReflectMirrorModel" (159 : Nat) (3 : Int64)) ∈ lw_all := lw_g (lw_at lw_m9 158 rfl) rfl
theorem q2168 : (Jvm.Cond.methodLink "ReflectMirrorModel" (161 : Nat) ({ cls := "ReflectMirrorModel", name := "newType", desc := "(III)I" } : Jvm.MethodName)) ∈ lw_all := lw_g (lw_at lw_m9 159 rfl) rfl
theorem q2169 : (Jvm.Cond.privateMethod ({ cls := "ReflectMirrorModel", name := "newType", desc := "(III)I" } : Jvm.MethodName)) ∈ lw_tbl := lw_at lw_m9 160 rfl
theorem q2170 : (Jvm.Cond.instanceMethod ({ cls := "ReflectMirrorModel", name := "newType", desc := "(III)I" } : Jvm.MethodName)) ∈ lw_all := lw_g (lw_at lw_m9 161 rfl) rfl
theorem q2171 : (Jvm.Cond.code ({ cls := "ReflectMirrorModel", name := "newType", desc := "(III)I" } : Jvm.MethodName) prog_30_method_16_code (5 : Nat) (Option.some Jvm.ClassFile.FieldType.int)) ∈ lw_all := lw_g (lw_at lw_m9 162 rfl) rfl
theorem q2173 : (Jvm.Cond.instanceMethod ({ cls := "ReflectMirrorModel", name := "face", desc := "(I)I" } : Jvm.MethodName)) ∈ lw_all := lw_g (lw_at lw_m9 164 rfl) rfl
theorem q2174 : (Jvm.Cond.selects "ReflectMirrorModel" ({ cls := "ReflectMirrorModel", name := "face", desc := "(I)I" } : Jvm.MethodName) ({ cls := "ReflectMirrorModel", name := "face", desc := "(I)I" } : Jvm.MethodName)) ∈ lw_all := lw_g (lw_at lw_m9 165 rfl) rfl
theorem q2175 : (Jvm.Cond.code ({ cls := "ReflectMirrorModel", name := "face", desc := "(I)I" } : Jvm.MethodName) prog_30_method_18_code (2 : Nat) (Option.some Jvm.ClassFile.FieldType.int)) ∈ lw_all := lw_g (lw_at lw_m9 166 rfl) rfl
theorem q2177 : (Jvm.Cond.instanceMethod ({ cls := "ReflectMirrorModel", name := "rows", desc := "(I)I" } : Jvm.MethodName)) ∈ lw_all := lw_g (lw_at lw_m9 168 rfl) rfl
theorem q2178 : (Jvm.Cond.selects "ReflectMirrorModel" ({ cls := "ReflectMirrorModel", name := "rows", desc := "(I)I" } : Jvm.MethodName) ({ cls := "ReflectMirrorModel", name := "rows", desc := "(I)I" } : Jvm.MethodName)) ∈ lw_all := lw_g (lw_at lw_m9 169 rfl) rfl
theorem q2179 : (Jvm.Cond.code ({ cls := "ReflectMirrorModel", name := "rows", desc := "(I)I" } : Jvm.MethodName) prog_30_method_19_code (2 : Nat) (Option.some Jvm.ClassFile.FieldType.int)) ∈ lw_all := lw_g (lw_at lw_m9 170 rfl) rfl
theorem q2181 : (Jvm.Cond.instanceMethod ({ cls := "ReflectMirrorModel", name := "implement", desc := "(II)I" } : Jvm.MethodName)) ∈ lw_all := lw_g (lw_at lw_m9 172 rfl) rfl
theorem q2182 : (Jvm.Cond.selects "ReflectMirrorModel" ({ cls := "ReflectMirrorModel", name := "implement", desc := "(II)I" } : Jvm.MethodName) ({ cls := "ReflectMirrorModel", name := "implement", desc := "(II)I" } : Jvm.MethodName)) ∈ lw_all := lw_g (lw_at lw_m9 173 rfl) rfl
theorem q2183 : (Jvm.Cond.code ({ cls := "ReflectMirrorModel", name := "implement", desc := "(II)I" } : Jvm.MethodName) prog_30_method_20_code (5 : Nat) (Option.some Jvm.ClassFile.FieldType.int)) ∈ lw_all := lw_g (lw_at lw_m9 174 rfl) rfl
theorem q2184 : (Jvm.Cond.methodLink "ReflectMirrorModel" (165 : Nat) ({ cls := "ReflectMirrorModel", name := "declares", desc := "(I)Z" } : Jvm.MethodName)) ∈ lw_all := lw_g (lw_at lw_m9 175 rfl) rfl
theorem q2185 : (Jvm.Cond.privateMethod ({ cls := "ReflectMirrorModel", name := "declares", desc := "(I)Z" } : Jvm.MethodName)) ∈ lw_tbl := lw_at lw_m9 176 rfl
theorem q2186 : (Jvm.Cond.instanceMethod ({ cls := "ReflectMirrorModel", name := "declares", desc := "(I)Z" } : Jvm.MethodName)) ∈ lw_all := lw_g (lw_at lw_m9 177 rfl) rfl
theorem q2187 : (Jvm.Cond.code ({ cls := "ReflectMirrorModel", name := "declares", desc := "(I)Z" } : Jvm.MethodName) prog_30_method_7_code (2 : Nat) (Option.some Jvm.ClassFile.FieldType.boolean)) ∈ lw_all := lw_g (lw_at lw_m9 178 rfl) rfl
theorem q2189 : (Jvm.Cond.instanceMethod ({ cls := "ReflectMirrorModel", name := "about", desc := "(II)I" } : Jvm.MethodName)) ∈ lw_all := lw_g (lw_at lw_m9 180 rfl) rfl
theorem q2190 : (Jvm.Cond.selects "ReflectMirrorModel" ({ cls := "ReflectMirrorModel", name := "about", desc := "(II)I" } : Jvm.MethodName) ({ cls := "ReflectMirrorModel", name := "about", desc := "(II)I" } : Jvm.MethodName)) ∈ lw_all := lw_g (lw_at lw_m9 181 rfl) rfl
theorem q2191 : (Jvm.Cond.code ({ cls := "ReflectMirrorModel", name := "about", desc := "(II)I" } : Jvm.MethodName) prog_30_method_22_code (3 : Nat) (Option.some Jvm.ClassFile.FieldType.int)) ∈ lw_all := lw_g (lw_at lw_m9 182 rfl) rfl
theorem q2192 : (Jvm.Cond.constantLong "ReflectMirrorModel" (171 : Nat) (9 : Int64)) ∈ lw_all := lw_g (lw_at lw_m9 183 rfl) rfl
theorem q2193 : (Jvm.Cond.methodLink "ReflectMirrorModel" (173 : Nat) ({ cls := "ReflectMirrorModel", name := "isClosed", desc := "(I)Z" } : Jvm.MethodName)) ∈ lw_all := lw_g (lw_at lw_m9 184 rfl) rfl
theorem q2194 : (Jvm.Cond.privateMethod ({ cls := "ReflectMirrorModel", name := "isClosed", desc := "(I)Z" } : Jvm.MethodName)) ∈ lw_tbl := lw_at lw_m9 185 rfl
theorem q2195 : (Jvm.Cond.instanceMethod ({ cls := "ReflectMirrorModel", name := "isClosed", desc := "(I)Z" } : Jvm.MethodName)) ∈ lw_all := lw_g (lw_at lw_m9 186 rfl) rfl
theorem q2196 : (Jvm.Cond.code ({ cls := "ReflectMirrorModel", name := "isClosed", desc := "(I)Z" } : Jvm.MethodName) prog_30_method_21_code (4 : Nat) (Option.some Jvm.ClassFile.FieldType.boolean)) ∈ lw_all := lw_g (lw_at lw_m9 187 rfl) rfl
theorem q2197 : (Jvm.Cond.methodLink "ReflectMirrorModel" (156 : Nat) ({ cls := "ReflectMirrorModel", name := "isOne", desc := "(II)Z" } : Jvm.MethodName)) ∈ lw_all := lw_g (lw_at lw_m9 188 rfl) rfl
theorem q2198 : (Jvm.Cond.privateMethod ({ cls := "ReflectMirrorModel", name := "isOne", desc := "(II)Z" } : Jvm.MethodName)) ∈ lw_tbl := lw_at lw_m9 189 rfl
theorem q2199 : (Jvm.Cond.instanceMethod ({ cls := "ReflectMirrorModel", name := "isOne", desc := "(II)Z" } : Jvm.MethodName)) ∈ lw_all := lw_g (lw_at lw_m9 190 rfl) rfl
theorem q2200 : (Jvm.Cond.code ({ cls := "ReflectMirrorModel", name := "isOne", desc := "(II)Z" } : Jvm.MethodName) prog_30_method_8_code (3 : Nat) (Option.some Jvm.ClassFile.FieldType.boolean)) ∈ lw_all := lw_g (lw_at lw_m9 191 rfl) rfl
theorem q2202 : (Jvm.Cond.instanceMethod ({ cls := "ReflectMirrorModel", name := "ancestor", desc := "(II)I" } : Jvm.MethodName)) ∈ lw_all := lw_g (lw_at lw_m9 193 rfl) rfl
theorem q2203 : (Jvm.Cond.selects "ReflectMirrorModel" ({ cls := "ReflectMirrorModel", name := "ancestor", desc := "(II)I" } : Jvm.MethodName) ({ cls := "ReflectMirrorModel", name := "ancestor", desc := "(II)I" } : Jvm.MethodName)) ∈ lw_all := lw_g (lw_at lw_m9 194 rfl) rfl
theorem q2204 : (Jvm.Cond.code ({ cls := "ReflectMirrorModel", name := "ancestor", desc := "(II)I" } : Jvm.MethodName) prog_30_method_23_code (3 : Nat) (Option.some Jvm.ClassFile.FieldType.int)) ∈ lw_all := lw_g (lw_at lw_m9 195 rfl) rfl
theorem q2206 : (Jvm.Cond.instanceMethod ({ cls := "ReflectMirrorModel", name := "is", desc := "(II)I" } : Jvm.MethodName)) ∈ lw_all := lw_g (lw_at lw_m9 197 rfl) rfl
theorem q2207 : (Jvm.Cond.selects "ReflectMirrorModel" ({ cls := "ReflectMirrorModel", name := "is", desc := "(II)I" } : Jvm.MethodName) ({ cls := "ReflectMirrorModel", name := "is", desc := "(II)I" } : Jvm.MethodName)) ∈ lw_all := lw_g (lw_at lw_m9 198 rfl) rfl
theorem q2208 : (Jvm.Cond.code ({ cls := "ReflectMirrorModel", name := "is", desc := "(II)I" } : Jvm.MethodName) prog_30_method_24_code (3 : Nat) (Option.some Jvm.ClassFile.FieldType.int)) ∈ lw_all := lw_g (lw_at lw_m9 199 rfl) rfl
theorem q2209 : (Jvm.Cond.methodLink "ReflectMirrorModel" (176 : Nat) ({ cls := "ReflectMirrorModel", name := "goesInto", desc := "(II)Z" } : Jvm.MethodName)) ∈ lw_all := lw_g (lw_at lw_m9 200 rfl) rfl
theorem q2210 : (Jvm.Cond.privateMethod ({ cls := "ReflectMirrorModel", name := "goesInto", desc := "(II)Z" } : Jvm.MethodName)) ∈ lw_tbl := lw_at lw_m9 201 rfl
theorem q2211 : (Jvm.Cond.instanceMethod ({ cls := "ReflectMirrorModel", name := "goesInto", desc := "(II)Z" } : Jvm.MethodName)) ∈ lw_all := lw_g (lw_at lw_m9 202 rfl) rfl
theorem q2212 : (Jvm.Cond.code ({ cls := "ReflectMirrorModel", name := "goesInto", desc := "(II)Z" } : Jvm.MethodName) prog_30_method_15_code (3 : Nat) (Option.some Jvm.ClassFile.FieldType.boolean)) ∈ lw_all := lw_g (lw_at lw_m9 203 rfl) rfl
theorem q2213 : (Jvm.Cond.methodLink "ReflectMirrorModel" (153 : Nat) ({ cls := "ReflectMirrorModel", name := "widens", desc := "(II)Z" } : Jvm.MethodName)) ∈ lw_all := lw_g (lw_at lw_m9 204 rfl) rfl
theorem q2214 : (Jvm.Cond.static ({ cls := "ReflectMirrorModel", name := "widens", desc := "(II)Z" } : Jvm.MethodName)) ∈ lw_all := lw_g (lw_at lw_m9 205 rfl) rfl
theorem q2215 : (Jvm.Cond.code ({ cls := "ReflectMirrorModel", name := "widens", desc := "(II)Z" } : Jvm.MethodName) prog_30_method_14_code (2 : Nat) (Option.some Jvm.ClassFile.FieldType.boolean)) ∈ lw_all := lw_g (lw_at lw_m9 206 rfl) rfl
theorem q2217 : (Jvm.Cond.instanceMethod ({ cls := "ReflectMirrorModel", name := "meet", desc := "(II)I" } : Jvm.MethodName)) ∈ lw_all := lw_g (lw_at lw_m9 208 rfl) rfl
theorem q2218 : (Jvm.Cond.selects "ReflectMirrorModel" ({ cls := "ReflectMirrorModel", name := "meet", desc := "(II)I" } : Jvm.MethodName) ({ cls := "ReflectMirrorModel", name := "meet", desc := "(II)I" } : Jvm.MethodName)) ∈ lw_all := lw_g (lw_at lw_m9 209 rfl) rfl
theorem q2219 : (Jvm.Cond.code ({ cls := "ReflectMirrorModel", name := "meet", desc := "(II)I" } : Jvm.MethodName) prog_30_method_25_code (4 : Nat) (Option.some Jvm.ClassFile.FieldType.int)) ∈ lw_all := lw_g (lw_at lw_m9 210 rfl) rfl
theorem q2220 : (Jvm.Cond.methodLink "ReflectMirrorModel" (179 : Nat) ({ cls := "ReflectMirrorModel", name := "isReference", desc := "(I)Z" } : Jvm.MethodName)) ∈ lw_all := lw_g (lw_at lw_m9 211 rfl) rfl
theorem q2221 : (Jvm.Cond.privateMethod ({ cls := "ReflectMirrorModel", name := "isReference", desc := "(I)Z" } : Jvm.MethodName)) ∈ lw_tbl := lw_at lw_m9 212 rfl
theorem q2222 : (Jvm.Cond.instanceMethod ({ cls := "ReflectMirrorModel", name := "isReference", desc := "(I)Z" } : Jvm.MethodName)) ∈ lw_all := lw_g (lw_at lw_m9 213 rfl) rfl
theorem q2223 : (Jvm.Cond.code ({ cls := "ReflectMirrorModel", name := "isReference", desc := "(I)Z" } : Jvm.MethodName) prog_30_method_5_code (2 : Nat) (Option.some Jvm.ClassFile.FieldType.boolean)) ∈ lw_all := lw_g (lw_at lw_m9 214 rfl) rfl
theorem q2225 : (Jvm.Cond.instanceMethod ({ cls := "ReflectMirrorModel", name := "letter", desc := "(II)I" } : Jvm.MethodName)) ∈ lw_all := lw_g (lw_at lw_m9 216 rfl) rfl
theorem q2226 : (Jvm.Cond.selects "ReflectMirrorModel" ({ cls := "ReflectMirrorModel", name := "letter", desc := "(II)I" } : Jvm.MethodName) ({ cls := "ReflectMirrorModel", name := "letter", desc := "(II)I" } : Jvm.MethodName)) ∈ lw_all := lw_g (lw_at lw_m9 217 rfl) rfl
theorem q2227 : (Jvm.Cond.code ({ cls := "ReflectMirrorModel", name := "letter", desc := "(II)I" } : Jvm.MethodName) prog_30_method_26_code (8 : Nat) (Option.some Jvm.ClassFile.FieldType.int)) ∈ lw_all := lw_g (lw_at lw_m9 218 rfl) rfl
theorem q2229 : (Jvm.Cond.instanceMethod ({ cls := "ReflectMirrorModel", name := "field", desc := "(IIII)I" } : Jvm.MethodName)) ∈ lw_all := lw_g (lw_at lw_m9 220 rfl) rfl
theorem q2230 : (Jvm.Cond.selects "ReflectMirrorModel" ({ cls := "ReflectMirrorModel", name := "field", desc := "(IIII)I" } : Jvm.MethodName) ({ cls := "ReflectMirrorModel", name := "field", desc := "(IIII)I" } : Jvm.MethodName)) ∈ lw_all := lw_g (lw_at lw_m9 221 rfl) rfl
theorem q2231 : (Jvm.Cond.code ({ cls := "ReflectMirrorModel", name := "field", desc := "(IIII)I" } : Jvm.MethodName) prog_30_method_38_code (5 : Nat) (Option.some Jvm.ClassFile.FieldType.int)) ∈ lw_all := lw_g (lw_at lw_m9 222 rfl) rfl
theorem q2232 : (Jvm.Cond.constantLong "ReflectMirrorModel" (201 : Nat) (19 : Int64)) ∈ lw_all := lw_g (lw_at lw_m9 223 rfl) rfl
theorem q2233 : (Jvm.Cond.constantLong "ReflectMirrorModel" (203 : Nat) (15 : Int64)) ∈ lw_all := lw_g (lw_at lw_m9 224 rfl) rfl
theorem q2234 : (Jvm.Cond.methodLink "ReflectMirrorModel" (205 : Nat) ({ cls := "ReflectMirrorModel", name := "ownField", desc := "(II)I" } : Jvm.MethodName)) ∈ lw_all := lw_g (lw_at lw_m9 225 rfl) rfl
theorem q2235 : (Jvm.Cond.privateMethod ({ cls := "ReflectMirrorModel", name := "ownField", desc := "(II)I" } : Jvm.MethodName)) ∈ lw_tbl := lw_at lw_m9 226 rfl
theorem q2236 : (Jvm.Cond.instanceMethod ({ cls := "ReflectMirrorModel", name := "ownField", desc := "(II)I" } : Jvm.MethodName)) ∈ lw_all := lw_g (lw_at lw_m9 227 rfl) rfl
theorem q2237 : (Jvm.Cond.code ({ cls := "ReflectMirrorModel", name := "ownField", desc := "(II)I" } : Jvm.MethodName) prog_30_method_33_code (5 : Nat) (Option.some Jvm.ClassFile.FieldType.int)) ∈ lw_all := lw_g (lw_at lw_m9 228 rfl) rfl
theorem q2238 : (Jvm.Cond.methodLink "ReflectMirrorModel" (212 : Nat) ({ cls := "ReflectMirrorModel", name := "declare", desc := "(IIIIZ)I" } : Jvm.MethodName)) ∈ lw_all := lw_g (lw_at lw_m9 229 rfl) rfl
theorem q2239 : (Jvm.Cond.privateMethod ({ cls := "ReflectMirrorModel", name := "declare", desc := "(IIIIZ)I" } : Jvm.MethodName)) ∈ lw_tbl := lw_at lw_m9 230 rfl
theorem q2240 : (Jvm.Cond.instanceMethod ({ cls := "ReflectMirrorModel", name := "declare", desc := "(IIIIZ)I" } : Jvm.MethodName)) ∈ lw_all := lw_g (lw_at lw_m9 231 rfl) rfl
theorem q2241 : (Jvm.Cond.code ({ cls := "ReflectMirrorModel", name := "declare", desc := "(IIIIZ)I" } : Jvm.MethodName) prog_30_method_36_code (7 : Nat) (Option.some Jvm.ClassFile.FieldType.int)) ∈ lw_all := lw_g (lw_at lw_m9 232 rfl) rfl
theorem q2242 : (Jvm.Cond.methodLink "ReflectMirrorModel" (195 : Nat) ({ cls := "ReflectMirrorModel", name := "none", desc := "(I)J" } : Jvm.MethodName)) ∈ lw_all := lw_g (lw_at lw_m9 233 rfl) rfl
theorem q2243 : (Jvm.Cond.static ({ cls := "ReflectMirrorModel", name := "none", desc := "(I)J" } : Jvm.MethodName)) ∈ lw_all := lw_g (lw_at lw_m9 234 rfl) rfl
theorem q2244 : (Jvm.Cond.code ({ cls := "ReflectMirrorModel", name := "none", desc := "(I)J" } : Jvm.MethodName) prog_30_method_37_code (1 : Nat) (Option.some Jvm.ClassFile.FieldType.long)) ∈ lw_all := lw_g (lw_at lw_m9 235 rfl) rfl
theorem q2245 : (Jvm.Cond.constantLong "ReflectMirrorModel" (199 : Nat) (-1 : Int64)) ∈ lw_all := lw_g (lw_at lw_m9 236 rfl) rfl
theorem q2247 : (Jvm.Cond.instanceMethod ({ cls := "ReflectMirrorModel", name := "method", desc := "(IIIIIIII)I" } : Jvm.MethodName)) ∈ lw_all := lw_g (lw_at lw_m9 238 rfl) rfl
theorem q2248 : (Jvm.Cond.selects "ReflectMirrorModel" ({ cls := "ReflectMirrorModel", name := "method", desc := "(IIIIIIII)I" } : Jvm.MethodName) ({ cls := "ReflectMirrorModel", name := "method", desc := "(IIIIIIII)I" } : Jvm.MethodName)) ∈ lw_all := lw_g (lw_at lw_m9 239 rfl) rfl
theorem q2249 : (Jvm.Cond.code ({ cls := "ReflectMirrorModel", name := "method", desc := "(IIIIIIII)I" } : Jvm.MethodName) prog_30_method_40_code (12 : Nat) (Option.some Jvm.ClassFile.FieldType.int)) ∈ lw_all := lw_g (lw_at lw_m10 0 rfl) rfl
theorem q2250 : (Jvm.Cond.methodLink "ReflectMirrorModel" (218 : Nat) ({ cls := "ReflectMirrorModel", name := "mayBe", desc := "(II)Z" } : Jvm.MethodName)) ∈ lw_all := lw_g (lw_at lw_m10 1 rfl) rfl
theorem q2251 : (Jvm.Cond.privateMethod ({ cls := "ReflectMirrorModel", name := "mayBe", desc := "(II)Z" } : Jvm.MethodName)) ∈ lw_tbl := lw_at lw_m10 2 rfl
theorem q2252 : (Jvm.Cond.instanceMethod ({ cls := "ReflectMirrorModel", name := "mayBe", desc := "(II)Z" } : Jvm.MethodName)) ∈ lw_all := lw_g (lw_at lw_m10 3 rfl) rfl
theorem q2253 : (Jvm.Cond.code ({ cls := "ReflectMirrorModel", name := "mayBe", desc := "(II)Z" } : Jvm.MethodName) prog_30_method_39_code (4 : Nat) (Option.some Jvm.ClassFile.FieldType.boolean)) ∈ lw_all := lw_g (lw_at lw_m10 4 rfl) rfl
theorem q2254 : (Jvm.Cond.constantLong "ReflectMirrorModel" (216 : Nat) (31 : Int64)) ∈ lw_all := lw_g (lw_at lw_m10 5 rfl) rfl
theorem q2256 : (Jvm.Cond.instanceMethod ({ cls := "ReflectMirrorModel", name := "overrides", desc := "(II)I" } : Jvm.MethodName)) ∈ lw_all := lw_g (lw_at lw_m10 7 rfl) rfl
theorem q2257 : (Jvm.Cond.selects "ReflectMirrorModel" ({ cls := "ReflectMirrorModel", name := "overrides", desc := "(II)I" } : Jvm.MethodName) ({ cls := "ReflectMirrorModel", name := "overrides", desc := "(II)I" } : Jvm.MethodName)) ∈ lw_all := lw_g (lw_at lw_m10 8 rfl) rfl
theorem q2258 : (Jvm.Cond.code ({ cls := "ReflectMirrorModel", name := "overrides", desc := "(II)I" } : Jvm.MethodName) prog_30_method_42_code (3 : Nat) (Option.some Jvm.ClassFile.FieldType.int)) ∈ lw_all := lw_g (lw_at lw_m10 9 rfl) rfl
theorem q2259 : (Jvm.Cond.methodLink "ReflectMirrorModel" (185 : Nat) ({ cls := "ReflectMirrorModel", name := "isMember", desc := "(I)Z" } : Jvm.MethodName)) ∈ lw_all := lw_g (lw_at lw_m10 10 rfl) rfl
theorem q2260 : (Jvm.Cond.privateMethod ({ cls := "ReflectMirrorModel", name := "isMember", desc := "(I)Z" } : Jvm.MethodName)) ∈ lw_tbl := lw_at lw_m10 11 rfl
theorem q2261 : (Jvm.Cond.instanceMethod ({ cls := "ReflectMirrorModel", name := "isMember", desc := "(I)Z" } : Jvm.MethodName)) ∈ lw_all := lw_g (lw_at lw_m10 12 rfl) rfl
theorem q2262 : (Jvm.Cond.code ({ cls := "ReflectMirrorModel", name := "isMember", desc := "(I)Z" } : Jvm.MethodName) prog_30_method_27_code (2 : Nat) (Option.some Jvm.ClassFile.FieldType.boolean)) ∈ lw_all := lw_g (lw_at lw_m10 13 rfl) rfl
theorem q2263 : (Jvm.Cond.methodLink "ReflectMirrorModel" (227 : Nat) ({ cls := "ReflectMirrorModel", name := "overridesIt", desc := "(II)Z" } : Jvm.MethodName)) ∈ lw_all := lw_g (lw_at lw_m10 14 rfl) rfl
theorem q2264 : (Jvm.Cond.privateMethod ({ cls := "ReflectMirrorModel", name := "overridesIt", desc := "(II)Z" } : Jvm.MethodName)) ∈ lw_tbl := lw_at lw_m10 15 rfl
theorem q2265 : (Jvm.Cond.instanceMethod ({ cls := "ReflectMirrorModel", name := "overridesIt", desc := "(II)Z" } : Jvm.MethodName)) ∈ lw_all := lw_g (lw_at lw_m10 16 rfl) rfl
theorem q2266 : (Jvm.Cond.code ({ cls := "ReflectMirrorModel", name := "overridesIt", desc := "(II)Z" } : Jvm.MethodName) prog_30_method_41_code (5 : Nat) (Option.some Jvm.ClassFile.FieldType.boolean)) ∈ lw_all := lw_g (lw_at lw_m10 17 rfl) rfl
theorem q2267 : (Jvm.Cond.methodLink "ReflectMirrorModel" (192 : Nat) ({ cls := "ReflectMirrorModel", name := "areLike", desc := "(II)Z" } : Jvm.MethodName)) ∈ lw_all := lw_g (lw_at lw_m10 18 rfl) rfl
theorem q2268 : (Jvm.Cond.privateMethod ({ cls := "ReflectMirrorModel", name := "areLike", desc := "(II)Z" } : Jvm.MethodName)) ∈ lw_tbl := lw_at lw_m10 19 rfl
theorem q2269 : (Jvm.Cond.instanceMethod ({ cls := "ReflectMirrorModel", name := "areLike", desc := "(II)Z" } : Jvm.MethodName)) ∈ lw_all := lw_g (lw_at lw_m10 20 rfl) rfl
theorem q2270 : (Jvm.Cond.code ({ cls := "ReflectMirrorModel", name := "areLike", desc := "(II)Z" } : Jvm.MethodName) prog_30_method_34_code (5 : Nat) (Option.some Jvm.ClassFile.FieldType.boolean)) ∈ lw_all := lw_g (lw_at lw_m10 21 rfl) rfl
theorem q2271 : (Jvm.Cond.methodLink "ReflectMirrorModel" (221 : Nat) ({ cls := "ReflectMirrorModel", name := "has", desc := "(II)Z" } : Jvm.MethodName)) ∈ lw_all := lw_g (lw_at lw_m10 22 rfl) rfl
theorem q2272 : (Jvm.Cond.privateMethod ({ cls := "ReflectMirrorModel", name := "has", desc := "(II)Z" } : Jvm.MethodName)) ∈ lw_tbl := lw_at lw_m10 23 rfl
theorem q2273 : (Jvm.Cond.instanceMethod ({ cls := "ReflectMirrorModel", name := "has", desc := "(II)Z" } : Jvm.MethodName)) ∈ lw_all := lw_g (lw_at lw_m10 24 rfl) rfl
theorem q2274 : (Jvm.Cond.code ({ cls := "ReflectMirrorModel", name := "has", desc := "(II)Z" } : Jvm.MethodName) prog_30_method_30_code (3 : Nat) (Option.some Jvm.ClassFile.FieldType.boolean)) ∈ lw_all := lw_g (lw_at lw_m10 25 rfl) rfl
theorem q2275 : (Jvm.Cond.methodLink "ReflectMirrorModel" (224 : Nat) ({ cls := "ReflectMirrorModel", name := "isPrivate", desc := "(I)Z" } : Jvm.MethodName)) ∈ lw_all := lw_g (lw_at lw_m10 26 rfl) rfl
theorem q2276 : (Jvm.Cond.privateMethod ({ cls := "ReflectMirrorModel", name := "isPrivate", desc := "(I)Z" } : Jvm.MethodName)) ∈ lw_tbl := lw_at lw_m10 27 rfl
theorem q2277 : (Jvm.Cond.instanceMethod ({ cls := "ReflectMirrorModel", name := "isPrivate", desc := "(I)Z" } : Jvm.MethodName)) ∈ lw_all := lw_g (lw_at lw_m10 28 rfl) rfl
theorem q2278 : (Jvm.Cond.code ({ cls := "ReflectMirrorModel", name := "isPrivate", desc := "(I)Z" } : Jvm.MethodName) prog_30_method_32_code (2 : Nat) (Option.some Jvm.ClassFile.FieldType.boolean)) ∈ lw_all := lw_g (lw_at lw_m10 29 rfl) rfl
theorem q2279 : (Jvm.Cond.methodLink "ReflectMirrorModel" (188 : Nat) ({ cls := "ReflectMirrorModel", name := "who", desc := "(I)I" } : Jvm.MethodName)) ∈ lw_all := lw_g (lw_at lw_m10 30 rfl) rfl
theorem q2280 : (Jvm.Cond.privateMethod ({ cls := "ReflectMirrorModel", name := "who", desc := "(I)I" } : Jvm.MethodName)) ∈ lw_tbl := lw_at lw_m10 31 rfl
theorem q2281 : (Jvm.Cond.instanceMethod ({ cls := "ReflectMirrorModel", name := "who", desc := "(I)I" } : Jvm.MethodName)) ∈ lw_all := lw_g (lw_at lw_m10 32 rfl) rfl
theorem q2282 : (Jvm.Cond.code ({ cls := "ReflectMirrorModel", name := "who", desc := "(I)I" } : Jvm.MethodName) prog_30_method_31_code (2 : Nat) (Option.some Jvm.ClassFile.FieldType.int)) ∈ lw_all := lw_g (lw_at lw_m10 33 rfl) rfl
theorem q2284 : (Jvm.Cond.instanceMethod ({ cls := "ReflectMirrorModel", name := "findField", desc := "(III)I" } : Jvm.MethodName)) ∈ lw_all := lw_g (lw_at lw_m10 35 rfl) rfl
theorem q2285 : (Jvm.Cond.selects "ReflectMirrorModel" ({ cls := "ReflectMirrorModel", name := "findField", desc := "(III)I" } : Jvm.MethodName) ({ cls := "ReflectMirrorModel", name := "findField", desc := "(III)I" } : Jvm.MethodName)) ∈ lw_all := lw_g (lw_at lw_m10 36 rfl) rfl
theorem q2286 : (Jvm.Cond.code ({ cls := "ReflectMirrorModel", name := "findField", desc := "(III)I" } : Jvm.MethodName) prog_30_method_46_code (6 : Nat) (Option.some Jvm.ClassFile.FieldType.int)) ∈ lw_all := lw_g (lw_at lw_m10 37 rfl) rfl
theorem q2287 : (Jvm.Cond.constantLong "ReflectMirrorModel" (233 : Nat) (2 : Int64)) ∈ lw_all := lw_g (lw_at lw_m10 38 rfl) rfl
theorem q2288 : (Jvm.Cond.methodLink "ReflectMirrorModel" (235 : Nat) ({ cls := "ReflectMirrorModel", name := "beginAt", desc := "(I)V" } : Jvm.MethodName)) ∈ lw_all := lw_g (lw_at lw_m10 39 rfl) rfl
theorem q2289 : (Jvm.Cond.privateMethod ({ cls := "ReflectMirrorModel", name := "beginAt", desc := "(I)V" } : Jvm.MethodName)) ∈ lw_tbl := lw_at lw_m10 40 rfl
theorem q2290 : (Jvm.Cond.instanceMethod ({ cls := "ReflectMirrorModel", name := "beginAt", desc := "(I)V" } : Jvm.MethodName)) ∈ lw_all := lw_g (lw_at lw_m10 41 rfl) rfl
theorem q2291 : (Jvm.Cond.code ({ cls := "ReflectMirrorModel", name := "beginAt", desc := "(I)V" } : Jvm.MethodName) prog_30_method_43_code (3 : Nat) (Option.none : Option Jvm.ClassFile.FieldType)) ∈ lw_all := lw_g (lw_at lw_m10 42 rfl) rfl
theorem q2292 : (Jvm.Cond.methodLink "ReflectMirrorModel" (239 : Nat) ({ cls := "ReflectMirrorModel", name := "nextType", desc := "()I" } : Jvm.MethodName)) ∈ lw_all := lw_g (lw_at lw_m10 43 rfl) rfl
theorem q2293 : (Jvm.Cond.privateMethod ({ cls := "ReflectMirrorModel", name := "nextType", desc := "()I" } : Jvm.MethodName)) ∈ lw_tbl := lw_at lw_m10 44 rfl
theorem q2294 : (Jvm.Cond.instanceMethod ({ cls := "ReflectMirrorModel", name := "nextType", desc := "()I" } : Jvm.MethodName)) ∈ lw_all := lw_g (lw_at lw_m10 45 rfl) rfl
theorem q2295 : (Jvm.Cond.code ({ cls := "ReflectMirrorModel", name := "nextType", desc := "()I" } : Jvm.MethodName) prog_30_method_44_code (3 : Nat) (Option.some Jvm.ClassFile.FieldType.int)) ∈ lw_all := lw_g (lw_at lw_m10 46 rfl) rfl
theorem q2296 : (Jvm.Cond.methodLink "ReflectMirrorModel" (243 : Nat) ({ cls := "ReflectMirrorModel", name := "layAhead", desc := "(IZ)V" } : Jvm.MethodName)) ∈ lw_all := lw_g (lw_at lw_m10 47 rfl) rfl
theorem q2297 : (Jvm.Cond.privateMethod ({ cls := "ReflectMirrorModel", name := "layAhead", desc := "(IZ)V" } : Jvm.MethodName)) ∈ lw_tbl := lw_at lw_m10 48 rfl
theorem q2298 : (Jvm.Cond.instanceMethod ({ cls := "ReflectMirrorModel", name := "layAhead", desc := "(IZ)V" } : Jvm.MethodName)) ∈ lw_all := lw_g (lw_at lw_m10 49 rfl) rfl
theorem q2299 : (Jvm.Cond.code ({ cls := "ReflectMirrorModel", name := "layAhead", desc := "(IZ)V" } : Jvm.MethodName) prog_30_method_45_code (5 : Nat) (Option.none : Option Jvm.ClassFile.FieldType)) ∈ lw_all := lw_g (lw_at lw_m10 50 rfl) rfl
theorem q2301 : (Jvm.Cond.instanceMethod ({ cls := "ReflectMirrorModel", name := "findMethod", desc := "(III)I" } : Jvm.MethodName)) ∈ lw_all := lw_g (lw_at lw_m10 52 rfl) rfl
theorem q2302 : (Jvm.Cond.selects "ReflectMirrorModel" ({ cls := "ReflectMirrorModel", name := "findMethod", desc := "(III)I" } : Jvm.MethodName) ({ cls := "ReflectMirrorModel", name := "findMethod", desc := "(III)I" } : Jvm.MethodName)) ∈ lw_all := lw_g (lw_at lw_m10 53 rfl) rfl
theorem q2303 : (Jvm.Cond.code ({ cls := "ReflectMirrorModel", name := "findMethod", desc := "(III)I" } : Jvm.MethodName) prog_30_method_48_code (4 : Nat) (Option.some Jvm.ClassFile.FieldType.int)) ∈ lw_all := lw_g (lw_at lw_m10 54 rfl) rfl
theorem q2304 : (Jvm.Cond.methodLink "ReflectMirrorModel" (250 : Nat) ({ cls := "ReflectMirrorModel", name := "isMethod", desc := "(I)Z" } : Jvm.MethodName)) ∈ lw_all := lw_g (lw_at lw_m10 55 rfl) rfl
theorem q2305 : (Jvm.Cond.privateMethod ({ cls := "ReflectMirrorModel", name := "isMethod", desc := "(I)Z" } : Jvm.MethodName)) ∈ lw_tbl := lw_at lw_m10 56 rfl
theorem q2306 : (Jvm.Cond.instanceMethod ({ cls := "ReflectMirrorModel", name := "isMethod", desc := "(I)Z" } : Jvm.MethodName)) ∈ lw_all := lw_g (lw_at lw_m10 57 rfl) rfl
theorem q2307 : (Jvm.Cond.code ({ cls := "ReflectMirrorModel", name := "isMethod", desc := "(I)Z" } : Jvm.MethodName) prog_30_method_28_code (2 : Nat) (Option.some Jvm.ClassFile.FieldType.boolean)) ∈ lw_all := lw_g (lw_at lw_m10 58 rfl) rfl
theorem q2308 : (Jvm.Cond.methodLink "ReflectMirrorModel" (253 : Nat) ({ cls := "ReflectMirrorModel", name := "found", desc := "(III)I" } : Jvm.MethodName)) ∈ lw_all := lw_g (lw_at lw_m10 59 rfl) rfl
theorem q2309 : (Jvm.Cond.privateMethod ({ cls := "ReflectMirrorModel", name := "found", desc := "(III)I" } : Jvm.MethodName)) ∈ lw_tbl := lw_at lw_m10 60 rfl
theorem q2310 : (Jvm.Cond.instanceMethod ({ cls := "ReflectMirrorModel", name := "found", desc := "(III)I" } : Jvm.MethodName)) ∈ lw_all := lw_g (lw_at lw_m10 61 rfl) rfl
theorem q2311 : (Jvm.Cond.code ({ cls := "ReflectMirrorModel", name := "found", desc := "(III)I" } : Jvm.MethodName) prog_30_method_47_code (6 : Nat) (Option.some Jvm.ClassFile.FieldType.int)) ∈ lw_all := lw_g (lw_at lw_m10 62 rfl) rfl
theorem q2312 : (Jvm.Cond.methodLink "ReflectMirrorModel" (247 : Nat) ({ cls := "ReflectMirrorModel", name := "ownLike", desc := "(II)I" } : Jvm.MethodName)) ∈ lw_all := lw_g (lw_at lw_m10 63 rfl) rfl
theorem q2313 : (Jvm.Cond.privateMethod ({ cls := "ReflectMirrorModel", name := "ownLike", desc := "(II)I" } : Jvm.MethodName)) ∈ lw_tbl := lw_at lw_m10 64 rfl
theorem q2314 : (Jvm.Cond.instanceMethod ({ cls := "ReflectMirrorModel", name := "ownLike", desc := "(II)I" } : Jvm.MethodName)) ∈ lw_all := lw_g (lw_at lw_m10 65 rfl) rfl
theorem q2315 : (Jvm.Cond.code ({ cls := "ReflectMirrorModel", name := "ownLike", desc := "(II)I" } : Jvm.MethodName) prog_30_method_35_code (5 : Nat) (Option.some Jvm.ClassFile.FieldType.int)) ∈ lw_all := lw_g (lw_at lw_m10 66 rfl) rfl
theorem q2317 : (Jvm.Cond.instanceMethod ({ cls := "ReflectMirrorModel", name := "inForce", desc := "(II)I" } : Jvm.MethodName)) ∈ lw_all := lw_g (lw_at lw_m10 68 rfl) rfl
theorem q2318 : (Jvm.Cond.selects "ReflectMirrorModel" ({ cls := "ReflectMirrorModel", name := "inForce", desc := "(II)I" } : Jvm.MethodName) ({ cls := "ReflectMirrorModel", name := "inForce", desc := "(II)I" } : Jvm.MethodName)) ∈ lw_all := lw_g (lw_at lw_m10 69 rfl) rfl
theorem q2319 : (Jvm.Cond.code ({ cls := "ReflectMirrorModel", name := "inForce", desc := "(II)I" } : Jvm.MethodName) prog_30_method_50_code (3 : Nat) (Option.some Jvm.ClassFile.FieldType.int)) ∈ lw_all := lw_g (lw_at lw_m10 70 rfl) rfl
theorem q2320 : (Jvm.Cond.methodLink "ReflectMirrorModel" (256 : Nat) ({ cls := "ReflectMirrorModel", name := "force", desc := "(II)I" } : Jvm.MethodName)) ∈ lw_all := lw_g (lw_at lw_m10 71 rfl) rfl
theorem q2321 : (Jvm.Cond.privateMethod ({ cls := "ReflectMirrorModel", name := "force", desc := "(II)I" } : Jvm.MethodName)) ∈ lw_tbl := lw_at lw_m10 72 rfl
theorem q2322 : (Jvm.Cond.instanceMethod ({ cls := "ReflectMirrorModel", name := "force", desc := "(II)I" } : Jvm.MethodName)) ∈ lw_all := lw_g (lw_at lw_m10 73 rfl) rfl
theorem q2323 : (Jvm.Cond.code ({ cls := "ReflectMirrorModel", name := "force", desc := "(II)I" } : Jvm.MethodName) prog_30_method_49_code (7 : Nat) (Option.some Jvm.ClassFile.FieldType.int)) ∈ lw_all := lw_g (lw_at lw_m10 74 rfl) rfl
theorem q2325 : (Jvm.Cond.instanceMethod ({ cls := "ReflectMirrorModel", name := "member", desc := "(II)I" } : Jvm.MethodName)) ∈ lw_all := lw_g (lw_at lw_m10 76 rfl) rfl
theorem q2326 : (Jvm.Cond.selects "ReflectMirrorModel" ({ cls := "ReflectMirrorModel", name := "member", desc := "(II)I" } : Jvm.MethodName) ({ cls := "ReflectMirrorModel", name := "member", desc := "(II)I" } : Jvm.MethodName)) ∈ lw_all := lw_g (lw_at lw_m10 77 rfl) rfl
theorem q2327 : (Jvm.Cond.code ({ cls := "ReflectMirrorModel", name := "member", desc := "(II)I" } : Jvm.MethodName) prog_30_method_51_code (3 : Nat) (Option.some Jvm.ClassFile.FieldType.int)) ∈ lw_all := lw_g (lw_at lw_m10 78 rfl) rfl
theorem q2328 : (Jvm.Cond.constantLong "ReflectMirrorModel" (259 : Nat) (10 : Int64)) ∈ lw_all := lw_g (lw_at lw_m10 79 rfl) rfl
theorem q2330 : (Jvm.Cond.instanceMethod ({ cls := "ReflectMirrorModel", name := "declared", desc := "(II)I" } : Jvm.MethodName)) ∈ lw_all := lw_g (lw_at lw_m10 81 rfl) rfl
theorem q2331 : (Jvm.Cond.selects "ReflectMirrorModel" ({ cls := "ReflectMirrorModel", name := "declared", desc := "(II)I" } : Jvm.MethodName) ({ cls := "ReflectMirrorModel", name := "declared", desc := "(II)I" } : Jvm.MethodName)) ∈ lw_all := lw_g (lw_at lw_m10 82 rfl) rfl
theorem q2332 : (Jvm.Cond.code ({ cls := "ReflectMirrorModel", name := "declared", desc := "(II)I" } : Jvm.MethodName) prog_30_method_52_code (5 : Nat) (Option.some Jvm.ClassFile.FieldType.int)) ∈ lw_all := lw_g (lw_at lw_m10 83 rfl) rfl
theorem q2334 : (Jvm.Cond.instanceMethod ({ cls := "ReflectMirrorModel", name := "open", desc := "(IZ)I" } : Jvm.MethodName)) ∈ lw_all := lw_g (lw_at lw_m10 85 rfl) rfl
theorem q2335 : (Jvm.Cond.selects "ReflectMirrorModel" ({ cls := "ReflectMirrorModel", name := "open", desc := "(IZ)I" } : Jvm.MethodName) ({ cls := "ReflectMirrorModel", name := "open", desc := "(IZ)I" } : Jvm.MethodName)) ∈ lw_all := lw_g (lw_at lw_m10 86 rfl) rfl
theorem q2336 : (Jvm.Cond.code ({ cls := "ReflectMirrorModel", name := "open", desc := "(IZ)I" } : Jvm.MethodName) prog_30_method_53_code (4 : Nat) (Option.some Jvm.ClassFile.FieldType.int)) ∈ lw_all := lw_g (lw_at lw_m10 87 rfl) rfl
theorem q2338 : (Jvm.Cond.instanceMethod ({ cls := "ReflectMirrorModel", name := "caller", desc := "(I)I" } : Jvm.MethodName)) ∈ lw_all := lw_g (lw_at lw_m10 89 rfl) rfl
theorem q2339 : (Jvm.Cond.selects "ReflectMirrorModel" ({ cls := "ReflectMirrorModel", name := "caller", desc := "(I)I" } : Jvm.MethodName) ({ cls := "ReflectMirrorModel", name := "caller", desc := "(I)I" } : Jvm.MethodName)) ∈ lw_all := lw_g (lw_at lw_m10 90 rfl) rfl
theorem q2340 : (Jvm.Cond.code ({ cls := "ReflectMirrorModel", name := "caller", desc := "(I)I" } : Jvm.MethodName) prog_30_method_54_code (3 : Nat) (Option.some Jvm.ClassFile.FieldType.int)) ∈ lw_all := lw_g (lw_at lw_m10 91 rfl) rfl
theorem q2342 : (Jvm.Cond.instanceMethod ({ cls := "ReflectMirrorModel", name := "may", desc := "(II)I" } : Jvm.MethodName)) ∈ lw_all := lw_g (lw_at lw_m10 93 rfl) rfl
theorem q2343 : (Jvm.Cond.selects "ReflectMirrorModel" ({ cls := "ReflectMirrorModel", name := "may", desc := "(II)I" } : Jvm.MethodName) ({ cls := "ReflectMirrorModel", name := "may", desc := "(II)I" } : Jvm.MethodName)) ∈ lw_all := lw_g (lw_at lw_m10 94 rfl) rfl
theorem q2344 : (Jvm.Cond.code ({ cls := "ReflectMirrorModel", name := "may", desc := "(II)I" } : Jvm.MethodName) prog_30_method_58_code (3 : Nat) (Option.some Jvm.ClassFile.FieldType.int)) ∈ lw_all := lw_g (lw_at lw_m10 95 rfl) rfl
theorem q2345 : (Jvm.Cond.methodLink "ReflectMirrorModel" (264 : Nat) ({ cls := "ReflectMirrorModel", name := "isThingOrNone", desc := "(I)Z" } : Jvm.MethodName)) ∈ lw_all := lw_g (lw_at lw_m10 96 rfl) rfl
theorem q2346 : (Jvm.Cond.privateMethod ({ cls := "ReflectMirrorModel", name := "isThingOrNone", desc := "(I)Z" } : Jvm.MethodName)) ∈ lw_tbl := lw_at lw_m10 97 rfl
theorem q2347 : (Jvm.Cond.instanceMethod ({ cls := "ReflectMirrorModel", name := "isThingOrNone", desc := "(I)Z" } : Jvm.MethodName)) ∈ lw_all := lw_g (lw_at lw_m10 98 rfl) rfl
theorem q2348 : (Jvm.Cond.code ({ cls := "ReflectMirrorModel", name := "isThingOrNone", desc := "(I)Z" } : Jvm.MethodName) prog_30_method_56_code (2 : Nat) (Option.some Jvm.ClassFile.FieldType.boolean)) ∈ lw_all := lw_g (lw_at lw_m10 99 rfl) rfl
theorem q2349 : (Jvm.Cond.methodLink "ReflectMirrorModel" (261 : Nat) ({ cls := "ReflectMirrorModel", name := "isThing", desc := "(I)Z" } : Jvm.MethodName)) ∈ lw_all := lw_g (lw_at lw_m10 100 rfl) rfl
theorem q2350 : (Jvm.Cond.privateMethod ({ cls := "ReflectMirrorModel", name := "isThing", desc := "(I)Z" } : Jvm.MethodName)) ∈ lw_tbl := lw_at lw_m10 101 rfl
theorem q2351 : (Jvm.Cond.instanceMethod ({ cls := "ReflectMirrorModel", name := "isThing", desc := "(I)Z" } : Jvm.MethodName)) ∈ lw_all := lw_g (lw_at lw_m10 102 rfl) rfl
theorem q2352 : (Jvm.Cond.code ({ cls := "ReflectMirrorModel", name := "isThing", desc := "(I)Z" } : Jvm.MethodName) prog_30_method_55_code (2 : Nat) (Option.some Jvm.ClassFile.FieldType.boolean)) ∈ lw_all := lw_g (lw_at lw_m10 103 rfl) rfl
theorem q2353 : (Jvm.Cond.methodLink "ReflectMirrorModel" (267 : Nat) ({ cls := "ReflectMirrorModel", name := "mayCaller", desc := "(II)Z" } : Jvm.MethodName)) ∈ lw_all := lw_g (lw_at lw_m10 104 rfl) rfl
theorem q2354 : (Jvm.Cond.privateMethod ({ cls := "ReflectMirrorModel", name := "mayCaller", desc := "(II)Z" } : Jvm.MethodName)) ∈ lw_tbl := lw_at lw_m10 105 rfl
theorem q2355 : (Jvm.Cond.instanceMethod ({ cls := "ReflectMirrorModel", name := "mayCaller", desc := "(II)Z" } : Jvm.MethodName)) ∈ lw_all := lw_g (lw_at lw_m10 106 rfl) rfl
theorem q2356 : (Jvm.Cond.code ({ cls := "ReflectMirrorModel", name := "mayCaller", desc := "(II)Z" } : Jvm.MethodName) prog_30_method_57_code (4 : Nat) (Option.some Jvm.ClassFile.FieldType.boolean)) ∈ lw_all := lw_g (lw_at lw_m10 107 rfl) rfl
theorem q2358 : (Jvm.Cond.instanceMethod ({ cls := "ReflectMirrorModel", name := "object", desc := "(I)I" } : Jvm.MethodName)) ∈ lw_all := lw_g (lw_at lw_m10 109 rfl) rfl
theorem q2359 : (Jvm.Cond.selects "ReflectMirrorModel" ({ cls := "ReflectMirrorModel", name := "object", desc := "(I)I" } : Jvm.MethodName) ({ cls := "ReflectMirrorModel", name := "object", desc := "(I)I" } : Jvm.MethodName)) ∈ lw_all := lw_g (lw_at lw_m10 110 rfl) rfl
theorem q2360 : (Jvm.Cond.code ({ cls := "ReflectMirrorModel", name := "object", desc := "(I)I" } : Jvm.MethodName) prog_30_method_69_code (2 : Nat) (Option.some Jvm.ClassFile.FieldType.int)) ∈ lw_all := lw_g (lw_at lw_m10 111 rfl) rfl
theorem q2361 : (Jvm.Cond.methodLink "ReflectMirrorModel" (337 : Nat) ({ cls := "ReflectMirrorModel", name := "newThing", desc := "(II)I" } : Jvm.MethodName)) ∈ lw_all := lw_g (lw_at lw_m10 112 rfl) rfl
theorem q2362 : (Jvm.Cond.privateMethod ({ cls := "ReflectMirrorModel", name := "newThing", desc := "(II)I" } : Jvm.MethodName)) ∈ lw_tbl := lw_at lw_m10 113 rfl
theorem q2363 : (Jvm.Cond.instanceMethod ({ cls := "ReflectMirrorModel", name := "newThing", desc := "(II)I" } : Jvm.MethodName)) ∈ lw_all := lw_g (lw_at lw_m10 114 rfl) rfl
theorem q2364 : (Jvm.Cond.code ({ cls := "ReflectMirrorModel", name := "newThing", desc := "(II)I" } : Jvm.MethodName) prog_30_method_68_code (5 : Nat) (Option.some Jvm.ClassFile.FieldType.int)) ∈ lw_all := lw_g (lw_at lw_m10 115 rfl) rfl
theorem q2366 : (Jvm.Cond.instanceMethod ({ cls := "ReflectMirrorModel", name := "row", desc := "(II)I" } : Jvm.MethodName)) ∈ lw_all := lw_g (lw_at lw_m10 117 rfl) rfl
theorem q2367 : (Jvm.Cond.selects "ReflectMirrorModel" ({ cls := "ReflectMirrorModel", name := "row", desc := "(II)I" } : Jvm.MethodName) ({ cls := "ReflectMirrorModel", name := "row", desc := "(II)I" } : Jvm.MethodName)) ∈ lw_all := lw_g (lw_at lw_m10 118 rfl) rfl
theorem q2368 : (Jvm.Cond.code ({ cls := "ReflectMirrorModel", name := "row", desc := "(II)I" } : Jvm.MethodName) prog_30_method_70_code (3 : Nat) (Option.some Jvm.ClassFile.FieldType.int)) ∈ lw_all := lw_g (lw_at lw_m10 119 rfl) rfl
theorem q2370 : (Jvm.Cond.instanceMethod ({ cls := "ReflectMirrorModel", name := "thing", desc := "(II)I" } : Jvm.MethodName)) ∈ lw_all := lw_g (lw_at lw_m10 121 rfl) rfl
theorem q2371 : (Jvm.Cond.selects "ReflectMirrorModel" ({ cls := "ReflectMirrorModel", name := "thing", desc := "(II)I" } : Jvm.MethodName) ({ cls := "ReflectMirrorModel", name := "thing", desc := "(II)I" } : Jvm.MethodName)) ∈ lw_all := lw_g (lw_at lw_m10 122 rfl) rfl
theorem q2372 : (Jvm.Cond.code ({ cls := "ReflectMirrorModel", name := "thing", desc := "(II)I" } : Jvm.MethodName) prog_30_method_71_code (3 : Nat) (Option.some Jvm.ClassFile.FieldType.int)) ∈ lw_all := lw_g (lw_at lw_m10 123 rfl) rfl
theorem q2374 : (Jvm.Cond.instanceMethod ({ cls := "ReflectMirrorModel", name := "slot", desc := "(IIJ)I" } : Jvm.MethodName)) ∈ lw_all := lw_g (lw_at lw_m10 125 rfl) rfl
theorem q2375 : (Jvm.Cond.selects "ReflectMirrorModel" ({ cls := "ReflectMirrorModel", name := "slot", desc := "(IIJ)I" } : Jvm.MethodName) ({ cls := "ReflectMirrorModel", name := "slot", desc := "(IIJ)I" } : Jvm.MethodName)) ∈ lw_all := lw_g (lw_at lw_m10 126 rfl) rfl
theorem q2376 : (Jvm.Cond.code ({ cls := "ReflectMirrorModel", name := "slot", desc := "(IIJ)I" } : Jvm.MethodName) prog_30_method_74_code (5 : Nat) (Option.some Jvm.ClassFile.FieldType.int)) ∈ lw_all := lw_g (lw_at lw_m10 127 rfl) rfl
theorem q2377 : (Jvm.Cond.methodLink "ReflectMirrorModel" (342 : Nat) ({ cls := "ReflectMirrorModel", name := "isSlot", desc := "(I)Z" } : Jvm.MethodName)) ∈ lw_all := lw_g (lw_at lw_m10 128 rfl) rfl
theorem q2378 : (Jvm.Cond.static ({ cls := "ReflectMirrorModel", name := "isSlot", desc := "(I)Z" } : Jvm.MethodName)) ∈ lw_all := lw_g (lw_at lw_m10 129 rfl) rfl
theorem q2379 : (Jvm.Cond.code ({ cls := "ReflectMirrorModel", name := "isSlot", desc := "(I)Z" } : Jvm.MethodName) prog_30_method_72_code (1 : Nat) (Option.some Jvm.ClassFile.FieldType.boolean)) ∈ lw_all := lw_g (lw_at lw_m10 130 rfl) rfl
theorem q2380 : (Jvm.Cond.constantLong "ReflectMirrorModel" (340 : Nat) (7 : Int64)) ∈ lw_all := lw_g (lw_at lw_m10 131 rfl) rfl
theorem q2381 : (Jvm.Cond.constantLong "ReflectMirrorModel" (345 : Nat) (8 : Int64)) ∈ lw_all := lw_g (lw_at lw_m10 132 rfl) rfl
theorem q2382 : (Jvm.Cond.methodLink "ReflectMirrorModel" (347 : Nat) ({ cls := "ReflectMirrorModel", name := "fit", desc := "(IJ)Z" } : Jvm.MethodName)) ∈ lw_all := lw_g (lw_at lw_m10 133 rfl) rfl
theorem q2383 : (Jvm.Cond.privateMethod ({ cls := "ReflectMirrorModel", name := "fit", desc := "(IJ)Z" } : Jvm.MethodName)) ∈ lw_tbl := lw_at lw_m10 134 rfl
theorem q2384 : (Jvm.Cond.instanceMethod ({ cls := "ReflectMirrorModel", name := "fit", desc := "(IJ)Z" } : Jvm.MethodName)) ∈ lw_all := lw_g (lw_at lw_m10 135 rfl) rfl
theorem q2385 : (Jvm.Cond.code ({ cls := "ReflectMirrorModel", name := "fit", desc := "(IJ)Z" } : Jvm.MethodName) prog_30_method_67_code (4 : Nat) (Option.some Jvm.ClassFile.FieldType.boolean)) ∈ lw_all := lw_g (lw_at lw_m10 136 rfl) rfl
theorem q2386 : (Jvm.Cond.constantLong "ReflectMirrorModel" (317 : Nat) (65535 : Int64)) ∈ lw_all := lw_g (lw_at lw_m10 137 rfl) rfl
theorem q2387 : (Jvm.Cond.constantLong "ReflectMirrorModel" (319 : Nat) (-128 : Int64)) ∈ lw_all := lw_g (lw_at lw_m10 138 rfl) rfl
theorem q2388 : (Jvm.Cond.constantLong "ReflectMirrorModel" (321 : Nat) (127 : Int64)) ∈ lw_all := lw_g (lw_at lw_m10 139 rfl) rfl
theorem q2389 : (Jvm.Cond.constantLong "ReflectMirrorModel" (323 : Nat) (-32768 : Int64)) ∈ lw_all := lw_g (lw_at lw_m10 140 rfl) rfl
theorem q2390 : (Jvm.Cond.constantLong "ReflectMirrorModel" (325 : Nat) (32767 : Int64)) ∈ lw_all := lw_g (lw_at lw_m10 141 rfl) rfl
theorem q2391 : (Jvm.Cond.constantLong "ReflectMirrorModel" (327 : Nat) (-2147483648 : Int64)) ∈ lw_all := lw_g (lw_at lw_m10 142 rfl) rfl
theorem q2392 : (Jvm.Cond.constantLong "ReflectMirrorModel" (329 : Nat) (2147483647 : Int64)) ∈ lw_all := lw_g (lw_at lw_m10 143 rfl) rfl
theorem q2393 : (Jvm.Cond.constantLong "ReflectMirrorModel" (331 : Nat) (2139095040 : Int64)) ∈ lw_all := lw_g (lw_at lw_m10 144 rfl) rfl
theorem q2394 : (Jvm.Cond.constantLong "ReflectMirrorModel" (333 : Nat) (9223372036854775807 : Int64)) ∈ lw_all := lw_g (lw_at lw_m10 145 rfl) rfl
theorem q2395 : (Jvm.Cond.constantLong "ReflectMirrorModel" (335 : Nat) (9218868437227405312 : Int64)) ∈ lw_all := lw_g (lw_at lw_m10 146 rfl) rfl
theorem q2396 : (Jvm.Cond.methodLink "ReflectMirrorModel" (351 : Nat) ({ cls := "ReflectMirrorModel", name := "lay", desc := "(IIJ)V" } : Jvm.MethodName)) ∈ lw_all := lw_g (lw_at lw_m10 147 rfl) rfl
theorem q2397 : (Jvm.Cond.privateMethod ({ cls := "ReflectMirrorModel", name := "lay", desc := "(IIJ)V" } : Jvm.MethodName)) ∈ lw_tbl := lw_at lw_m10 148 rfl
theorem q2398 : (Jvm.Cond.instanceMethod ({ cls := "ReflectMirrorModel", name := "lay", desc := "(IIJ)V" } : Jvm.MethodName)) ∈ lw_all := lw_g (lw_at lw_m10 149 rfl) rfl
theorem q2399 : (Jvm.Cond.code ({ cls := "ReflectMirrorModel", name := "lay", desc := "(IIJ)V" } : Jvm.MethodName) prog_30_method_73_code (5 : Nat) (Option.none : Option Jvm.ClassFile.FieldType)) ∈ lw_all := lw_g (lw_at lw_m10 150 rfl) rfl
theorem q2401 : (Jvm.Cond.instanceMethod ({ cls := "ReflectMirrorModel", name := "kind", desc := "(I)I" } : Jvm.MethodName)) ∈ lw_all := lw_g (lw_at lw_m10 152 rfl) rfl
theorem q2402 : (Jvm.Cond.selects "ReflectMirrorModel" ({ cls := "ReflectMirrorModel", name := "kind", desc := "(I)I" } : Jvm.MethodName) ({ cls := "ReflectMirrorModel", name := "kind", desc := "(I)I" } : Jvm.MethodName)) ∈ lw_all := lw_g (lw_at lw_m10 153 rfl) rfl
theorem q2403 : (Jvm.Cond.code ({ cls := "ReflectMirrorModel", name := "kind", desc := "(I)I" } : Jvm.MethodName) prog_30_method_75_code (2 : Nat) (Option.some Jvm.ClassFile.FieldType.int)) ∈ lw_all := lw_g (lw_at lw_m10 154 rfl) rfl
theorem q2405 : (Jvm.Cond.instanceMethod ({ cls := "ReflectMirrorModel", name := "bits", desc := "(I)J" } : Jvm.MethodName)) ∈ lw_all := lw_g (lw_at lw_m10 156 rfl) rfl
theorem q2406 : (Jvm.Cond.selects "ReflectMirrorModel" ({ cls := "ReflectMirrorModel", name := "bits", desc := "(I)J" } : Jvm.MethodName) ({ cls := "ReflectMirrorModel", name := "bits", desc := "(I)J" } : Jvm.MethodName)) ∈ lw_all := lw_g (lw_at lw_m10 157 rfl) rfl
theorem q2407 : (Jvm.Cond.code ({ cls := "ReflectMirrorModel", name := "bits", desc := "(I)J" } : Jvm.MethodName) prog_30_method_76_code (2 : Nat) (Option.some Jvm.ClassFile.FieldType.long)) ∈ lw_all := lw_g (lw_at lw_m10 158 rfl) rfl
theorem q2408 : (Jvm.Cond.constantLong "ReflectMirrorModel" (303 : Nat) (-9223372036854775808 : Int64)) ∈ lw_all := lw_g (lw_at lw_m10 159 rfl) rfl
theorem q2410 : (Jvm.Cond.instanceMethod ({ cls := "ReflectMirrorModel", name := "get", desc := "(IIII)I" } : Jvm.MethodName)) ∈ lw_all := lw_g (lw_at lw_m10 161 rfl) rfl
theorem q2411 : (Jvm.Cond.selects "ReflectMirrorModel" ({ cls := "ReflectMirrorModel", name := "get", desc := "(IIII)I" } : Jvm.MethodName) ({ cls := "ReflectMirrorModel", name := "get", desc := "(IIII)I" } : Jvm.MethodName)) ∈ lw_all := lw_g (lw_at lw_m10 162 rfl) rfl
theorem q2412 : (Jvm.Cond.code ({ cls := "ReflectMirrorModel", name := "get", desc := "(IIII)I" } : Jvm.MethodName) prog_30_method_82_code (6 : Nat) (Option.some Jvm.ClassFile.FieldType.int)) ∈ lw_all := lw_g (lw_at lw_m10 163 rfl) rfl
theorem q2413 : (Jvm.Cond.methodLink "ReflectMirrorModel" (355 : Nat) ({ cls := "ReflectMirrorModel", name := "isFieldAt", desc := "(I)Z" } : Jvm.MethodName)) ∈ lw_all := lw_g (lw_at lw_m10 164 rfl) rfl
theorem q2414 : (Jvm.Cond.privateMethod ({ cls := "ReflectMirrorModel", name := "isFieldAt", desc := "(I)Z" } : Jvm.MethodName)) ∈ lw_tbl := lw_at lw_m10 165 rfl
theorem q2415 : (Jvm.Cond.instanceMethod ({ cls := "ReflectMirrorModel", name := "isFieldAt", desc := "(I)Z" } : Jvm.MethodName)) ∈ lw_all := lw_g (lw_at lw_m10 166 rfl) rfl
theorem q2416 : (Jvm.Cond.code ({ cls := "ReflectMirrorModel", name := "isFieldAt", desc := "(I)Z" } : Jvm.MethodName) prog_30_method_29_code (2 : Nat) (Option.some Jvm.ClassFile.FieldType.boolean)) ∈ lw_all := lw_g (lw_at lw_m10 167 rfl) rfl
theorem q2417 : (Jvm.Cond.methodLink "ReflectMirrorModel" (358 : Nat) ({ cls := "ReflectMirrorModel", name := "against", desc := "(II)I" } : Jvm.MethodName)) ∈ lw_all := lw_g (lw_at lw_m10 168 rfl) rfl
theorem q2418 : (Jvm.Cond.privateMethod ({ cls := "ReflectMirrorModel", name := "against", desc := "(II)I" } : Jvm.MethodName)) ∈ lw_tbl := lw_at lw_m10 169 rfl
theorem q2419 : (Jvm.Cond.instanceMethod ({ cls := "ReflectMirrorModel", name := "against", desc := "(II)I" } : Jvm.MethodName)) ∈ lw_all := lw_g (lw_at lw_m10 170 rfl) rfl
theorem q2420 : (Jvm.Cond.code ({ cls := "ReflectMirrorModel", name := "against", desc := "(II)I" } : Jvm.MethodName) prog_30_method_79_code (3 : Nat) (Option.some Jvm.ClassFile.FieldType.int)) ∈ lw_all := lw_g (lw_at lw_m10 171 rfl) rfl
theorem q2421 : (Jvm.Cond.methodLink "ReflectMirrorModel" (361 : Nat) ({ cls := "ReflectMirrorModel", name := "mayTell", desc := "(II)Z" } : Jvm.MethodName)) ∈ lw_all := lw_g (lw_at lw_m10 172 rfl) rfl
theorem q2422 : (Jvm.Cond.static ({ cls := "ReflectMirrorModel", name := "mayTell", desc := "(II)Z" } : Jvm.MethodName)) ∈ lw_all := lw_g (lw_at lw_m10 173 rfl) rfl
theorem q2423 : (Jvm.Cond.code ({ cls := "ReflectMirrorModel", name := "mayTell", desc := "(II)Z" } : Jvm.MethodName) prog_30_method_78_code (2 : Nat) (Option.some Jvm.ClassFile.FieldType.boolean)) ∈ lw_all := lw_g (lw_at lw_m10 174 rfl) rfl
theorem q2424 : (Jvm.Cond.methodLink "ReflectMirrorModel" (364 : Nat) ({ cls := "ReflectMirrorModel", name := "fieldValue", desc := "(II)J" } : Jvm.MethodName)) ∈ lw_all := lw_g (lw_at lw_m10 175 rfl) rfl
theorem q2425 : (Jvm.Cond.privateMethod ({ cls := "ReflectMirrorModel", name := "fieldValue", desc := "(II)J" } : Jvm.MethodName)) ∈ lw_tbl := lw_at lw_m10 176 rfl
theorem q2426 : (Jvm.Cond.instanceMethod ({ cls := "ReflectMirrorModel", name := "fieldValue", desc := "(II)J" } : Jvm.MethodName)) ∈ lw_all := lw_g (lw_at lw_m10 177 rfl) rfl
theorem q2427 : (Jvm.Cond.code ({ cls := "ReflectMirrorModel", name := "fieldValue", desc := "(II)J" } : Jvm.MethodName) prog_30_method_80_code (3 : Nat) (Option.some Jvm.ClassFile.FieldType.long)) ∈ lw_all := lw_g (lw_at lw_m10 178 rfl) rfl
theorem q2428 : (Jvm.Cond.methodLink "ReflectMirrorModel" (368 : Nat) ({ cls := "ReflectMirrorModel", name := "widened", desc := "(JII)J" } : Jvm.MethodName)) ∈ lw_all := lw_g (lw_at lw_m10 179 rfl) rfl
theorem q2429 : (Jvm.Cond.static ({ cls := "ReflectMirrorModel", name := "widened", desc := "(JII)J" } : Jvm.MethodName)) ∈ lw_all := lw_g (lw_at lw_m10 180 rfl) rfl
theorem q2430 : (Jvm.Cond.code ({ cls := "ReflectMirrorModel", name := "widened", desc := "(JII)J" } : Jvm.MethodName) prog_30_method_66_code (4 : Nat) (Option.some Jvm.ClassFile.FieldType.long)) ∈ lw_all := lw_g (lw_at lw_m10 181 rfl) rfl
theorem q2431 : (Jvm.Cond.methodLink "ReflectMirrorModel" (305 : Nat) ({ cls := "ReflectMirrorModel", name := "floatOf", desc := "(J)F" } : Jvm.MethodName)) ∈ lw_all := lw_g (lw_at lw_m10 182 rfl) rfl
theorem q2432 : (Jvm.Cond.static ({ cls := "ReflectMirrorModel", name := "floatOf", desc := "(J)F" } : Jvm.MethodName)) ∈ lw_all := lw_g (lw_at lw_m10 183 rfl) rfl
theorem q2433 : (Jvm.Cond.code ({ cls := "ReflectMirrorModel", name := "floatOf", desc := "(J)F" } : Jvm.MethodName) prog_30_method_61_code (6 : Nat) (Option.some Jvm.ClassFile.FieldType.float)) ∈ lw_all := lw_g (lw_at lw_m10 184 rfl) rfl
theorem q2434 : (Jvm.Cond.constantLong "ReflectMirrorModel" (286 : Nat) (8388607 : Int64)) ∈ lw_all := lw_g (lw_at lw_m10 185 rfl) rfl
theorem q2435 : (Jvm.Cond.constantLong "ReflectMirrorModel" (288 : Nat) (255 : Int64)) ∈ lw_all := lw_g (lw_at lw_m10 186 rfl) rfl
theorem q2436 : (Jvm.Cond.constantDouble "ReflectMirrorModel" (278 : Nat) (9218868437227405312 : UInt64)) ∈ lw_all := lw_g (lw_at lw_m10 187 rfl) rfl
theorem q2437 : (Jvm.Cond.methodLink "ReflectMirrorModel" (280 : Nat) ({ cls := "ReflectMirrorModel", name := "scaled", desc := "(DI)D" } : Jvm.MethodName)) ∈ lw_all := lw_g (lw_at lw_m10 188 rfl) rfl
theorem q2438 : (Jvm.Cond.static ({ cls := "ReflectMirrorModel", name := "scaled", desc := "(DI)D" } : Jvm.MethodName)) ∈ lw_all := lw_g (lw_at lw_m10 189 rfl) rfl
theorem q2439 : (Jvm.Cond.code ({ cls := "ReflectMirrorModel", name := "scaled", desc := "(DI)D" } : Jvm.MethodName) prog_30_method_59_code (6 : Nat) (Option.some Jvm.ClassFile.FieldType.double)) ∈ lw_all := lw_g (lw_at lw_m10 190 rfl) rfl
theorem q2440 : (Jvm.Cond.constantDouble "ReflectMirrorModel" (270 : Nat) (4611686018427387904 : UInt64)) ∈ lw_all := lw_g (lw_at lw_m10 191 rfl) rfl
theorem q2441 : (Jvm.Cond.constantDouble "ReflectMirrorModel" (272 : Nat) (4602678819172646912 : UInt64)) ∈ lw_all := lw_g (lw_at lw_m10 192 rfl) rfl
theorem q2442 : (Jvm.Cond.constant "ReflectMirrorModel" (290 : Nat) (8388608 : Int32)) ∈ lw_all := lw_g (lw_at lw_m10 193 rfl) rfl
theorem q2443 : (Jvm.Cond.constantLong "ReflectMirrorModel" (291 : Nat) (2147483648 : Int64)) ∈ lw_all := lw_g (lw_at lw_m10 194 rfl) rfl
theorem q2444 : (Jvm.Cond.methodLink "ReflectMirrorModel" (309 : Nat) ({ cls := "ReflectMirrorModel", name := "doubleBits", desc := "(D)J" } : Jvm.MethodName)) ∈ lw_all := lw_g (lw_at lw_m10 195 rfl) rfl
theorem q2445 : (Jvm.Cond.static ({ cls := "ReflectMirrorModel", name := "doubleBits", desc := "(D)J" } : Jvm.MethodName)) ∈ lw_all := lw_g (lw_at lw_m10 196 rfl) rfl
theorem q2446 : (Jvm.Cond.code ({ cls := "ReflectMirrorModel", name := "doubleBits", desc := "(D)J" } : Jvm.MethodName) prog_30_method_64_code (2 : Nat) (Option.some Jvm.ClassFile.FieldType.long)) ∈ lw_all := lw_g (lw_at lw_m10 197 rfl) rfl
theorem q2447 : (Jvm.Cond.methodLink "ReflectMirrorModel" (295 : Nat) ({ cls := "ReflectMirrorModel", name := "bitsOf", desc := "(DII)J" } : Jvm.MethodName)) ∈ lw_all := lw_g (lw_at lw_m10 198 rfl) rfl
theorem q2448 : (Jvm.Cond.static ({ cls := "ReflectMirrorModel", name := "bitsOf", desc := "(DII)J" } : Jvm.MethodName)) ∈ lw_all := lw_g (lw_at lw_m10 199 rfl) rfl
theorem q2449 : (Jvm.Cond.code ({ cls := "ReflectMirrorModel", name := "bitsOf", desc := "(DII)J" } : Jvm.MethodName) prog_30_method_63_code (11 : Nat) (Option.some Jvm.ClassFile.FieldType.long)) ∈ lw_all := lw_g (lw_at lw_m10 200 rfl) rfl
theorem q2450 : (Jvm.Cond.constantDouble "ReflectMirrorModel" (293 : Nat) (9218868437227405311 : UInt64)) ∈ lw_all := lw_g (lw_at lw_m10 201 rfl) rfl
theorem q2451 : (Jvm.Cond.methodLink "ReflectMirrorModel" (299 : Nat) ({ cls := "ReflectMirrorModel", name := "isBelow", desc := "(D)Z" } : Jvm.MethodName)) ∈ lw_all := lw_g (lw_at lw_m10 202 rfl) rfl
theorem q2452 : (Jvm.Cond.static ({ cls := "ReflectMirrorModel", name := "isBelow", desc := "(D)Z" } : Jvm.MethodName)) ∈ lw_all := lw_g (lw_at lw_m10 203 rfl) rfl
theorem q2453 : (Jvm.Cond.code ({ cls := "ReflectMirrorModel", name := "isBelow", desc := "(D)Z" } : Jvm.MethodName) prog_30_method_62_code (2 : Nat) (Option.some Jvm.ClassFile.FieldType.boolean)) ∈ lw_all := lw_g (lw_at lw_m10 204 rfl) rfl
theorem q2454 : (Jvm.Cond.methodLink "ReflectMirrorModel" (313 : Nat) ({ cls := "ReflectMirrorModel", name := "floatBits", desc := "(F)J" } : Jvm.MethodName)) ∈ lw_all := lw_g (lw_at lw_m10 205 rfl) rfl
theorem q2455 : (Jvm.Cond.static ({ cls := "ReflectMirrorModel", name := "floatBits", desc := "(F)J" } : Jvm.MethodName)) ∈ lw_all := lw_g (lw_at lw_m10 206 rfl) rfl
theorem q2456 : (Jvm.Cond.code ({ cls := "ReflectMirrorModel", name := "floatBits", desc := "(F)J" } : Jvm.MethodName) prog_30_method_65_code (3 : Nat) (Option.some Jvm.ClassFile.FieldType.long)) ∈ lw_all := lw_g (lw_at lw_m10 207 rfl) rfl
theorem q2458 : (Jvm.Cond.instanceMethod ({ cls := "ReflectMirrorModel", name := "set", desc := "(III)I" } : Jvm.MethodName)) ∈ lw_all := lw_g (lw_at lw_m10 209 rfl) rfl
theorem q2459 : (Jvm.Cond.selects "ReflectMirrorModel" ({ cls := "ReflectMirrorModel", name := "set", desc := "(III)I" } : Jvm.MethodName) ({ cls := "ReflectMirrorModel", name := "set", desc := "(III)I" } : Jvm.MethodName)) ∈ lw_all := lw_g (lw_at lw_m10 210 rfl) rfl
theorem q2460 : (Jvm.Cond.code ({ cls := "ReflectMirrorModel", name := "set", desc := "(III)I" } : Jvm.MethodName) prog_30_method_83_code (6 : Nat) (Option.some Jvm.ClassFile.FieldType.int)) ∈ lw_all := lw_g (lw_at lw_m10 211 rfl) rfl
theorem q2461 : (Jvm.Cond.methodLink "ReflectMirrorModel" (372 : Nat) ({ cls := "ReflectMirrorModel", name := "slotGoes", desc := "(II)Z" } : Jvm.MethodName)) ∈ lw_all := lw_g (lw_at lw_m10 212 rfl) rfl
theorem q2462 : (Jvm.Cond.privateMethod ({ cls := "ReflectMirrorModel", name := "slotGoes", desc := "(II)Z" } : Jvm.MethodName)) ∈ lw_tbl := lw_at lw_m10 213 rfl
theorem q2463 : (Jvm.Cond.instanceMethod ({ cls := "ReflectMirrorModel", name := "slotGoes", desc := "(II)Z" } : Jvm.MethodName)) ∈ lw_all := lw_g (lw_at lw_m10 214 rfl) rfl
theorem q2464 : (Jvm.Cond.code ({ cls := "ReflectMirrorModel", name := "slotGoes", desc := "(II)Z" } : Jvm.MethodName) prog_30_method_77_code (3 : Nat) (Option.some Jvm.ClassFile.FieldType.boolean)) ∈ lw_all := lw_g (lw_at lw_m10 215 rfl) rfl
theorem q2465 : (Jvm.Cond.methodLink "ReflectMirrorModel" (375 : Nat) ({ cls := "ReflectMirrorModel", name := "setField", desc := "(IIJ)V" } : Jvm.MethodName)) ∈ lw_all := lw_g (lw_at lw_m10 216 rfl) rfl
theorem q2466 : (Jvm.Cond.privateMethod ({ cls := "ReflectMirrorModel", name := "setField", desc := "(IIJ)V" } : Jvm.MethodName)) ∈ lw_tbl := lw_at lw_m10 217 rfl
theorem q2467 : (Jvm.Cond.instanceMethod ({ cls := "ReflectMirrorModel", name := "setField", desc := "(IIJ)V" } : Jvm.MethodName)) ∈ lw_all := lw_g (lw_at lw_m10 218 rfl) rfl
theorem q2468 : (Jvm.Cond.code ({ cls := "ReflectMirrorModel", name := "setField", desc := "(IIJ)V" } : Jvm.MethodName) prog_30_method_81_code (5 : Nat) (Option.none : Option Jvm.ClassFile.FieldType)) ∈ lw_all := lw_g (lw_at lw_m10 219 rfl) rfl
theorem q2470 : (Jvm.Cond.instanceMethod ({ cls := "ReflectMirrorModel", name := "item", desc := "(IIII)I" } : Jvm.MethodName)) ∈ lw_all := lw_g (lw_at lw_m10 221 rfl) rfl
theorem q2471 : (Jvm.Cond.selects "ReflectMirrorModel" ({ cls := "ReflectMirrorModel", name := "item", desc := "(IIII)I" } : Jvm.MethodName) ({ cls := "ReflectMirrorModel", name := "item", desc := "(IIII)I" } : Jvm.MethodName)) ∈ lw_all := lw_g (lw_at lw_m10 222 rfl) rfl
theorem q2472 : (Jvm.Cond.code ({ cls := "ReflectMirrorModel", name := "item", desc := "(IIII)I" } : Jvm.MethodName) prog_30_method_85_code (6 : Nat) (Option.some Jvm.ClassFile.FieldType.int)) ∈ lw_all := lw_g (lw_at lw_m10 223 rfl) rfl
theorem q2473 : (Jvm.Cond.methodLink "ReflectMirrorModel" (378 : Nat) ({ cls := "ReflectMirrorModel", name := "againstItem", desc := "(IIZ)I" } : Jvm.MethodName)) ∈ lw_all := lw_g (lw_at lw_m10 224 rfl) rfl
theorem q2474 : (Jvm.Cond.privateMethod ({ cls := "ReflectMirrorModel", name := "againstItem", desc := "(IIZ)I" } : Jvm.MethodName)) ∈ lw_tbl := lw_at lw_m10 225 rfl
theorem q2475 : (Jvm.Cond.instanceMethod ({ cls := "ReflectMirrorModel", name := "againstItem", desc := "(IIZ)I" } : Jvm.MethodName)) ∈ lw_all := lw_g (lw_at lw_m10 226 rfl) rfl
theorem q2476 : (Jvm.Cond.code ({ cls := "ReflectMirrorModel", name := "againstItem", desc := "(IIZ)I" } : Jvm.MethodName) prog_30_method_84_code (4 : Nat) (Option.some Jvm.ClassFile.FieldType.int)) ∈ lw_all := lw_g (lw_at lw_m10 227 rfl) rfl
theorem q2478 : (Jvm.Cond.instanceMethod ({ cls := "ReflectMirrorModel", name := "put", desc := "(III)I" } : Jvm.MethodName)) ∈ lw_all := lw_g (lw_at lw_m10 229 rfl) rfl
theorem q2479 : (Jvm.Cond.selects "ReflectMirrorModel" ({ cls := "ReflectMirrorModel", name := "put", desc := "(III)I" } : Jvm.MethodName) ({ cls := "ReflectMirrorModel", name := "put", desc := "(III)I" } : Jvm.MethodName)) ∈ lw_all := lw_g (lw_at lw_m10 230 rfl) rfl
theorem q2480 : (Jvm.Cond.code ({ cls := "ReflectMirrorModel", name := "put", desc := "(III)I" } : Jvm.MethodName) prog_30_method_86_code (5 : Nat) (Option.some Jvm.ClassFile.FieldType.int)) ∈ lw_all := lw_g (lw_at lw_m10 231 rfl) rfl
theorem q2482 : (Jvm.Cond.instanceMethod ({ cls := "ReflectMirrorModel", name := "store", desc := "(III)I" } : Jvm.MethodName)) ∈ lw_all := lw_g (lw_at lw_m10 233 rfl) rfl
theorem q2483 : (Jvm.Cond.selects "ReflectMirrorModel" ({ cls := "ReflectMirrorModel", name := "store", desc := "(III)I" } : Jvm.MethodName) ({ cls := "ReflectMirrorModel", name := "store", desc := "(III)I" } : Jvm.MethodName)) ∈ lw_all := lw_g (lw_at lw_m10 234 rfl) rfl
theorem q2484 : (Jvm.Cond.code ({ cls := "ReflectMirrorModel", name := "store", desc := "(III)I" } : Jvm.MethodName) prog_30_method_87_code (5 : Nat) (Option.some Jvm.ClassFile.FieldType.int)) ∈ lw_all := lw_g (lw_at lw_m10 235 rfl) rfl
theorem q2486 : (Jvm.Cond.instanceMethod ({ cls := "ReflectMirrorModel", name := "copy", desc := "(IIIII)I" } : Jvm.MethodName)) ∈ lw_all := lw_g (lw_at lw_m10 237 rfl) rfl
theorem q2487 : (Jvm.Cond.selects "ReflectMirrorModel" ({ cls := "ReflectMirrorModel", name := "copy", desc := "(IIIII)I" } : Jvm.MethodName) ({ cls := "ReflectMirrorModel", name := "copy", desc := "(IIIII)I" } : Jvm.MethodName)) ∈ lw_all := lw_g (lw_at lw_m10 238 rfl) rfl
theorem q2488 : (Jvm.Cond.code ({ cls := "ReflectMirrorModel", name := "copy", desc := "(IIIII)I" } : Jvm.MethodName) prog_30_method_88_code (9 : Nat) (Option.some Jvm.ClassFile.FieldType.int)) ∈ lw_all := lw_g (lw_at lw_m10 239 rfl) rfl
theorem q2490 : (Jvm.Cond.instanceMethod ({ cls := "ReflectMirrorModel", name := "body", desc := "(IIII)I" } : Jvm.MethodName)) ∈ lw_all := lw_g (lw_at lw_m11 1 rfl) rfl
theorem q2491 : (Jvm.Cond.selects "ReflectMirrorModel" ({ cls := "ReflectMirrorModel", name := "body", desc := "(IIII)I" } : Jvm.MethodName) ({ cls := "ReflectMirrorModel", name := "body", desc := "(IIII)I" } : Jvm.MethodName)) ∈ lw_all := lw_g (lw_at lw_m11 2 rfl) rfl
theorem q2492 : (Jvm.Cond.code ({ cls := "ReflectMirrorModel", name := "body", desc := "(IIII)I" } : Jvm.MethodName) prog_30_method_96_code (7 : Nat) (Option.some Jvm.ClassFile.FieldType.int)) ∈ lw_all := lw_g (lw_at lw_m11 3 rfl) rfl
theorem q2493 : (Jvm.Cond.methodLink "ReflectMirrorModel" (403 : Nat) ({ cls := "ReflectMirrorModel", name := "mayBody", desc := "(IIII)Z" } : Jvm.MethodName)) ∈ lw_all := lw_g (lw_at lw_m11 4 rfl) rfl
theorem q2494 : (Jvm.Cond.privateMethod ({ cls := "ReflectMirrorModel", name := "mayBody", desc := "(IIII)Z" } : Jvm.MethodName)) ∈ lw_tbl := lw_at lw_m11 5 rfl
theorem q2495 : (Jvm.Cond.instanceMethod ({ cls := "ReflectMirrorModel", name := "mayBody", desc := "(IIII)Z" } : Jvm.MethodName)) ∈ lw_all := lw_g (lw_at lw_m11 6 rfl) rfl
theorem q2496 : (Jvm.Cond.code ({ cls := "ReflectMirrorModel", name := "mayBody", desc := "(IIII)Z" } : Jvm.MethodName) prog_30_method_93_code (7 : Nat) (Option.some Jvm.ClassFile.FieldType.boolean)) ∈ lw_all := lw_g (lw_at lw_m11 7 rfl) rfl
theorem q2497 : (Jvm.Cond.methodLink "ReflectMirrorModel" (382 : Nat) ({ cls := "ReflectMirrorModel", name := "isParam", desc := "(II)Z" } : Jvm.MethodName)) ∈ lw_all := lw_g (lw_at lw_m11 8 rfl) rfl
theorem q2498 : (Jvm.Cond.privateMethod ({ cls := "ReflectMirrorModel", name := "isParam", desc := "(II)Z" } : Jvm.MethodName)) ∈ lw_tbl := lw_at lw_m11 9 rfl
theorem q2499 : (Jvm.Cond.instanceMethod ({ cls := "ReflectMirrorModel", name := "isParam", desc := "(II)Z" } : Jvm.MethodName)) ∈ lw_all := lw_g (lw_at lw_m11 10 rfl) rfl
theorem q2500 : (Jvm.Cond.code ({ cls := "ReflectMirrorModel", name := "isParam", desc := "(II)Z" } : Jvm.MethodName) prog_30_method_89_code (3 : Nat) (Option.some Jvm.ClassFile.FieldType.boolean)) ∈ lw_all := lw_g (lw_at lw_m11 11 rfl) rfl
theorem q2501 : (Jvm.Cond.methodLink "ReflectMirrorModel" (388 : Nat) ({ cls := "ReflectMirrorModel", name := "reaches", desc := "(II)Z" } : Jvm.MethodName)) ∈ lw_all := lw_g (lw_at lw_m11 12 rfl) rfl
theorem q2502 : (Jvm.Cond.privateMethod ({ cls := "ReflectMirrorModel", name := "reaches", desc := "(II)Z" } : Jvm.MethodName)) ∈ lw_tbl := lw_at lw_m11 13 rfl
theorem q2503 : (Jvm.Cond.instanceMethod ({ cls := "ReflectMirrorModel", name := "reaches", desc := "(II)Z" } : Jvm.MethodName)) ∈ lw_all := lw_g (lw_at lw_m11 14 rfl) rfl
theorem q2504 : (Jvm.Cond.code ({ cls := "ReflectMirrorModel", name := "reaches", desc := "(II)Z" } : Jvm.MethodName) prog_30_method_92_code (3 : Nat) (Option.some Jvm.ClassFile.FieldType.boolean)) ∈ lw_all := lw_g (lw_at lw_m11 15 rfl) rfl
theorem q2505 : (Jvm.Cond.methodLink "ReflectMirrorModel" (391 : Nat) ({ cls := "ReflectMirrorModel", name := "mayCallFrom", desc := "(II)Z" } : Jvm.MethodName)) ∈ lw_all := lw_g (lw_at lw_m11 16 rfl) rfl
theorem q2506 : (Jvm.Cond.privateMethod ({ cls := "ReflectMirrorModel", name := "mayCallFrom", desc := "(II)Z" } : Jvm.MethodName)) ∈ lw_tbl := lw_at lw_m11 17 rfl
theorem q2507 : (Jvm.Cond.instanceMethod ({ cls := "ReflectMirrorModel", name := "mayCallFrom", desc := "(II)Z" } : Jvm.MethodName)) ∈ lw_all := lw_g (lw_at lw_m11 18 rfl) rfl
theorem q2508 : (Jvm.Cond.code ({ cls := "ReflectMirrorModel", name := "mayCallFrom", desc := "(II)Z" } : Jvm.MethodName) prog_30_method_94_code (5 : Nat) (Option.some Jvm.ClassFile.FieldType.boolean)) ∈ lw_all := lw_g (lw_at lw_m11 19 rfl) rfl
theorem q2509 : (Jvm.Cond.methodLink "ReflectMirrorModel" (394 : Nat) ({ cls := "ReflectMirrorModel", name := "isNumber", desc := "(II)Z" } : Jvm.MethodName)) ∈ lw_all := lw_g (lw_at lw_m11 20 rfl) rfl
theorem q2510 : (Jvm.Cond.privateMethod ({ cls := "ReflectMirrorModel", name := "isNumber", desc := "(II)Z" } : Jvm.MethodName)) ∈ lw_tbl := lw_at lw_m11 21 rfl
theorem q2511 : (Jvm.Cond.instanceMethod ({ cls := "ReflectMirrorModel", name := "isNumber", desc := "(II)Z" } : Jvm.MethodName)) ∈ lw_all := lw_g (lw_at lw_m11 22 rfl) rfl
theorem q2512 : (Jvm.Cond.code ({ cls := "ReflectMirrorModel", name := "isNumber", desc := "(II)Z" } : Jvm.MethodName) prog_30_method_90_code (3 : Nat) (Option.some Jvm.ClassFile.FieldType.boolean)) ∈ lw_all := lw_g (lw_at lw_m11 23 rfl) rfl
theorem q2513 : (Jvm.Cond.methodLink "ReflectMirrorModel" (397 : Nat) ({ cls := "ReflectMirrorModel", name := "sumType", desc := "(II)I" } : Jvm.MethodName)) ∈ lw_all := lw_g (lw_at lw_m11 24 rfl) rfl
theorem q2514 : (Jvm.Cond.static ({ cls := "ReflectMirrorModel", name := "sumType", desc := "(II)I" } : Jvm.MethodName)) ∈ lw_all := lw_g (lw_at lw_m11 25 rfl) rfl
theorem q2515 : (Jvm.Cond.code ({ cls := "ReflectMirrorModel", name := "sumType", desc := "(II)I" } : Jvm.MethodName) prog_30_method_91_code (3 : Nat) (Option.some Jvm.ClassFile.FieldType.int)) ∈ lw_all := lw_g (lw_at lw_m11 26 rfl) rfl
theorem q2516 : (Jvm.Cond.methodLink "ReflectMirrorModel" (400 : Nat) ({ cls := "ReflectMirrorModel", name := "mayGoUp", desc := "(I)Z" } : Jvm.MethodName)) ∈ lw_all := lw_g (lw_at lw_m11 27 rfl) rfl
theorem q2517 : (Jvm.Cond.privateMethod ({ cls := "ReflectMirrorModel", name := "mayGoUp", desc := "(I)Z" } : Jvm.MethodName)) ∈ lw_tbl := lw_at lw_m11 28 rfl
theorem q2518 : (Jvm.Cond.instanceMethod ({ cls := "ReflectMirrorModel", name := "mayGoUp", desc := "(I)Z" } : Jvm.MethodName)) ∈ lw_all := lw_g (lw_at lw_m11 29 rfl) rfl
theorem q2519 : (Jvm.Cond.code ({ cls := "ReflectMirrorModel", name := "mayGoUp", desc := "(I)Z" } : Jvm.MethodName) prog_30_method_95_code (4 : Nat) (Option.some Jvm.ClassFile.FieldType.boolean)) ∈ lw_all := lw_g (lw_at lw_m11 30 rfl) rfl
theorem q2521 : (Jvm.Cond.instanceMethod ({ cls := "ReflectMirrorModel", name := "call", desc := "(IIII)I" } : Jvm.MethodName)) ∈ lw_all := lw_g (lw_at lw_m11 32 rfl) rfl
theorem q2522 : (Jvm.Cond.selects "ReflectMirrorModel" ({ cls := "ReflectMirrorModel", name := "call", desc := "(IIII)I" } : Jvm.MethodName) ({ cls := "ReflectMirrorModel", name := "call", desc := "(IIII)I" } : Jvm.MethodName)) ∈ lw_all := lw_g (lw_at lw_m11 33 rfl) rfl
theorem q2523 : (Jvm.Cond.code ({ cls := "ReflectMirrorModel", name := "call", desc := "(IIII)I" } : Jvm.MethodName) prog_30_method_105_code (7 : Nat) (Option.some Jvm.ClassFile.FieldType.int)) ∈ lw_all := lw_g (lw_at lw_m11 34 rfl) rfl
theorem q2524 : (Jvm.Cond.methodLink "ReflectMirrorModel" (464 : Nat) ({ cls := "ReflectMirrorModel", name := "goes", desc := "(I)V" } : Jvm.MethodName)) ∈ lw_all := lw_g (lw_at lw_m11 35 rfl) rfl
theorem q2525 : (Jvm.Cond.privateMethod ({ cls := "ReflectMirrorModel", name := "goes", desc := "(I)V" } : Jvm.MethodName)) ∈ lw_tbl := lw_at lw_m11 36 rfl
theorem q2526 : (Jvm.Cond.instanceMethod ({ cls := "ReflectMirrorModel", name := "goes", desc := "(I)V" } : Jvm.MethodName)) ∈ lw_all := lw_g (lw_at lw_m11 37 rfl) rfl
theorem q2527 : (Jvm.Cond.code ({ cls := "ReflectMirrorModel", name := "goes", desc := "(I)V" } : Jvm.MethodName) prog_30_method_104_code (4 : Nat) (Option.none : Option Jvm.ClassFile.FieldType)) ∈ lw_all := lw_g (lw_at lw_m11 38 rfl) rfl
theorem q2528 : (Jvm.Cond.methodLink "ReflectMirrorModel" (444 : Nat) ({ cls := "ReflectMirrorModel", name := "begins", desc := "(IZ)I" } : Jvm.MethodName)) ∈ lw_all := lw_g (lw_at lw_m11 39 rfl) rfl
theorem q2529 : (Jvm.Cond.privateMethod ({ cls := "ReflectMirrorModel", name := "begins", desc := "(IZ)I" } : Jvm.MethodName)) ∈ lw_tbl := lw_at lw_m11 40 rfl
theorem q2530 : (Jvm.Cond.instanceMethod ({ cls := "ReflectMirrorModel", name := "begins", desc := "(IZ)I" } : Jvm.MethodName)) ∈ lw_all := lw_g (lw_at lw_m11 41 rfl) rfl
theorem q2531 : (Jvm.Cond.code ({ cls := "ReflectMirrorModel", name := "begins", desc := "(IZ)I" } : Jvm.MethodName) prog_30_method_98_code (4 : Nat) (Option.some Jvm.ClassFile.FieldType.int)) ∈ lw_all := lw_g (lw_at lw_m11 42 rfl) rfl
theorem q2532 : (Jvm.Cond.methodLink "ReflectMirrorModel" (422 : Nat) ({ cls := "ReflectMirrorModel", name := "fails", desc := "(III)V" } : Jvm.MethodName)) ∈ lw_all := lw_g (lw_at lw_m11 43 rfl) rfl
theorem q2533 : (Jvm.Cond.privateMethod ({ cls := "ReflectMirrorModel", name := "fails", desc := "(III)V" } : Jvm.MethodName)) ∈ lw_tbl := lw_at lw_m11 44 rfl
theorem q2534 : (Jvm.Cond.instanceMethod ({ cls := "ReflectMirrorModel", name := "fails", desc := "(III)V" } : Jvm.MethodName)) ∈ lw_all := lw_g (lw_at lw_m11 45 rfl) rfl
theorem q2535 : (Jvm.Cond.code ({ cls := "ReflectMirrorModel", name := "fails", desc := "(III)V" } : Jvm.MethodName) prog_30_method_97_code (4 : Nat) (Option.none : Option Jvm.ClassFile.FieldType)) ∈ lw_all := lw_g (lw_at lw_m11 46 rfl) rfl
theorem q2536 : (Jvm.Cond.methodLink "ReflectMirrorModel" (455 : Nat) ({ cls := "ReflectMirrorModel", name := "works", desc := "()I" } : Jvm.MethodName)) ∈ lw_all := lw_g (lw_at lw_m11 47 rfl) rfl
theorem q2537 : (Jvm.Cond.privateMethod ({ cls := "ReflectMirrorModel", name := "works", desc := "()I" } : Jvm.MethodName)) ∈ lw_tbl := lw_at lw_m11 48 rfl
theorem q2538 : (Jvm.Cond.instanceMethod ({ cls := "ReflectMirrorModel", name := "works", desc := "()I" } : Jvm.MethodName)) ∈ lw_all := lw_g (lw_at lw_m11 49 rfl) rfl
theorem q2539 : (Jvm.Cond.code ({ cls := "ReflectMirrorModel", name := "works", desc := "()I" } : Jvm.MethodName) prog_30_method_101_code (7 : Nat) (Option.some Jvm.ClassFile.FieldType.int)) ∈ lw_all := lw_g (lw_at lw_m11 50 rfl) rfl
theorem q2540 : (Jvm.Cond.methodLink "ReflectMirrorModel" (436 : Nat) ({ cls := "ReflectMirrorModel", name := "comesTo", desc := "(IJ)V" } : Jvm.MethodName)) ∈ lw_all := lw_g (lw_at lw_m11 51 rfl) rfl
theorem q2541 : (Jvm.Cond.privateMethod ({ cls := "ReflectMirrorModel", name := "comesTo", desc := "(IJ)V" } : Jvm.MethodName)) ∈ lw_tbl := lw_at lw_m11 52 rfl
theorem q2542 : (Jvm.Cond.instanceMethod ({ cls := "ReflectMirrorModel", name := "comesTo", desc := "(IJ)V" } : Jvm.MethodName)) ∈ lw_all := lw_g (lw_at lw_m11 53 rfl) rfl
theorem q2543 : (Jvm.Cond.code ({ cls := "ReflectMirrorModel", name := "comesTo", desc := "(IJ)V" } : Jvm.MethodName) prog_30_method_99_code (4 : Nat) (Option.none : Option Jvm.ClassFile.FieldType)) ∈ lw_all := lw_g (lw_at lw_m11 54 rfl) rfl
theorem q2544 : (Jvm.Cond.methodLink "ReflectMirrorModel" (448 : Nat) ({ cls := "ReflectMirrorModel", name := "adds", desc := "(IJJII)V" } : Jvm.MethodName)) ∈ lw_all := lw_g (lw_at lw_m11 55 rfl) rfl
theorem q2545 : (Jvm.Cond.privateMethod ({ cls := "ReflectMirrorModel", name := "adds", desc := "(IJJII)V" } : Jvm.MethodName)) ∈ lw_tbl := lw_at lw_m11 56 rfl
theorem q2546 : (Jvm.Cond.instanceMethod ({ cls := "ReflectMirrorModel", name := "adds", desc := "(IJJII)V" } : Jvm.MethodName)) ∈ lw_all := lw_g (lw_at lw_m11 57 rfl) rfl
theorem q2547 : (Jvm.Cond.code ({ cls := "ReflectMirrorModel", name := "adds", desc := "(IJJII)V" } : Jvm.MethodName) prog_30_method_100_code (19 : Nat) (Option.none : Option Jvm.ClassFile.FieldType)) ∈ lw_all := lw_g (lw_at lw_m11 58 rfl) rfl
theorem q2548 : (Jvm.Cond.methodLink "ReflectMirrorModel" (440 : Nat) ({ cls := "ReflectMirrorModel", name := "doubleOf", desc := "(J)D" } : Jvm.MethodName)) ∈ lw_all := lw_g (lw_at lw_m11 59 rfl) rfl
theorem q2549 : (Jvm.Cond.static ({ cls := "ReflectMirrorModel", name := "doubleOf", desc := "(J)D" } : Jvm.MethodName)) ∈ lw_all := lw_g (lw_at lw_m11 60 rfl) rfl
theorem q2550 : (Jvm.Cond.code ({ cls := "ReflectMirrorModel", name := "doubleOf", desc := "(J)D" } : Jvm.MethodName) prog_30_method_60_code (7 : Nat) (Option.some Jvm.ClassFile.FieldType.double)) ∈ lw_all := lw_g (lw_at lw_m11 61 rfl) rfl
theorem q2551 : (Jvm.Cond.constantLong "ReflectMirrorModel" (274 : Nat) (4503599627370495 : Int64)) ∈ lw_all := lw_g (lw_at lw_m11 62 rfl) rfl
theorem q2552 : (Jvm.Cond.constantLong "ReflectMirrorModel" (276 : Nat) (2047 : Int64)) ∈ lw_all := lw_g (lw_at lw_m11 63 rfl) rfl
theorem q2553 : (Jvm.Cond.constantLong "ReflectMirrorModel" (284 : Nat) (4503599627370496 : Int64)) ∈ lw_all := lw_g (lw_at lw_m11 64 rfl) rfl
theorem q2554 : (Jvm.Cond.methodLink "ReflectMirrorModel" (458 : Nat) ({ cls := "ReflectMirrorModel", name := "opens", desc := "(II)V" } : Jvm.MethodName)) ∈ lw_all := lw_g (lw_at lw_m11 65 rfl) rfl
theorem q2555 : (Jvm.Cond.privateMethod ({ cls := "ReflectMirrorModel", name := "opens", desc := "(II)V" } : Jvm.MethodName)) ∈ lw_tbl := lw_at lw_m11 66 rfl
theorem q2556 : (Jvm.Cond.instanceMethod ({ cls := "ReflectMirrorModel", name := "opens", desc := "(II)V" } : Jvm.MethodName)) ∈ lw_all := lw_g (lw_at lw_m11 67 rfl) rfl
theorem q2557 : (Jvm.Cond.code ({ cls := "ReflectMirrorModel", name := "opens", desc := "(II)V" } : Jvm.MethodName) prog_30_method_102_code (5 : Nat) (Option.none : Option Jvm.ClassFile.FieldType)) ∈ lw_all := lw_g (lw_at lw_m11 68 rfl) rfl
theorem q2558 : (Jvm.Cond.methodLink "ReflectMirrorModel" (461 : Nat) ({ cls := "ReflectMirrorModel", name := "closeAll", desc := "()V" } : Jvm.MethodName)) ∈ lw_all := lw_g (lw_at lw_m11 69 rfl) rfl
theorem q2559 : (Jvm.Cond.privateMethod ({ cls := "ReflectMirrorModel", name := "closeAll", desc := "()V" } : Jvm.MethodName)) ∈ lw_tbl := lw_at lw_m11 70 rfl
theorem q2560 : (Jvm.Cond.instanceMethod ({ cls := "ReflectMirrorModel", name := "closeAll", desc := "()V" } : Jvm.MethodName)) ∈ lw_all := lw_g (lw_at lw_m11 71 rfl) rfl
theorem q2561 : (Jvm.Cond.code ({ cls := "ReflectMirrorModel", name := "closeAll", desc := "()V" } : Jvm.MethodName) prog_30_method_103_code (3 : Nat) (Option.none : Option Jvm.ClassFile.FieldType)) ∈ lw_all := lw_g (lw_at lw_m11 72 rfl) rfl
theorem q2563 : (Jvm.Cond.instanceMethod ({ cls := "ReflectMirrorModel", name := "cause", desc := "(I)I" } : Jvm.MethodName)) ∈ lw_all := lw_g (lw_at lw_m11 74 rfl) rfl
theorem q2564 : (Jvm.Cond.selects "ReflectMirrorModel" ({ cls := "ReflectMirrorModel", name := "cause", desc := "(I)I" } : Jvm.MethodName) ({ cls := "ReflectMirrorModel", name := "cause", desc := "(I)I" } : Jvm.MethodName)) ∈ lw_all := lw_g (lw_at lw_m11 75 rfl) rfl
theorem q2565 : (Jvm.Cond.code ({ cls := "ReflectMirrorModel", name := "cause", desc := "(I)I" } : Jvm.MethodName) prog_30_method_106_code (2 : Nat) (Option.some Jvm.ClassFile.FieldType.int)) ∈ lw_all := lw_g (lw_at lw_m11 76 rfl) rfl
theorem q2567 : (Jvm.Cond.instanceMethod ({ cls := "ReflectMirrorModel", name := "count", desc := "(I)I" } : Jvm.MethodName)) ∈ lw_all := lw_g (lw_at lw_m11 78 rfl) rfl
theorem q2568 : (Jvm.Cond.selects "ReflectMirrorModel" ({ cls := "ReflectMirrorModel", name := "count", desc := "(I)I" } : Jvm.MethodName) ({ cls := "ReflectMirrorModel", name := "count", desc := "(I)I" } : Jvm.MethodName)) ∈ lw_all := lw_g (lw_at lw_m11 79 rfl) rfl
theorem q2569 : (Jvm.Cond.code ({ cls := "ReflectMirrorModel", name := "count", desc := "(I)I" } : Jvm.MethodName) prog_30_method_107_code (2 : Nat) (Option.some Jvm.ClassFile.FieldType.int)) ∈ lw_all := lw_g (lw_at lw_m11 80 rfl) rfl
theorem q2595 : (Jvm.Cond.castable "ReflectMirrorModel" "java/lang/Object") ∈ lw_tbl := lw_at lw_m11 106 rfl
theorem in_X7 : ∀ w ∈ wsX70, w ∈ lw_all := lw_in wsX70 [2047, 2049, 2051, 2053, 2055, 2057, 2059, 2061, 2063, 2065, 2067, 2069, 2071, 2073, 2075, 2077, 2079, 2081, 2083, 2085, 2087, 2089, 2091, 2093, 2095, 2097, 2099, 2101, 2103, 2105, 2107, 2109, 2111, 2113, 2115, 2117, 2119, 2121, 2123, 2125, 2127, 2129, 2131, 2133, 2135, 2137, 2139, 2141, 2143, 2145, 2147, 2149] (by decide +kernel) (by decide +kernel)
