/-! ReflectMirror -/
set_option maxRecDepth 100000
def RX0 : String := "ReflectMirror"
def TX0 : u_T := fun k => match k with
  | 0 => ("ReflectMirror", "types", "[LReflectMirror$Type;", true)
  | 1 => ("ReflectMirror", "typeMany", "I", false)
  | 2 => ("ReflectMirror", "members", "[LReflectMirror$Member;", true)
  | 3 => ("ReflectMirror", "memberMany", "I", false)
  | 4 => ("ReflectMirror", "fieldMany", "I", false)
  | 5 => ("ReflectMirror", "things", "[LReflectMirror$Thing;", true)
  | 6 => ("ReflectMirror", "thingMany", "I", false)
  | 7 => ("ReflectMirror", "slots", "[LReflectMirror$Cell;", true)
  | 8 => ("ReflectMirror", "caller", "LReflectMirror$Type;", false)
  | 9 => ("ReflectMirror", "begun", "LReflectMirror$Tally;", true)
  | 10 => ("ReflectMirror", "ended", "LReflectMirror$Tally;", true)
  | 11 => ("ReflectMirror", "causeKind", "I", false)
  | 12 => ("ReflectMirror", "causeMethod", "I", false)
  | _ => ("ReflectMirror", "causeWithin", "I", false)
def tyX0 : Nat → FieldType := fun k => match k with
  | 0 => .array (.object "ReflectMirror$Type")
  | 1 => .int
  | 2 => .array (.object "ReflectMirror$Member")
  | 3 => .int
  | 4 => .int
  | 5 => .array (.object "ReflectMirror$Thing")
  | 6 => .int
  | 7 => .array (.object "ReflectMirror$Cell")
  | 8 => .object "ReflectMirror$Type"
  | 9 => .object "ReflectMirror$Tally"
  | 10 => .object "ReflectMirror$Tally"
  | 11 => .int
  | 12 => .int
  | _ => .int
abbrev wsX00 : List Cond := u_ws RX0 TX0 14
set_option maxRecDepth 100000 in
theorem nmX0 : ∀ a, a < 14 → ∀ b, b < 14 → a ≠ b → (TX0 a).2.1 ≠ (TX0 b).2.1 := by decide +kernel
set_option maxRecDepth 100000 in
theorem tyX0_ok : ∀ k, k < 14 → parseFieldDescriptor (TX0 k).2.2.1 = some (tyX0 k) := by decide +kernel
abbrev cX0_init : ByteArray := prog_1_method_27_code
def yX0_init : MethodName := ⟨RX0, "<init>", "()V"⟩
def dkwX0_init_6 : List UInt8 := [187, 0, 76, 89, 183, 0, 233, 83, 132, 1, 1, 167, 255, 234, 42, 182, 1, 161, 177]
abbrev dktX0_init_6 : List UInt8 := dkwX0_init_6 ++ []
def dkwX0_init_5 : List UInt8 := [42, 42, 180, 0, 7, 16, 8, 50, 181, 0, 198, 3, 60, 27, 16, 8, 162, 0, 22, 42, 180, 1, 83, 27]
abbrev dktX0_init_5 : List UInt8 := dkwX0_init_5 ++ dktX0_init_6
def dkwX0_init_4 : List UInt8 := [180, 0, 7, 16, 8, 187, 1, 156, 89, 16, 8, 3, 1, 3, 183, 1, 158, 83, 42, 16, 9, 181, 0, 1]
abbrev dktX0_init_4 : List UInt8 := dkwX0_init_4 ++ dktX0_init_5
def dkwX0_init_3 : List UInt8 := [162, 0, 23, 42, 180, 0, 7, 27, 187, 1, 153, 89, 27, 183, 1, 155, 83, 132, 1, 1, 167, 255, 233, 42]
abbrev dktX0_init_3 : List UInt8 := dkwX0_init_3 ++ dktX0_init_4
def dkwX0_init_2 : List UInt8 := [183, 1, 152, 181, 1, 39, 42, 187, 1, 44, 89, 183, 1, 152, 181, 1, 137, 3, 60, 27, 16, 8]
abbrev dktX0_init_2 : List UInt8 := dkwX0_init_2 ++ dktX0_init_3
def dkwX0_init_1 : List UInt8 := [16, 80, 189, 0, 193, 181, 1, 144, 42, 16, 8, 189, 0, 76, 181, 1, 83, 42, 187, 1, 44, 89]
abbrev dktX0_init_1 : List UInt8 := dkwX0_init_1 ++ dktX0_init_2
def dkwX0_init_0 : List UInt8 := [42, 183, 1, 149, 42, 16, 60, 189, 0, 12, 181, 0, 7, 42, 16, 100, 189, 0, 25, 181, 0, 20, 42]
abbrev dktX0_init_0 : List UInt8 := dkwX0_init_0 ++ dktX0_init_1
theorem dksX0_init_0 : cX0_init.data.toList.drop 0 = dktX0_init_0 := by decide +kernel
theorem dksX0_init_1 : cX0_init.data.toList.drop 23 = dktX0_init_1 := dk_seg dksX0_init_0 23 rfl rfl
theorem dksX0_init_2 : cX0_init.data.toList.drop 45 = dktX0_init_2 := dk_seg dksX0_init_1 22 rfl rfl
theorem dksX0_init_3 : cX0_init.data.toList.drop 67 = dktX0_init_3 := dk_seg dksX0_init_2 22 rfl rfl
theorem dksX0_init_4 : cX0_init.data.toList.drop 91 = dktX0_init_4 := dk_seg dksX0_init_3 24 rfl rfl
theorem dksX0_init_5 : cX0_init.data.toList.drop 115 = dktX0_init_5 := dk_seg dksX0_init_4 24 rfl rfl
theorem dksX0_init_6 : cX0_init.data.toList.drop 139 = dktX0_init_6 := dk_seg dksX0_init_5 24 rfl rfl
theorem dX0_init_0 : decode cX0_init 0 = .ok (.aload_n 0, 1) := dk_42 (dk_at dksX0_init_0 0 rfl rfl)
theorem dX0_init_1 : decode cX0_init 1 = .ok (.invokespecial 405, 3) := dk_183 1 149 (dk_at dksX0_init_0 1 rfl rfl)
theorem dX0_init_4 : decode cX0_init 4 = .ok (.aload_n 0, 1) := dk_42 (dk_at dksX0_init_0 4 rfl rfl)
theorem dX0_init_5 : decode cX0_init 5 = .ok (.bipush 60, 2) := dk_16 60 (dk_at dksX0_init_0 5 rfl rfl)
theorem dX0_init_7 : decode cX0_init 7 = .ok (.anewarray 12, 3) := dk_189 0 12 (dk_at dksX0_init_0 7 rfl rfl)
theorem dX0_init_10 : decode cX0_init 10 = .ok (.putfield 7, 3) := dk_181 0 7 (dk_at dksX0_init_0 10 rfl rfl)
theorem dX0_init_13 : decode cX0_init 13 = .ok (.aload_n 0, 1) := dk_42 (dk_at dksX0_init_0 13 rfl rfl)
theorem dX0_init_14 : decode cX0_init 14 = .ok (.bipush 100, 2) := dk_16 100 (dk_at dksX0_init_0 14 rfl rfl)
theorem dX0_init_16 : decode cX0_init 16 = .ok (.anewarray 25, 3) := dk_189 0 25 (dk_at dksX0_init_0 16 rfl rfl)
theorem dX0_init_19 : decode cX0_init 19 = .ok (.putfield 20, 3) := dk_181 0 20 (dk_at dksX0_init_0 19 rfl rfl)
theorem dX0_init_22 : decode cX0_init 22 = .ok (.aload_n 0, 1) := dk_42 (dk_at dksX0_init_0 22 rfl rfl)
theorem dX0_init_23 : decode cX0_init 23 = .ok (.bipush 80, 2) := dk_16 80 (dk_at dksX0_init_1 0 rfl rfl)
theorem dX0_init_25 : decode cX0_init 25 = .ok (.anewarray 193, 3) := dk_189 0 193 (dk_at dksX0_init_1 2 rfl rfl)
theorem dX0_init_28 : decode cX0_init 28 = .ok (.putfield 400, 3) := dk_181 1 144 (dk_at dksX0_init_1 5 rfl rfl)
theorem dX0_init_31 : decode cX0_init 31 = .ok (.aload_n 0, 1) := dk_42 (dk_at dksX0_init_1 8 rfl rfl)
theorem dX0_init_32 : decode cX0_init 32 = .ok (.bipush 8, 2) := dk_16 8 (dk_at dksX0_init_1 9 rfl rfl)
theorem dX0_init_34 : decode cX0_init 34 = .ok (.anewarray 76, 3) := dk_189 0 76 (dk_at dksX0_init_1 11 rfl rfl)
theorem dX0_init_37 : decode cX0_init 37 = .ok (.putfield 339, 3) := dk_181 1 83 (dk_at dksX0_init_1 14 rfl rfl)
theorem dX0_init_40 : decode cX0_init 40 = .ok (.aload_n 0, 1) := dk_42 (dk_at dksX0_init_1 17 rfl rfl)
theorem dX0_init_41 : decode cX0_init 41 = .ok (.new 300, 3) := dk_187 1 44 (dk_at dksX0_init_1 18 rfl rfl)
theorem dX0_init_44 : decode cX0_init 44 = .ok (.dup, 1) := dk_89 (dk_at dksX0_init_1 21 rfl rfl)
theorem dX0_init_45 : decode cX0_init 45 = .ok (.invokespecial 408, 3) := dk_183 1 152 (dk_at dksX0_init_2 0 rfl rfl)
theorem dX0_init_48 : decode cX0_init 48 = .ok (.putfield 295, 3) := dk_181 1 39 (dk_at dksX0_init_2 3 rfl rfl)
theorem dX0_init_51 : decode cX0_init 51 = .ok (.aload_n 0, 1) := dk_42 (dk_at dksX0_init_2 6 rfl rfl)
theorem dX0_init_52 : decode cX0_init 52 = .ok (.new 300, 3) := dk_187 1 44 (dk_at dksX0_init_2 7 rfl rfl)
theorem dX0_init_55 : decode cX0_init 55 = .ok (.dup, 1) := dk_89 (dk_at dksX0_init_2 10 rfl rfl)
theorem dX0_init_56 : decode cX0_init 56 = .ok (.invokespecial 408, 3) := dk_183 1 152 (dk_at dksX0_init_2 11 rfl rfl)
theorem dX0_init_59 : decode cX0_init 59 = .ok (.putfield 393, 3) := dk_181 1 137 (dk_at dksX0_init_2 14 rfl rfl)
theorem dX0_init_62 : decode cX0_init 62 = .ok (.iconst 0, 1) := dk_3 (dk_at dksX0_init_2 17 rfl rfl)
theorem dX0_init_63 : decode cX0_init 63 = .ok (.istore_n 1, 1) := dk_60 (dk_at dksX0_init_2 18 rfl rfl)
theorem dX0_init_64 : decode cX0_init 64 = .ok (.iload_n 1, 1) := dk_27 (dk_at dksX0_init_2 19 rfl rfl)
theorem dX0_init_65 : decode cX0_init 65 = .ok (.bipush 8, 2) := dk_16 8 (dk_at dksX0_init_2 20 rfl rfl)
theorem dX0_init_67 : decode cX0_init 67 = .ok (.if_icmp .ge 23, 3) := dk_162 0 23 (dk_at dksX0_init_3 0 rfl rfl)
theorem dX0_init_70 : decode cX0_init 70 = .ok (.aload_n 0, 1) := dk_42 (dk_at dksX0_init_3 3 rfl rfl)
theorem dX0_init_71 : decode cX0_init 71 = .ok (.getfield 7, 3) := dk_180 0 7 (dk_at dksX0_init_3 4 rfl rfl)
theorem dX0_init_74 : decode cX0_init 74 = .ok (.iload_n 1, 1) := dk_27 (dk_at dksX0_init_3 7 rfl rfl)
theorem dX0_init_75 : decode cX0_init 75 = .ok (.new 409, 3) := dk_187 1 153 (dk_at dksX0_init_3 8 rfl rfl)
theorem dX0_init_78 : decode cX0_init 78 = .ok (.dup, 1) := dk_89 (dk_at dksX0_init_3 11 rfl rfl)
theorem dX0_init_79 : decode cX0_init 79 = .ok (.iload_n 1, 1) := dk_27 (dk_at dksX0_init_3 12 rfl rfl)
theorem dX0_init_80 : decode cX0_init 80 = .ok (.invokespecial 411, 3) := dk_183 1 155 (dk_at dksX0_init_3 13 rfl rfl)
theorem dX0_init_83 : decode cX0_init 83 = .ok (.aastore, 1) := dk_83 (dk_at dksX0_init_3 16 rfl rfl)
theorem dX0_init_84 : decode cX0_init 84 = .ok (.iinc 1 1, 3) := dk_132 1 1 (dk_at dksX0_init_3 17 rfl rfl)
theorem dX0_init_87 : decode cX0_init 87 = .ok (.goto (-23), 3) := dk_167 255 233 (dk_at dksX0_init_3 20 rfl rfl)
theorem dX0_init_90 : decode cX0_init 90 = .ok (.aload_n 0, 1) := dk_42 (dk_at dksX0_init_3 23 rfl rfl)
theorem dX0_init_91 : decode cX0_init 91 = .ok (.getfield 7, 3) := dk_180 0 7 (dk_at dksX0_init_4 0 rfl rfl)
theorem dX0_init_94 : decode cX0_init 94 = .ok (.bipush 8, 2) := dk_16 8 (dk_at dksX0_init_4 3 rfl rfl)
theorem dX0_init_96 : decode cX0_init 96 = .ok (.new 412, 3) := dk_187 1 156 (dk_at dksX0_init_4 5 rfl rfl)
theorem dX0_init_99 : decode cX0_init 99 = .ok (.dup, 1) := dk_89 (dk_at dksX0_init_4 8 rfl rfl)
theorem dX0_init_100 : decode cX0_init 100 = .ok (.bipush 8, 2) := dk_16 8 (dk_at dksX0_init_4 9 rfl rfl)
theorem dX0_init_102 : decode cX0_init 102 = .ok (.iconst 0, 1) := dk_3 (dk_at dksX0_init_4 11 rfl rfl)
theorem dX0_init_103 : decode cX0_init 103 = .ok (.aconst_null, 1) := dk_1 (dk_at dksX0_init_4 12 rfl rfl)
theorem dX0_init_104 : decode cX0_init 104 = .ok (.iconst 0, 1) := dk_3 (dk_at dksX0_init_4 13 rfl rfl)
theorem dX0_init_105 : decode cX0_init 105 = .ok (.invokespecial 414, 3) := dk_183 1 158 (dk_at dksX0_init_4 14 rfl rfl)
theorem dX0_init_108 : decode cX0_init 108 = .ok (.aastore, 1) := dk_83 (dk_at dksX0_init_4 17 rfl rfl)
theorem dX0_init_109 : decode cX0_init 109 = .ok (.aload_n 0, 1) := dk_42 (dk_at dksX0_init_4 18 rfl rfl)
theorem dX0_init_110 : decode cX0_init 110 = .ok (.bipush 9, 2) := dk_16 9 (dk_at dksX0_init_4 19 rfl rfl)
theorem dX0_init_112 : decode cX0_init 112 = .ok (.putfield 1, 3) := dk_181 0 1 (dk_at dksX0_init_4 21 rfl rfl)
theorem dX0_init_115 : decode cX0_init 115 = .ok (.aload_n 0, 1) := dk_42 (dk_at dksX0_init_5 0 rfl rfl)
theorem dX0_init_116 : decode cX0_init 116 = .ok (.aload_n 0, 1) := dk_42 (dk_at dksX0_init_5 1 rfl rfl)
theorem dX0_init_117 : decode cX0_init 117 = .ok (.getfield 7, 3) := dk_180 0 7 (dk_at dksX0_init_5 2 rfl rfl)
theorem dX0_init_120 : decode cX0_init 120 = .ok (.bipush 8, 2) := dk_16 8 (dk_at dksX0_init_5 5 rfl rfl)
theorem dX0_init_122 : decode cX0_init 122 = .ok (.aaload, 1) := dk_50 (dk_at dksX0_init_5 7 rfl rfl)
theorem dX0_init_123 : decode cX0_init 123 = .ok (.putfield 198, 3) := dk_181 0 198 (dk_at dksX0_init_5 8 rfl rfl)
theorem dX0_init_126 : decode cX0_init 126 = .ok (.iconst 0, 1) := dk_3 (dk_at dksX0_init_5 11 rfl rfl)
theorem dX0_init_127 : decode cX0_init 127 = .ok (.istore_n 1, 1) := dk_60 (dk_at dksX0_init_5 12 rfl rfl)
theorem dX0_init_128 : decode cX0_init 128 = .ok (.iload_n 1, 1) := dk_27 (dk_at dksX0_init_5 13 rfl rfl)
theorem dX0_init_129 : decode cX0_init 129 = .ok (.bipush 8, 2) := dk_16 8 (dk_at dksX0_init_5 14 rfl rfl)
theorem dX0_init_131 : decode cX0_init 131 = .ok (.if_icmp .ge 22, 3) := dk_162 0 22 (dk_at dksX0_init_5 16 rfl rfl)
theorem dX0_init_134 : decode cX0_init 134 = .ok (.aload_n 0, 1) := dk_42 (dk_at dksX0_init_5 19 rfl rfl)
theorem dX0_init_135 : decode cX0_init 135 = .ok (.getfield 339, 3) := dk_180 1 83 (dk_at dksX0_init_5 20 rfl rfl)
theorem dX0_init_138 : decode cX0_init 138 = .ok (.iload_n 1, 1) := dk_27 (dk_at dksX0_init_5 23 rfl rfl)
theorem dX0_init_139 : decode cX0_init 139 = .ok (.new 76, 3) := dk_187 0 76 (dk_at dksX0_init_6 0 rfl rfl)
theorem dX0_init_142 : decode cX0_init 142 = .ok (.dup, 1) := dk_89 (dk_at dksX0_init_6 3 rfl rfl)
theorem dX0_init_143 : decode cX0_init 143 = .ok (.invokespecial 233, 3) := dk_183 0 233 (dk_at dksX0_init_6 4 rfl rfl)
theorem dX0_init_146 : decode cX0_init 146 = .ok (.aastore, 1) := dk_83 (dk_at dksX0_init_6 7 rfl rfl)
theorem dX0_init_147 : decode cX0_init 147 = .ok (.iinc 1 1, 3) := dk_132 1 1 (dk_at dksX0_init_6 8 rfl rfl)
theorem dX0_init_150 : decode cX0_init 150 = .ok (.goto (-22), 3) := dk_167 255 234 (dk_at dksX0_init_6 11 rfl rfl)
theorem dX0_init_153 : decode cX0_init 153 = .ok (.aload_n 0, 1) := dk_42 (dk_at dksX0_init_6 14 rfl rfl)
theorem dX0_init_154 : decode cX0_init 154 = .ok (.invokevirtual 417, 3) := dk_182 1 161 (dk_at dksX0_init_6 15 rfl rfl)
theorem dX0_init_157 : decode cX0_init 157 = .ok (.return_, 1) := dk_177 (dk_at dksX0_init_6 18 rfl rfl)
abbrev cX0_climb : ByteArray := prog_1_method_2_code
def yX0_climb : MethodName := ⟨RX0, "climb", "()V"⟩
def dkwX0_climb_1 : List UInt8 := [182, 0, 11, 132, 1, 1, 167, 255, 229, 177]
abbrev dktX0_climb_1 : List UInt8 := dkwX0_climb_1 ++ []
def dkwX0_climb_0 : List UInt8 := [3, 60, 27, 42, 180, 0, 1, 162, 0, 25, 42, 180, 0, 7, 27, 50, 42, 180, 0, 7, 16, 8, 50]
abbrev dktX0_climb_0 : List UInt8 := dkwX0_climb_0 ++ dktX0_climb_1
theorem dksX0_climb_0 : cX0_climb.data.toList.drop 0 = dktX0_climb_0 := by decide +kernel
theorem dksX0_climb_1 : cX0_climb.data.toList.drop 23 = dktX0_climb_1 := dk_seg dksX0_climb_0 23 rfl rfl
theorem dX0_climb_0 : decode cX0_climb 0 = .ok (.iconst 0, 1) := dk_3 (dk_at dksX0_climb_0 0 rfl rfl)
theorem dX0_climb_1 : decode cX0_climb 1 = .ok (.istore_n 1, 1) := dk_60 (dk_at dksX0_climb_0 1 rfl rfl)
theorem dX0_climb_2 : decode cX0_climb 2 = .ok (.iload_n 1, 1) := dk_27 (dk_at dksX0_climb_0 2 rfl rfl)
theorem dX0_climb_3 : decode cX0_climb 3 = .ok (.aload_n 0, 1) := dk_42 (dk_at dksX0_climb_0 3 rfl rfl)
theorem dX0_climb_4 : decode cX0_climb 4 = .ok (.getfield 1, 3) := dk_180 0 1 (dk_at dksX0_climb_0 4 rfl rfl)
theorem dX0_climb_7 : decode cX0_climb 7 = .ok (.if_icmp .ge 25, 3) := dk_162 0 25 (dk_at dksX0_climb_0 7 rfl rfl)
theorem dX0_climb_10 : decode cX0_climb 10 = .ok (.aload_n 0, 1) := dk_42 (dk_at dksX0_climb_0 10 rfl rfl)
theorem dX0_climb_11 : decode cX0_climb 11 = .ok (.getfield 7, 3) := dk_180 0 7 (dk_at dksX0_climb_0 11 rfl rfl)
theorem dX0_climb_14 : decode cX0_climb 14 = .ok (.iload_n 1, 1) := dk_27 (dk_at dksX0_climb_0 14 rfl rfl)
theorem dX0_climb_15 : decode cX0_climb 15 = .ok (.aaload, 1) := dk_50 (dk_at dksX0_climb_0 15 rfl rfl)
theorem dX0_climb_16 : decode cX0_climb 16 = .ok (.aload_n 0, 1) := dk_42 (dk_at dksX0_climb_0 16 rfl rfl)
theorem dX0_climb_17 : decode cX0_climb 17 = .ok (.getfield 7, 3) := dk_180 0 7 (dk_at dksX0_climb_0 17 rfl rfl)
theorem dX0_climb_20 : decode cX0_climb 20 = .ok (.bipush 8, 2) := dk_16 8 (dk_at dksX0_climb_0 20 rfl rfl)
theorem dX0_climb_22 : decode cX0_climb 22 = .ok (.aaload, 1) := dk_50 (dk_at dksX0_climb_0 22 rfl rfl)
theorem dX0_climb_23 : decode cX0_climb 23 = .ok (.invokevirtual 11, 3) := dk_182 0 11 (dk_at dksX0_climb_1 0 rfl rfl)
theorem dX0_climb_26 : decode cX0_climb 26 = .ok (.iinc 1 1, 3) := dk_132 1 1 (dk_at dksX0_climb_1 3 rfl rfl)
theorem dX0_climb_29 : decode cX0_climb 29 = .ok (.goto (-27), 3) := dk_167 255 229 (dk_at dksX0_climb_1 6 rfl rfl)
theorem dX0_climb_32 : decode cX0_climb 32 = .ok (.return_, 1) := dk_177 (dk_at dksX0_climb_1 9 rfl rfl)
abbrev cX0_type : ByteArray := prog_1_method_34_code
def yX0_type : MethodName := ⟨RX0, "type", "(IIZ)I"⟩
def dkwX0_type_3 : List UInt8 := [182, 1, 181, 172]
abbrev dktX0_type_3 : List UInt8 := dkwX0_type_3 ++ []
def dkwX0_type_2 : List UInt8 := [167, 0, 26, 42, 187, 1, 156, 89, 42, 180, 0, 1, 28, 42, 180, 0, 7, 27, 50, 29, 183, 1, 158]
abbrev dktX0_type_2 : List UInt8 := dkwX0_type_2 ++ dktX0_type_3
def dkwX0_type_1 : List UInt8 := [20, 1, 179, 184, 1, 163, 154, 0, 5, 2, 172, 42, 180, 0, 1, 16, 60, 160, 0, 8, 16, 253]
abbrev dktX0_type_1 : List UInt8 := dkwX0_type_1 ++ dktX0_type_2
def dkwX0_type_0 : List UInt8 := [42, 27, 182, 1, 173, 153, 0, 27, 42, 180, 0, 7, 27, 50, 182, 1, 176, 153, 0, 15, 28, 133, 9]
abbrev dktX0_type_0 : List UInt8 := dkwX0_type_0 ++ dktX0_type_1
theorem dksX0_type_0 : cX0_type.data.toList.drop 0 = dktX0_type_0 := by decide +kernel
theorem dksX0_type_1 : cX0_type.data.toList.drop 23 = dktX0_type_1 := dk_seg dksX0_type_0 23 rfl rfl
theorem dksX0_type_2 : cX0_type.data.toList.drop 45 = dktX0_type_2 := dk_seg dksX0_type_1 22 rfl rfl
theorem dksX0_type_3 : cX0_type.data.toList.drop 68 = dktX0_type_3 := dk_seg dksX0_type_2 23 rfl rfl
theorem dX0_type_0 : decode cX0_type 0 = .ok (.aload_n 0, 1) := dk_42 (dk_at dksX0_type_0 0 rfl rfl)
theorem dX0_type_1 : decode cX0_type 1 = .ok (.iload_n 1, 1) := dk_27 (dk_at dksX0_type_0 1 rfl rfl)
theorem dX0_type_2 : decode cX0_type 2 = .ok (.invokevirtual 429, 3) := dk_182 1 173 (dk_at dksX0_type_0 2 rfl rfl)
theorem dX0_type_5 : decode cX0_type 5 = .ok (.ifCond .eq 27, 3) := dk_153 0 27 (dk_at dksX0_type_0 5 rfl rfl)
theorem dX0_type_8 : decode cX0_type 8 = .ok (.aload_n 0, 1) := dk_42 (dk_at dksX0_type_0 8 rfl rfl)
theorem dX0_type_9 : decode cX0_type 9 = .ok (.getfield 7, 3) := dk_180 0 7 (dk_at dksX0_type_0 9 rfl rfl)
theorem dX0_type_12 : decode cX0_type 12 = .ok (.iload_n 1, 1) := dk_27 (dk_at dksX0_type_0 12 rfl rfl)
theorem dX0_type_13 : decode cX0_type 13 = .ok (.aaload, 1) := dk_50 (dk_at dksX0_type_0 13 rfl rfl)
theorem dX0_type_14 : decode cX0_type 14 = .ok (.invokevirtual 432, 3) := dk_182 1 176 (dk_at dksX0_type_0 14 rfl rfl)
theorem dX0_type_17 : decode cX0_type 17 = .ok (.ifCond .eq 15, 3) := dk_153 0 15 (dk_at dksX0_type_0 17 rfl rfl)
theorem dX0_type_20 : decode cX0_type 20 = .ok (.iload_n 2, 1) := dk_28 (dk_at dksX0_type_0 20 rfl rfl)
theorem dX0_type_21 : decode cX0_type 21 = .ok (.i2l, 1) := dk_133 (dk_at dksX0_type_0 21 rfl rfl)
theorem dX0_type_22 : decode cX0_type 22 = .ok (.lconst 0, 1) := dk_9 (dk_at dksX0_type_0 22 rfl rfl)
theorem dX0_type_23 : decode cX0_type 23 = .ok (.ldc2_w 435, 3) := dk_20 1 179 (dk_at dksX0_type_1 0 rfl rfl)
theorem dX0_type_26 : decode cX0_type 26 = .ok (.invokestatic 419, 3) := dk_184 1 163 (dk_at dksX0_type_1 3 rfl rfl)
theorem dX0_type_29 : decode cX0_type 29 = .ok (.ifCond .ne 5, 3) := dk_154 0 5 (dk_at dksX0_type_1 6 rfl rfl)
theorem dX0_type_32 : decode cX0_type 32 = .ok (.iconst (-1), 1) := dk_2 (dk_at dksX0_type_1 9 rfl rfl)
theorem dX0_type_33 : decode cX0_type 33 = .ok (.ireturn, 1) := dk_172 (dk_at dksX0_type_1 10 rfl rfl)
theorem dX0_type_34 : decode cX0_type 34 = .ok (.aload_n 0, 1) := dk_42 (dk_at dksX0_type_1 11 rfl rfl)
theorem dX0_type_35 : decode cX0_type 35 = .ok (.getfield 1, 3) := dk_180 0 1 (dk_at dksX0_type_1 12 rfl rfl)
theorem dX0_type_38 : decode cX0_type 38 = .ok (.bipush 60, 2) := dk_16 60 (dk_at dksX0_type_1 15 rfl rfl)
theorem dX0_type_40 : decode cX0_type 40 = .ok (.if_icmp .ne 8, 3) := dk_160 0 8 (dk_at dksX0_type_1 17 rfl rfl)
theorem dX0_type_43 : decode cX0_type 43 = .ok (.bipush (-3), 2) := dk_16 253 (dk_at dksX0_type_1 20 rfl rfl)
theorem dX0_type_45 : decode cX0_type 45 = .ok (.goto 26, 3) := dk_167 0 26 (dk_at dksX0_type_2 0 rfl rfl)
theorem dX0_type_48 : decode cX0_type 48 = .ok (.aload_n 0, 1) := dk_42 (dk_at dksX0_type_2 3 rfl rfl)
theorem dX0_type_49 : decode cX0_type 49 = .ok (.new 412, 3) := dk_187 1 156 (dk_at dksX0_type_2 4 rfl rfl)
theorem dX0_type_52 : decode cX0_type 52 = .ok (.dup, 1) := dk_89 (dk_at dksX0_type_2 7 rfl rfl)
theorem dX0_type_53 : decode cX0_type 53 = .ok (.aload_n 0, 1) := dk_42 (dk_at dksX0_type_2 8 rfl rfl)
theorem dX0_type_54 : decode cX0_type 54 = .ok (.getfield 1, 3) := dk_180 0 1 (dk_at dksX0_type_2 9 rfl rfl)
theorem dX0_type_57 : decode cX0_type 57 = .ok (.iload_n 2, 1) := dk_28 (dk_at dksX0_type_2 12 rfl rfl)
theorem dX0_type_58 : decode cX0_type 58 = .ok (.aload_n 0, 1) := dk_42 (dk_at dksX0_type_2 13 rfl rfl)
theorem dX0_type_59 : decode cX0_type 59 = .ok (.getfield 7, 3) := dk_180 0 7 (dk_at dksX0_type_2 14 rfl rfl)
theorem dX0_type_62 : decode cX0_type 62 = .ok (.iload_n 1, 1) := dk_27 (dk_at dksX0_type_2 17 rfl rfl)
theorem dX0_type_63 : decode cX0_type 63 = .ok (.aaload, 1) := dk_50 (dk_at dksX0_type_2 18 rfl rfl)
theorem dX0_type_64 : decode cX0_type 64 = .ok (.iload_n 3, 1) := dk_29 (dk_at dksX0_type_2 19 rfl rfl)
theorem dX0_type_65 : decode cX0_type 65 = .ok (.invokespecial 414, 3) := dk_183 1 158 (dk_at dksX0_type_2 20 rfl rfl)
theorem dX0_type_68 : decode cX0_type 68 = .ok (.invokevirtual 437, 3) := dk_182 1 181 (dk_at dksX0_type_3 0 rfl rfl)
theorem dX0_type_71 : decode cX0_type 71 = .ok (.ireturn, 1) := dk_172 (dk_at dksX0_type_3 3 rfl rfl)
abbrev cX0_isType : ByteArray := prog_1_method_28_code
def yX0_isType : MethodName := ⟨RX0, "isType", "(I)Z"⟩
def dkwX0_isType_0 : List UInt8 := [27, 133, 9, 42, 180, 0, 1, 4, 100, 133, 184, 1, 163, 172]
abbrev dktX0_isType_0 : List UInt8 := dkwX0_isType_0 ++ []
theorem dksX0_isType_0 : cX0_isType.data.toList.drop 0 = dktX0_isType_0 := by decide +kernel
theorem dX0_isType_0 : decode cX0_isType 0 = .ok (.iload_n 1, 1) := dk_27 (dk_at dksX0_isType_0 0 rfl rfl)
theorem dX0_isType_1 : decode cX0_isType 1 = .ok (.i2l, 1) := dk_133 (dk_at dksX0_isType_0 1 rfl rfl)
theorem dX0_isType_2 : decode cX0_isType 2 = .ok (.lconst 0, 1) := dk_9 (dk_at dksX0_isType_0 2 rfl rfl)
theorem dX0_isType_3 : decode cX0_isType 3 = .ok (.aload_n 0, 1) := dk_42 (dk_at dksX0_isType_0 3 rfl rfl)
theorem dX0_isType_4 : decode cX0_isType 4 = .ok (.getfield 1, 3) := dk_180 0 1 (dk_at dksX0_isType_0 4 rfl rfl)
theorem dX0_isType_7 : decode cX0_isType 7 = .ok (.iconst 1, 1) := dk_4 (dk_at dksX0_isType_0 7 rfl rfl)
theorem dX0_isType_8 : decode cX0_isType 8 = .ok (.isub, 1) := dk_100 (dk_at dksX0_isType_0 8 rfl rfl)
theorem dX0_isType_9 : decode cX0_isType 9 = .ok (.i2l, 1) := dk_133 (dk_at dksX0_isType_0 9 rfl rfl)
theorem dX0_isType_10 : decode cX0_isType 10 = .ok (.invokestatic 419, 3) := dk_184 1 163 (dk_at dksX0_isType_0 10 rfl rfl)
theorem dX0_isType_13 : decode cX0_isType 13 = .ok (.ireturn, 1) := dk_172 (dk_at dksX0_isType_0 13 rfl rfl)
abbrev cX0_isIn : ByteArray := prog_1_method_1_code
def yX0_isIn : MethodName := ⟨RX0, "isIn", "(JJJ)Z"⟩
def dkwX0_isIn_0 : List UInt8 := [30, 32, 148, 155, 0, 14, 30, 22, 4, 148, 157, 0, 7, 4, 167, 0, 4, 3, 172]
abbrev dktX0_isIn_0 : List UInt8 := dkwX0_isIn_0 ++ []
theorem dksX0_isIn_0 : cX0_isIn.data.toList.drop 0 = dktX0_isIn_0 := by decide +kernel
theorem dX0_isIn_0 : decode cX0_isIn 0 = .ok (.lload_n 0, 1) := dk_30 (dk_at dksX0_isIn_0 0 rfl rfl)
theorem dX0_isIn_1 : decode cX0_isIn 1 = .ok (.lload_n 2, 1) := dk_32 (dk_at dksX0_isIn_0 1 rfl rfl)
theorem dX0_isIn_2 : decode cX0_isIn 2 = .ok (.lcmp, 1) := dk_148 (dk_at dksX0_isIn_0 2 rfl rfl)
theorem dX0_isIn_3 : decode cX0_isIn 3 = .ok (.ifCond .lt 14, 3) := dk_155 0 14 (dk_at dksX0_isIn_0 3 rfl rfl)
theorem dX0_isIn_6 : decode cX0_isIn 6 = .ok (.lload_n 0, 1) := dk_30 (dk_at dksX0_isIn_0 6 rfl rfl)
theorem dX0_isIn_7 : decode cX0_isIn 7 = .ok (.lload 4, 2) := dk_22 4 (dk_at dksX0_isIn_0 7 rfl rfl)
theorem dX0_isIn_9 : decode cX0_isIn 9 = .ok (.lcmp, 1) := dk_148 (dk_at dksX0_isIn_0 9 rfl rfl)
theorem dX0_isIn_10 : decode cX0_isIn 10 = .ok (.ifCond .gt 7, 3) := dk_157 0 7 (dk_at dksX0_isIn_0 10 rfl rfl)
theorem dX0_isIn_13 : decode cX0_isIn 13 = .ok (.iconst 1, 1) := dk_4 (dk_at dksX0_isIn_0 13 rfl rfl)
theorem dX0_isIn_14 : decode cX0_isIn 14 = .ok (.goto 4, 3) := dk_167 0 4 (dk_at dksX0_isIn_0 14 rfl rfl)
theorem dX0_isIn_17 : decode cX0_isIn 17 = .ok (.iconst 0, 1) := dk_3 (dk_at dksX0_isIn_0 17 rfl rfl)
theorem dX0_isIn_18 : decode cX0_isIn 18 = .ok (.ireturn, 1) := dk_172 (dk_at dksX0_isIn_0 18 rfl rfl)
abbrev cX0_add : ByteArray := prog_1_method_33_code
def yX0_add : MethodName := ⟨RX0, "add", "(LReflectMirror$Type;)I"⟩
def dkwX0_add_1 : List UInt8 := [180, 0, 7, 16, 8, 50, 182, 0, 11, 43, 182, 1, 172, 172]
abbrev dktX0_add_1 : List UInt8 := dkwX0_add_1 ++ []
def dkwX0_add_0 : List UInt8 := [42, 180, 0, 7, 42, 180, 0, 1, 43, 83, 42, 89, 180, 0, 1, 4, 96, 181, 0, 1, 43, 42]
abbrev dktX0_add_0 : List UInt8 := dkwX0_add_0 ++ dktX0_add_1
theorem dksX0_add_0 : cX0_add.data.toList.drop 0 = dktX0_add_0 := by decide +kernel
theorem dksX0_add_1 : cX0_add.data.toList.drop 22 = dktX0_add_1 := dk_seg dksX0_add_0 22 rfl rfl
theorem dX0_add_0 : decode cX0_add 0 = .ok (.aload_n 0, 1) := dk_42 (dk_at dksX0_add_0 0 rfl rfl)
theorem dX0_add_1 : decode cX0_add 1 = .ok (.getfield 7, 3) := dk_180 0 7 (dk_at dksX0_add_0 1 rfl rfl)
theorem dX0_add_4 : decode cX0_add 4 = .ok (.aload_n 0, 1) := dk_42 (dk_at dksX0_add_0 4 rfl rfl)
theorem dX0_add_5 : decode cX0_add 5 = .ok (.getfield 1, 3) := dk_180 0 1 (dk_at dksX0_add_0 5 rfl rfl)
theorem dX0_add_8 : decode cX0_add 8 = .ok (.aload_n 1, 1) := dk_43 (dk_at dksX0_add_0 8 rfl rfl)
theorem dX0_add_9 : decode cX0_add 9 = .ok (.aastore, 1) := dk_83 (dk_at dksX0_add_0 9 rfl rfl)
theorem dX0_add_10 : decode cX0_add 10 = .ok (.aload_n 0, 1) := dk_42 (dk_at dksX0_add_0 10 rfl rfl)
theorem dX0_add_11 : decode cX0_add 11 = .ok (.dup, 1) := dk_89 (dk_at dksX0_add_0 11 rfl rfl)
theorem dX0_add_12 : decode cX0_add 12 = .ok (.getfield 1, 3) := dk_180 0 1 (dk_at dksX0_add_0 12 rfl rfl)
theorem dX0_add_15 : decode cX0_add 15 = .ok (.iconst 1, 1) := dk_4 (dk_at dksX0_add_0 15 rfl rfl)
theorem dX0_add_16 : decode cX0_add 16 = .ok (.iadd, 1) := dk_96 (dk_at dksX0_add_0 16 rfl rfl)
theorem dX0_add_17 : decode cX0_add 17 = .ok (.putfield 1, 3) := dk_181 0 1 (dk_at dksX0_add_0 17 rfl rfl)
theorem dX0_add_20 : decode cX0_add 20 = .ok (.aload_n 1, 1) := dk_43 (dk_at dksX0_add_0 20 rfl rfl)
theorem dX0_add_21 : decode cX0_add 21 = .ok (.aload_n 0, 1) := dk_42 (dk_at dksX0_add_0 21 rfl rfl)
theorem dX0_add_22 : decode cX0_add 22 = .ok (.getfield 7, 3) := dk_180 0 7 (dk_at dksX0_add_1 0 rfl rfl)
theorem dX0_add_25 : decode cX0_add 25 = .ok (.bipush 8, 2) := dk_16 8 (dk_at dksX0_add_1 3 rfl rfl)
theorem dX0_add_27 : decode cX0_add 27 = .ok (.aaload, 1) := dk_50 (dk_at dksX0_add_1 5 rfl rfl)
theorem dX0_add_28 : decode cX0_add 28 = .ok (.invokevirtual 11, 3) := dk_182 0 11 (dk_at dksX0_add_1 6 rfl rfl)
theorem dX0_add_31 : decode cX0_add 31 = .ok (.aload_n 1, 1) := dk_43 (dk_at dksX0_add_1 9 rfl rfl)
theorem dX0_add_32 : decode cX0_add 32 = .ok (.invokevirtual 428, 3) := dk_182 1 172 (dk_at dksX0_add_1 10 rfl rfl)
theorem dX0_add_35 : decode cX0_add 35 = .ok (.ireturn, 1) := dk_172 (dk_at dksX0_add_1 13 rfl rfl)
abbrev cX0_face : ByteArray := prog_1_method_35_code
def yX0_face : MethodName := ⟨RX0, "face", "(I)I"⟩
def dkwX0_face_1 : List UInt8 := [16, 253, 167, 0, 19, 42, 187, 1, 184, 89, 42, 180, 0, 1, 27, 183, 1, 186, 182, 1, 181, 172]
abbrev dktX0_face_1 : List UInt8 := dkwX0_face_1 ++ []
def dkwX0_face_0 : List UInt8 := [27, 133, 9, 20, 1, 179, 184, 1, 163, 154, 0, 5, 2, 172, 42, 180, 0, 1, 16, 60, 160, 0, 8]
abbrev dktX0_face_0 : List UInt8 := dkwX0_face_0 ++ dktX0_face_1
theorem dksX0_face_0 : cX0_face.data.toList.drop 0 = dktX0_face_0 := by decide +kernel
theorem dksX0_face_1 : cX0_face.data.toList.drop 23 = dktX0_face_1 := dk_seg dksX0_face_0 23 rfl rfl
theorem dX0_face_0 : decode cX0_face 0 = .ok (.iload_n 1, 1) := dk_27 (dk_at dksX0_face_0 0 rfl rfl)
theorem dX0_face_1 : decode cX0_face 1 = .ok (.i2l, 1) := dk_133 (dk_at dksX0_face_0 1 rfl rfl)
theorem dX0_face_2 : decode cX0_face 2 = .ok (.lconst 0, 1) := dk_9 (dk_at dksX0_face_0 2 rfl rfl)
theorem dX0_face_3 : decode cX0_face 3 = .ok (.ldc2_w 435, 3) := dk_20 1 179 (dk_at dksX0_face_0 3 rfl rfl)
theorem dX0_face_6 : decode cX0_face 6 = .ok (.invokestatic 419, 3) := dk_184 1 163 (dk_at dksX0_face_0 6 rfl rfl)
theorem dX0_face_9 : decode cX0_face 9 = .ok (.ifCond .ne 5, 3) := dk_154 0 5 (dk_at dksX0_face_0 9 rfl rfl)
theorem dX0_face_12 : decode cX0_face 12 = .ok (.iconst (-1), 1) := dk_2 (dk_at dksX0_face_0 12 rfl rfl)
theorem dX0_face_13 : decode cX0_face 13 = .ok (.ireturn, 1) := dk_172 (dk_at dksX0_face_0 13 rfl rfl)
theorem dX0_face_14 : decode cX0_face 14 = .ok (.aload_n 0, 1) := dk_42 (dk_at dksX0_face_0 14 rfl rfl)
theorem dX0_face_15 : decode cX0_face 15 = .ok (.getfield 1, 3) := dk_180 0 1 (dk_at dksX0_face_0 15 rfl rfl)
theorem dX0_face_18 : decode cX0_face 18 = .ok (.bipush 60, 2) := dk_16 60 (dk_at dksX0_face_0 18 rfl rfl)
theorem dX0_face_20 : decode cX0_face 20 = .ok (.if_icmp .ne 8, 3) := dk_160 0 8 (dk_at dksX0_face_0 20 rfl rfl)
theorem dX0_face_23 : decode cX0_face 23 = .ok (.bipush (-3), 2) := dk_16 253 (dk_at dksX0_face_1 0 rfl rfl)
theorem dX0_face_25 : decode cX0_face 25 = .ok (.goto 19, 3) := dk_167 0 19 (dk_at dksX0_face_1 2 rfl rfl)
theorem dX0_face_28 : decode cX0_face 28 = .ok (.aload_n 0, 1) := dk_42 (dk_at dksX0_face_1 5 rfl rfl)
theorem dX0_face_29 : decode cX0_face 29 = .ok (.new 440, 3) := dk_187 1 184 (dk_at dksX0_face_1 6 rfl rfl)
theorem dX0_face_32 : decode cX0_face 32 = .ok (.dup, 1) := dk_89 (dk_at dksX0_face_1 9 rfl rfl)
theorem dX0_face_33 : decode cX0_face 33 = .ok (.aload_n 0, 1) := dk_42 (dk_at dksX0_face_1 10 rfl rfl)
theorem dX0_face_34 : decode cX0_face 34 = .ok (.getfield 1, 3) := dk_180 0 1 (dk_at dksX0_face_1 11 rfl rfl)
theorem dX0_face_37 : decode cX0_face 37 = .ok (.iload_n 1, 1) := dk_27 (dk_at dksX0_face_1 14 rfl rfl)
theorem dX0_face_38 : decode cX0_face 38 = .ok (.invokespecial 442, 3) := dk_183 1 186 (dk_at dksX0_face_1 15 rfl rfl)
theorem dX0_face_41 : decode cX0_face 41 = .ok (.invokevirtual 437, 3) := dk_182 1 181 (dk_at dksX0_face_1 18 rfl rfl)
theorem dX0_face_44 : decode cX0_face 44 = .ok (.ireturn, 1) := dk_172 (dk_at dksX0_face_1 21 rfl rfl)
abbrev cX0_rows : ByteArray := prog_1_method_36_code
def yX0_rows : MethodName := ⟨RX0, "rows", "(I)I"⟩
def dkwX0_rows_3 : List UInt8 := [182, 1, 181, 172]
abbrev dktX0_rows_3 : List UInt8 := dkwX0_rows_3 ++ []
def dkwX0_rows_2 : List UInt8 := [89, 42, 180, 0, 1, 44, 42, 180, 0, 7, 16, 8, 50, 183, 1, 194, 181, 1, 189, 42, 44, 180, 1, 189]
abbrev dktX0_rows_2 : List UInt8 := dkwX0_rows_2 ++ dktX0_rows_3
def dkwX0_rows_1 : List UInt8 := [44, 180, 1, 189, 182, 1, 172, 172, 42, 180, 0, 1, 16, 60, 160, 0, 6, 16, 253, 172, 44, 187, 1, 192]
abbrev dktX0_rows_1 : List UInt8 := dkwX0_rows_1 ++ dktX0_rows_2
def dkwX0_rows_0 : List UInt8 := [42, 27, 182, 1, 173, 154, 0, 5, 2, 172, 42, 180, 0, 7, 27, 50, 77, 44, 180, 1, 189, 198, 0, 11]
abbrev dktX0_rows_0 : List UInt8 := dkwX0_rows_0 ++ dktX0_rows_1
theorem dksX0_rows_0 : cX0_rows.data.toList.drop 0 = dktX0_rows_0 := by decide +kernel
theorem dksX0_rows_1 : cX0_rows.data.toList.drop 24 = dktX0_rows_1 := dk_seg dksX0_rows_0 24 rfl rfl
theorem dksX0_rows_2 : cX0_rows.data.toList.drop 48 = dktX0_rows_2 := dk_seg dksX0_rows_1 24 rfl rfl
theorem dksX0_rows_3 : cX0_rows.data.toList.drop 72 = dktX0_rows_3 := dk_seg dksX0_rows_2 24 rfl rfl
theorem dX0_rows_0 : decode cX0_rows 0 = .ok (.aload_n 0, 1) := dk_42 (dk_at dksX0_rows_0 0 rfl rfl)
theorem dX0_rows_1 : decode cX0_rows 1 = .ok (.iload_n 1, 1) := dk_27 (dk_at dksX0_rows_0 1 rfl rfl)
theorem dX0_rows_2 : decode cX0_rows 2 = .ok (.invokevirtual 429, 3) := dk_182 1 173 (dk_at dksX0_rows_0 2 rfl rfl)
theorem dX0_rows_5 : decode cX0_rows 5 = .ok (.ifCond .ne 5, 3) := dk_154 0 5 (dk_at dksX0_rows_0 5 rfl rfl)
theorem dX0_rows_8 : decode cX0_rows 8 = .ok (.iconst (-1), 1) := dk_2 (dk_at dksX0_rows_0 8 rfl rfl)
theorem dX0_rows_9 : decode cX0_rows 9 = .ok (.ireturn, 1) := dk_172 (dk_at dksX0_rows_0 9 rfl rfl)
theorem dX0_rows_10 : decode cX0_rows 10 = .ok (.aload_n 0, 1) := dk_42 (dk_at dksX0_rows_0 10 rfl rfl)
theorem dX0_rows_11 : decode cX0_rows 11 = .ok (.getfield 7, 3) := dk_180 0 7 (dk_at dksX0_rows_0 11 rfl rfl)
theorem dX0_rows_14 : decode cX0_rows 14 = .ok (.iload_n 1, 1) := dk_27 (dk_at dksX0_rows_0 14 rfl rfl)
theorem dX0_rows_15 : decode cX0_rows 15 = .ok (.aaload, 1) := dk_50 (dk_at dksX0_rows_0 15 rfl rfl)
theorem dX0_rows_16 : decode cX0_rows 16 = .ok (.astore_n 2, 1) := dk_77 (dk_at dksX0_rows_0 16 rfl rfl)
theorem dX0_rows_17 : decode cX0_rows 17 = .ok (.aload_n 2, 1) := dk_44 (dk_at dksX0_rows_0 17 rfl rfl)
theorem dX0_rows_18 : decode cX0_rows 18 = .ok (.getfield 445, 3) := dk_180 1 189 (dk_at dksX0_rows_0 18 rfl rfl)
theorem dX0_rows_21 : decode cX0_rows 21 = .ok (.ifnull 11, 3) := dk_198 0 11 (dk_at dksX0_rows_0 21 rfl rfl)
theorem dX0_rows_24 : decode cX0_rows 24 = .ok (.aload_n 2, 1) := dk_44 (dk_at dksX0_rows_1 0 rfl rfl)
theorem dX0_rows_25 : decode cX0_rows 25 = .ok (.getfield 445, 3) := dk_180 1 189 (dk_at dksX0_rows_1 1 rfl rfl)
theorem dX0_rows_28 : decode cX0_rows 28 = .ok (.invokevirtual 428, 3) := dk_182 1 172 (dk_at dksX0_rows_1 4 rfl rfl)
theorem dX0_rows_31 : decode cX0_rows 31 = .ok (.ireturn, 1) := dk_172 (dk_at dksX0_rows_1 7 rfl rfl)
theorem dX0_rows_32 : decode cX0_rows 32 = .ok (.aload_n 0, 1) := dk_42 (dk_at dksX0_rows_1 8 rfl rfl)
theorem dX0_rows_33 : decode cX0_rows 33 = .ok (.getfield 1, 3) := dk_180 0 1 (dk_at dksX0_rows_1 9 rfl rfl)
theorem dX0_rows_36 : decode cX0_rows 36 = .ok (.bipush 60, 2) := dk_16 60 (dk_at dksX0_rows_1 12 rfl rfl)
theorem dX0_rows_38 : decode cX0_rows 38 = .ok (.if_icmp .ne 6, 3) := dk_160 0 6 (dk_at dksX0_rows_1 14 rfl rfl)
theorem dX0_rows_41 : decode cX0_rows 41 = .ok (.bipush (-3), 2) := dk_16 253 (dk_at dksX0_rows_1 17 rfl rfl)
theorem dX0_rows_43 : decode cX0_rows 43 = .ok (.ireturn, 1) := dk_172 (dk_at dksX0_rows_1 19 rfl rfl)
theorem dX0_rows_44 : decode cX0_rows 44 = .ok (.aload_n 2, 1) := dk_44 (dk_at dksX0_rows_1 20 rfl rfl)
theorem dX0_rows_45 : decode cX0_rows 45 = .ok (.new 448, 3) := dk_187 1 192 (dk_at dksX0_rows_1 21 rfl rfl)
theorem dX0_rows_48 : decode cX0_rows 48 = .ok (.dup, 1) := dk_89 (dk_at dksX0_rows_2 0 rfl rfl)
theorem dX0_rows_49 : decode cX0_rows 49 = .ok (.aload_n 0, 1) := dk_42 (dk_at dksX0_rows_2 1 rfl rfl)
theorem dX0_rows_50 : decode cX0_rows 50 = .ok (.getfield 1, 3) := dk_180 0 1 (dk_at dksX0_rows_2 2 rfl rfl)
theorem dX0_rows_53 : decode cX0_rows 53 = .ok (.aload_n 2, 1) := dk_44 (dk_at dksX0_rows_2 5 rfl rfl)
theorem dX0_rows_54 : decode cX0_rows 54 = .ok (.aload_n 0, 1) := dk_42 (dk_at dksX0_rows_2 6 rfl rfl)
theorem dX0_rows_55 : decode cX0_rows 55 = .ok (.getfield 7, 3) := dk_180 0 7 (dk_at dksX0_rows_2 7 rfl rfl)
theorem dX0_rows_58 : decode cX0_rows 58 = .ok (.bipush 8, 2) := dk_16 8 (dk_at dksX0_rows_2 10 rfl rfl)
theorem dX0_rows_60 : decode cX0_rows 60 = .ok (.aaload, 1) := dk_50 (dk_at dksX0_rows_2 12 rfl rfl)
theorem dX0_rows_61 : decode cX0_rows 61 = .ok (.invokespecial 450, 3) := dk_183 1 194 (dk_at dksX0_rows_2 13 rfl rfl)
theorem dX0_rows_64 : decode cX0_rows 64 = .ok (.putfield 445, 3) := dk_181 1 189 (dk_at dksX0_rows_2 16 rfl rfl)
theorem dX0_rows_67 : decode cX0_rows 67 = .ok (.aload_n 0, 1) := dk_42 (dk_at dksX0_rows_2 19 rfl rfl)
theorem dX0_rows_68 : decode cX0_rows 68 = .ok (.aload_n 2, 1) := dk_44 (dk_at dksX0_rows_2 20 rfl rfl)
theorem dX0_rows_69 : decode cX0_rows 69 = .ok (.getfield 445, 3) := dk_180 1 189 (dk_at dksX0_rows_2 21 rfl rfl)
theorem dX0_rows_72 : decode cX0_rows 72 = .ok (.invokevirtual 437, 3) := dk_182 1 181 (dk_at dksX0_rows_3 0 rfl rfl)
theorem dX0_rows_75 : decode cX0_rows 75 = .ok (.ireturn, 1) := dk_172 (dk_at dksX0_rows_3 3 rfl rfl)
abbrev cX0_implement : ByteArray := prog_1_method_37_code
def yX0_implement : MethodName := ⟨RX0, "implement", "(II)I"⟩
def dkwX0_implement_6 : List UInt8 := [83, 45, 89, 180, 1, 204, 4, 96, 181, 1, 204, 42, 182, 1, 161, 45, 180, 1, 204, 172]
abbrev dktX0_implement_6 : List UInt8 := dkwX0_implement_6 ++ []
def dkwX0_implement_5 : List UInt8 := [180, 1, 204, 6, 160, 0, 6, 16, 253, 172, 45, 180, 1, 207, 45, 180, 1, 204, 42, 180, 0, 7, 28, 50]
abbrev dktX0_implement_5 : List UInt8 := dkwX0_implement_5 ++ dktX0_implement_6
def dkwX0_implement_4 : List UInt8 := [166, 0, 6, 16, 254, 172, 132, 4, 1, 167, 255, 225, 42, 180, 1, 120, 158, 0, 6, 16, 254, 172, 45]
abbrev dktX0_implement_4 : List UInt8 := dkwX0_implement_4 ++ dktX0_implement_5
def dkwX0_implement_3 : List UInt8 := [54, 4, 21, 4, 45, 180, 1, 204, 162, 0, 28, 45, 180, 1, 207, 21, 4, 50, 42, 180, 0, 7, 28, 50]
abbrev dktX0_implement_3 : List UInt8 := dkwX0_implement_3 ++ dktX0_implement_4
def dkwX0_implement_2 : List UInt8 := [50, 42, 180, 0, 7, 28, 50, 182, 1, 200, 154, 0, 5, 2, 172, 42, 180, 0, 7, 27, 50, 78, 3]
abbrev dktX0_implement_2 : List UInt8 := dkwX0_implement_2 ++ dktX0_implement_3
def dkwX0_implement_1 : List UInt8 := [182, 1, 173, 153, 0, 34, 42, 180, 0, 7, 28, 50, 182, 0, 41, 6, 160, 0, 21, 42, 180, 0, 7, 27]
abbrev dktX0_implement_1 : List UInt8 := dkwX0_implement_1 ++ dktX0_implement_2
def dkwX0_implement_0 : List UInt8 := [42, 27, 182, 1, 173, 153, 0, 54, 42, 180, 0, 7, 27, 50, 182, 1, 197, 153, 0, 42, 42, 28]
abbrev dktX0_implement_0 : List UInt8 := dkwX0_implement_0 ++ dktX0_implement_1
theorem dksX0_implement_0 : cX0_implement.data.toList.drop 0 = dktX0_implement_0 := by decide +kernel
theorem dksX0_implement_1 : cX0_implement.data.toList.drop 22 = dktX0_implement_1 := dk_seg dksX0_implement_0 22 rfl rfl
theorem dksX0_implement_2 : cX0_implement.data.toList.drop 46 = dktX0_implement_2 := dk_seg dksX0_implement_1 24 rfl rfl
theorem dksX0_implement_3 : cX0_implement.data.toList.drop 69 = dktX0_implement_3 := dk_seg dksX0_implement_2 23 rfl rfl
theorem dksX0_implement_4 : cX0_implement.data.toList.drop 93 = dktX0_implement_4 := dk_seg dksX0_implement_3 24 rfl rfl
theorem dksX0_implement_5 : cX0_implement.data.toList.drop 116 = dktX0_implement_5 := dk_seg dksX0_implement_4 23 rfl rfl
theorem dksX0_implement_6 : cX0_implement.data.toList.drop 140 = dktX0_implement_6 := dk_seg dksX0_implement_5 24 rfl rfl
theorem dX0_implement_0 : decode cX0_implement 0 = .ok (.aload_n 0, 1) := dk_42 (dk_at dksX0_implement_0 0 rfl rfl)
theorem dX0_implement_1 : decode cX0_implement 1 = .ok (.iload_n 1, 1) := dk_27 (dk_at dksX0_implement_0 1 rfl rfl)
theorem dX0_implement_2 : decode cX0_implement 2 = .ok (.invokevirtual 429, 3) := dk_182 1 173 (dk_at dksX0_implement_0 2 rfl rfl)
theorem dX0_implement_5 : decode cX0_implement 5 = .ok (.ifCond .eq 54, 3) := dk_153 0 54 (dk_at dksX0_implement_0 5 rfl rfl)
theorem dX0_implement_8 : decode cX0_implement 8 = .ok (.aload_n 0, 1) := dk_42 (dk_at dksX0_implement_0 8 rfl rfl)
theorem dX0_implement_9 : decode cX0_implement 9 = .ok (.getfield 7, 3) := dk_180 0 7 (dk_at dksX0_implement_0 9 rfl rfl)
theorem dX0_implement_12 : decode cX0_implement 12 = .ok (.iload_n 1, 1) := dk_27 (dk_at dksX0_implement_0 12 rfl rfl)
theorem dX0_implement_13 : decode cX0_implement 13 = .ok (.aaload, 1) := dk_50 (dk_at dksX0_implement_0 13 rfl rfl)
theorem dX0_implement_14 : decode cX0_implement 14 = .ok (.invokevirtual 453, 3) := dk_182 1 197 (dk_at dksX0_implement_0 14 rfl rfl)
theorem dX0_implement_17 : decode cX0_implement 17 = .ok (.ifCond .eq 42, 3) := dk_153 0 42 (dk_at dksX0_implement_0 17 rfl rfl)
theorem dX0_implement_20 : decode cX0_implement 20 = .ok (.aload_n 0, 1) := dk_42 (dk_at dksX0_implement_0 20 rfl rfl)
theorem dX0_implement_21 : decode cX0_implement 21 = .ok (.iload_n 2, 1) := dk_28 (dk_at dksX0_implement_0 21 rfl rfl)
theorem dX0_implement_22 : decode cX0_implement 22 = .ok (.invokevirtual 429, 3) := dk_182 1 173 (dk_at dksX0_implement_1 0 rfl rfl)
theorem dX0_implement_25 : decode cX0_implement 25 = .ok (.ifCond .eq 34, 3) := dk_153 0 34 (dk_at dksX0_implement_1 3 rfl rfl)
theorem dX0_implement_28 : decode cX0_implement 28 = .ok (.aload_n 0, 1) := dk_42 (dk_at dksX0_implement_1 6 rfl rfl)
theorem dX0_implement_29 : decode cX0_implement 29 = .ok (.getfield 7, 3) := dk_180 0 7 (dk_at dksX0_implement_1 7 rfl rfl)
theorem dX0_implement_32 : decode cX0_implement 32 = .ok (.iload_n 2, 1) := dk_28 (dk_at dksX0_implement_1 10 rfl rfl)
theorem dX0_implement_33 : decode cX0_implement 33 = .ok (.aaload, 1) := dk_50 (dk_at dksX0_implement_1 11 rfl rfl)
theorem dX0_implement_34 : decode cX0_implement 34 = .ok (.invokevirtual 41, 3) := dk_182 0 41 (dk_at dksX0_implement_1 12 rfl rfl)
theorem dX0_implement_37 : decode cX0_implement 37 = .ok (.iconst 3, 1) := dk_6 (dk_at dksX0_implement_1 15 rfl rfl)
theorem dX0_implement_38 : decode cX0_implement 38 = .ok (.if_icmp .ne 21, 3) := dk_160 0 21 (dk_at dksX0_implement_1 16 rfl rfl)
theorem dX0_implement_41 : decode cX0_implement 41 = .ok (.aload_n 0, 1) := dk_42 (dk_at dksX0_implement_1 19 rfl rfl)
theorem dX0_implement_42 : decode cX0_implement 42 = .ok (.getfield 7, 3) := dk_180 0 7 (dk_at dksX0_implement_1 20 rfl rfl)
theorem dX0_implement_45 : decode cX0_implement 45 = .ok (.iload_n 1, 1) := dk_27 (dk_at dksX0_implement_1 23 rfl rfl)
theorem dX0_implement_46 : decode cX0_implement 46 = .ok (.aaload, 1) := dk_50 (dk_at dksX0_implement_2 0 rfl rfl)
theorem dX0_implement_47 : decode cX0_implement 47 = .ok (.aload_n 0, 1) := dk_42 (dk_at dksX0_implement_2 1 rfl rfl)
theorem dX0_implement_48 : decode cX0_implement 48 = .ok (.getfield 7, 3) := dk_180 0 7 (dk_at dksX0_implement_2 2 rfl rfl)
theorem dX0_implement_51 : decode cX0_implement 51 = .ok (.iload_n 2, 1) := dk_28 (dk_at dksX0_implement_2 5 rfl rfl)
theorem dX0_implement_52 : decode cX0_implement 52 = .ok (.aaload, 1) := dk_50 (dk_at dksX0_implement_2 6 rfl rfl)
theorem dX0_implement_53 : decode cX0_implement 53 = .ok (.invokevirtual 456, 3) := dk_182 1 200 (dk_at dksX0_implement_2 7 rfl rfl)
theorem dX0_implement_56 : decode cX0_implement 56 = .ok (.ifCond .ne 5, 3) := dk_154 0 5 (dk_at dksX0_implement_2 10 rfl rfl)
theorem dX0_implement_59 : decode cX0_implement 59 = .ok (.iconst (-1), 1) := dk_2 (dk_at dksX0_implement_2 13 rfl rfl)
theorem dX0_implement_60 : decode cX0_implement 60 = .ok (.ireturn, 1) := dk_172 (dk_at dksX0_implement_2 14 rfl rfl)
theorem dX0_implement_61 : decode cX0_implement 61 = .ok (.aload_n 0, 1) := dk_42 (dk_at dksX0_implement_2 15 rfl rfl)
theorem dX0_implement_62 : decode cX0_implement 62 = .ok (.getfield 7, 3) := dk_180 0 7 (dk_at dksX0_implement_2 16 rfl rfl)
theorem dX0_implement_65 : decode cX0_implement 65 = .ok (.iload_n 1, 1) := dk_27 (dk_at dksX0_implement_2 19 rfl rfl)
theorem dX0_implement_66 : decode cX0_implement 66 = .ok (.aaload, 1) := dk_50 (dk_at dksX0_implement_2 20 rfl rfl)
theorem dX0_implement_67 : decode cX0_implement 67 = .ok (.astore_n 3, 1) := dk_78 (dk_at dksX0_implement_2 21 rfl rfl)
theorem dX0_implement_68 : decode cX0_implement 68 = .ok (.iconst 0, 1) := dk_3 (dk_at dksX0_implement_2 22 rfl rfl)
theorem dX0_implement_69 : decode cX0_implement 69 = .ok (.istore 4, 2) := dk_54 4 (dk_at dksX0_implement_3 0 rfl rfl)
theorem dX0_implement_71 : decode cX0_implement 71 = .ok (.iload 4, 2) := dk_21 4 (dk_at dksX0_implement_3 2 rfl rfl)
theorem dX0_implement_73 : decode cX0_implement 73 = .ok (.aload_n 3, 1) := dk_45 (dk_at dksX0_implement_3 4 rfl rfl)
theorem dX0_implement_74 : decode cX0_implement 74 = .ok (.getfield 460, 3) := dk_180 1 204 (dk_at dksX0_implement_3 5 rfl rfl)
theorem dX0_implement_77 : decode cX0_implement 77 = .ok (.if_icmp .ge 28, 3) := dk_162 0 28 (dk_at dksX0_implement_3 8 rfl rfl)
theorem dX0_implement_80 : decode cX0_implement 80 = .ok (.aload_n 3, 1) := dk_45 (dk_at dksX0_implement_3 11 rfl rfl)
theorem dX0_implement_81 : decode cX0_implement 81 = .ok (.getfield 463, 3) := dk_180 1 207 (dk_at dksX0_implement_3 12 rfl rfl)
theorem dX0_implement_84 : decode cX0_implement 84 = .ok (.iload 4, 2) := dk_21 4 (dk_at dksX0_implement_3 15 rfl rfl)
theorem dX0_implement_86 : decode cX0_implement 86 = .ok (.aaload, 1) := dk_50 (dk_at dksX0_implement_3 17 rfl rfl)
theorem dX0_implement_87 : decode cX0_implement 87 = .ok (.aload_n 0, 1) := dk_42 (dk_at dksX0_implement_3 18 rfl rfl)
theorem dX0_implement_88 : decode cX0_implement 88 = .ok (.getfield 7, 3) := dk_180 0 7 (dk_at dksX0_implement_3 19 rfl rfl)
theorem dX0_implement_91 : decode cX0_implement 91 = .ok (.iload_n 2, 1) := dk_28 (dk_at dksX0_implement_3 22 rfl rfl)
theorem dX0_implement_92 : decode cX0_implement 92 = .ok (.aaload, 1) := dk_50 (dk_at dksX0_implement_3 23 rfl rfl)
theorem dX0_implement_93 : decode cX0_implement 93 = .ok (.if_acmp .ne 6, 3) := dk_166 0 6 (dk_at dksX0_implement_4 0 rfl rfl)
theorem dX0_implement_96 : decode cX0_implement 96 = .ok (.bipush (-2), 2) := dk_16 254 (dk_at dksX0_implement_4 3 rfl rfl)
theorem dX0_implement_98 : decode cX0_implement 98 = .ok (.ireturn, 1) := dk_172 (dk_at dksX0_implement_4 5 rfl rfl)
theorem dX0_implement_99 : decode cX0_implement 99 = .ok (.iinc 4 1, 3) := dk_132 4 1 (dk_at dksX0_implement_4 6 rfl rfl)
theorem dX0_implement_102 : decode cX0_implement 102 = .ok (.goto (-31), 3) := dk_167 255 225 (dk_at dksX0_implement_4 9 rfl rfl)
theorem dX0_implement_105 : decode cX0_implement 105 = .ok (.aload_n 0, 1) := dk_42 (dk_at dksX0_implement_4 12 rfl rfl)
theorem dX0_implement_106 : decode cX0_implement 106 = .ok (.getfield 376, 3) := dk_180 1 120 (dk_at dksX0_implement_4 13 rfl rfl)
theorem dX0_implement_109 : decode cX0_implement 109 = .ok (.ifCond .le 6, 3) := dk_158 0 6 (dk_at dksX0_implement_4 16 rfl rfl)
theorem dX0_implement_112 : decode cX0_implement 112 = .ok (.bipush (-2), 2) := dk_16 254 (dk_at dksX0_implement_4 19 rfl rfl)
theorem dX0_implement_114 : decode cX0_implement 114 = .ok (.ireturn, 1) := dk_172 (dk_at dksX0_implement_4 21 rfl rfl)
theorem dX0_implement_115 : decode cX0_implement 115 = .ok (.aload_n 3, 1) := dk_45 (dk_at dksX0_implement_4 22 rfl rfl)
theorem dX0_implement_116 : decode cX0_implement 116 = .ok (.getfield 460, 3) := dk_180 1 204 (dk_at dksX0_implement_5 0 rfl rfl)
theorem dX0_implement_119 : decode cX0_implement 119 = .ok (.iconst 3, 1) := dk_6 (dk_at dksX0_implement_5 3 rfl rfl)
theorem dX0_implement_120 : decode cX0_implement 120 = .ok (.if_icmp .ne 6, 3) := dk_160 0 6 (dk_at dksX0_implement_5 4 rfl rfl)
theorem dX0_implement_123 : decode cX0_implement 123 = .ok (.bipush (-3), 2) := dk_16 253 (dk_at dksX0_implement_5 7 rfl rfl)
theorem dX0_implement_125 : decode cX0_implement 125 = .ok (.ireturn, 1) := dk_172 (dk_at dksX0_implement_5 9 rfl rfl)
theorem dX0_implement_126 : decode cX0_implement 126 = .ok (.aload_n 3, 1) := dk_45 (dk_at dksX0_implement_5 10 rfl rfl)
theorem dX0_implement_127 : decode cX0_implement 127 = .ok (.getfield 463, 3) := dk_180 1 207 (dk_at dksX0_implement_5 11 rfl rfl)
theorem dX0_implement_130 : decode cX0_implement 130 = .ok (.aload_n 3, 1) := dk_45 (dk_at dksX0_implement_5 14 rfl rfl)
theorem dX0_implement_131 : decode cX0_implement 131 = .ok (.getfield 460, 3) := dk_180 1 204 (dk_at dksX0_implement_5 15 rfl rfl)
theorem dX0_implement_134 : decode cX0_implement 134 = .ok (.aload_n 0, 1) := dk_42 (dk_at dksX0_implement_5 18 rfl rfl)
theorem dX0_implement_135 : decode cX0_implement 135 = .ok (.getfield 7, 3) := dk_180 0 7 (dk_at dksX0_implement_5 19 rfl rfl)
theorem dX0_implement_138 : decode cX0_implement 138 = .ok (.iload_n 2, 1) := dk_28 (dk_at dksX0_implement_5 22 rfl rfl)
theorem dX0_implement_139 : decode cX0_implement 139 = .ok (.aaload, 1) := dk_50 (dk_at dksX0_implement_5 23 rfl rfl)
theorem dX0_implement_140 : decode cX0_implement 140 = .ok (.aastore, 1) := dk_83 (dk_at dksX0_implement_6 0 rfl rfl)
theorem dX0_implement_141 : decode cX0_implement 141 = .ok (.aload_n 3, 1) := dk_45 (dk_at dksX0_implement_6 1 rfl rfl)
theorem dX0_implement_142 : decode cX0_implement 142 = .ok (.dup, 1) := dk_89 (dk_at dksX0_implement_6 2 rfl rfl)
theorem dX0_implement_143 : decode cX0_implement 143 = .ok (.getfield 460, 3) := dk_180 1 204 (dk_at dksX0_implement_6 3 rfl rfl)
theorem dX0_implement_146 : decode cX0_implement 146 = .ok (.iconst 1, 1) := dk_4 (dk_at dksX0_implement_6 6 rfl rfl)
theorem dX0_implement_147 : decode cX0_implement 147 = .ok (.iadd, 1) := dk_96 (dk_at dksX0_implement_6 7 rfl rfl)
theorem dX0_implement_148 : decode cX0_implement 148 = .ok (.putfield 460, 3) := dk_181 1 204 (dk_at dksX0_implement_6 8 rfl rfl)
theorem dX0_implement_151 : decode cX0_implement 151 = .ok (.aload_n 0, 1) := dk_42 (dk_at dksX0_implement_6 11 rfl rfl)
theorem dX0_implement_152 : decode cX0_implement 152 = .ok (.invokevirtual 417, 3) := dk_182 1 161 (dk_at dksX0_implement_6 12 rfl rfl)
theorem dX0_implement_155 : decode cX0_implement 155 = .ok (.aload_n 3, 1) := dk_45 (dk_at dksX0_implement_6 15 rfl rfl)
theorem dX0_implement_156 : decode cX0_implement 156 = .ok (.getfield 460, 3) := dk_180 1 204 (dk_at dksX0_implement_6 16 rfl rfl)
theorem dX0_implement_159 : decode cX0_implement 159 = .ok (.ireturn, 1) := dk_172 (dk_at dksX0_implement_6 19 rfl rfl)
abbrev cX0_about : ByteArray := prog_1_method_39_code
def yX0_about : MethodName := ⟨RX0, "about", "(II)I"⟩
def dkwX0_about_7 : List UInt8 := [180, 1, 207, 28, 16, 7, 100, 50, 182, 1, 172, 167, 0, 4, 2, 172]
abbrev dktX0_about_7 : List UInt8 := dkwX0_about_7 ++ []
def dkwX0_about_6 : List UInt8 := [182, 1, 212, 153, 0, 7, 4, 167, 0, 4, 3, 172, 28, 16, 7, 100, 45, 180, 1, 204, 162, 0, 18, 45]
abbrev dktX0_about_6 : List UInt8 := dkwX0_about_6 ++ dktX0_about_7
def dkwX0_about_5 : List UInt8 := [45, 180, 1, 204, 172, 45, 182, 0, 188, 153, 0, 10, 45, 180, 0, 63, 167, 0, 4, 3, 172, 42, 45]
abbrev dktX0_about_5 : List UInt8 := dkwX0_about_5 ++ dktX0_about_6
def dkwX0_about_4 : List UInt8 := [45, 182, 1, 8, 199, 0, 7, 2, 167, 0, 10, 45, 182, 1, 8, 182, 1, 172, 172, 45, 180, 0, 206, 172]
abbrev dktX0_about_4 : List UInt8 := dkwX0_about_4 ++ dktX0_about_5
def dkwX0_about_3 : List UInt8 := [45, 182, 0, 41, 172, 45, 182, 0, 59, 199, 0, 7, 2, 167, 0, 10, 45, 182, 0, 59, 182, 1, 172, 172]
abbrev dktX0_about_3 : List UInt8 := dkwX0_about_3 ++ dktX0_about_4
def dkwX0_about_2 : List UInt8 := [170, 0, 0, 0, 0, 125, 0, 0, 0, 0, 0, 0, 0, 6, 0, 0, 0, 42, 0, 0, 0, 47, 0, 0, 0, 66, 0, 0, 0, 85, 0, 0, 0, 90, 0, 0, 0, 95, 0, 0, 0, 111]
abbrev dktX0_about_2 : List UInt8 := dkwX0_about_2 ++ dktX0_about_3
def dkwX0_about_1 : List UInt8 := [180, 0, 7, 27, 50, 78, 28]
abbrev dktX0_about_1 : List UInt8 := dkwX0_about_1 ++ dktX0_about_2
def dkwX0_about_0 : List UInt8 := [42, 27, 182, 1, 173, 153, 0, 15, 28, 133, 9, 20, 1, 210, 184, 1, 163, 154, 0, 5, 2, 172, 42]
abbrev dktX0_about_0 : List UInt8 := dkwX0_about_0 ++ dktX0_about_1
theorem dksX0_about_0 : cX0_about.data.toList.drop 0 = dktX0_about_0 := by decide +kernel
theorem dksX0_about_1 : cX0_about.data.toList.drop 23 = dktX0_about_1 := dk_seg dksX0_about_0 23 rfl rfl
theorem dksX0_about_2 : cX0_about.data.toList.drop 30 = dktX0_about_2 := dk_seg dksX0_about_1 7 rfl rfl
theorem dksX0_about_3 : cX0_about.data.toList.drop 72 = dktX0_about_3 := dk_seg dksX0_about_2 42 rfl rfl
theorem dksX0_about_4 : cX0_about.data.toList.drop 96 = dktX0_about_4 := dk_seg dksX0_about_3 24 rfl rfl
theorem dksX0_about_5 : cX0_about.data.toList.drop 120 = dktX0_about_5 := dk_seg dksX0_about_4 24 rfl rfl
theorem dksX0_about_6 : cX0_about.data.toList.drop 143 = dktX0_about_6 := dk_seg dksX0_about_5 23 rfl rfl
theorem dksX0_about_7 : cX0_about.data.toList.drop 167 = dktX0_about_7 := dk_seg dksX0_about_6 24 rfl rfl
theorem dX0_about_0 : decode cX0_about 0 = .ok (.aload_n 0, 1) := dk_42 (dk_at dksX0_about_0 0 rfl rfl)
theorem dX0_about_1 : decode cX0_about 1 = .ok (.iload_n 1, 1) := dk_27 (dk_at dksX0_about_0 1 rfl rfl)
theorem dX0_about_2 : decode cX0_about 2 = .ok (.invokevirtual 429, 3) := dk_182 1 173 (dk_at dksX0_about_0 2 rfl rfl)
theorem dX0_about_5 : decode cX0_about 5 = .ok (.ifCond .eq 15, 3) := dk_153 0 15 (dk_at dksX0_about_0 5 rfl rfl)
theorem dX0_about_8 : decode cX0_about 8 = .ok (.iload_n 2, 1) := dk_28 (dk_at dksX0_about_0 8 rfl rfl)
theorem dX0_about_9 : decode cX0_about 9 = .ok (.i2l, 1) := dk_133 (dk_at dksX0_about_0 9 rfl rfl)
theorem dX0_about_10 : decode cX0_about 10 = .ok (.lconst 0, 1) := dk_9 (dk_at dksX0_about_0 10 rfl rfl)
theorem dX0_about_11 : decode cX0_about 11 = .ok (.ldc2_w 466, 3) := dk_20 1 210 (dk_at dksX0_about_0 11 rfl rfl)
theorem dX0_about_14 : decode cX0_about 14 = .ok (.invokestatic 419, 3) := dk_184 1 163 (dk_at dksX0_about_0 14 rfl rfl)
theorem dX0_about_17 : decode cX0_about 17 = .ok (.ifCond .ne 5, 3) := dk_154 0 5 (dk_at dksX0_about_0 17 rfl rfl)
theorem dX0_about_20 : decode cX0_about 20 = .ok (.iconst (-1), 1) := dk_2 (dk_at dksX0_about_0 20 rfl rfl)
theorem dX0_about_21 : decode cX0_about 21 = .ok (.ireturn, 1) := dk_172 (dk_at dksX0_about_0 21 rfl rfl)
theorem dX0_about_22 : decode cX0_about 22 = .ok (.aload_n 0, 1) := dk_42 (dk_at dksX0_about_0 22 rfl rfl)
theorem dX0_about_23 : decode cX0_about 23 = .ok (.getfield 7, 3) := dk_180 0 7 (dk_at dksX0_about_1 0 rfl rfl)
theorem dX0_about_26 : decode cX0_about 26 = .ok (.iload_n 1, 1) := dk_27 (dk_at dksX0_about_1 3 rfl rfl)
theorem dX0_about_27 : decode cX0_about 27 = .ok (.aaload, 1) := dk_50 (dk_at dksX0_about_1 4 rfl rfl)
theorem dX0_about_28 : decode cX0_about 28 = .ok (.astore_n 3, 1) := dk_78 (dk_at dksX0_about_1 5 rfl rfl)
theorem dX0_about_29 : decode cX0_about 29 = .ok (.iload_n 2, 1) := dk_28 (dk_at dksX0_about_1 6 rfl rfl)
theorem dX0_about_30 : decode cX0_about 30 = .ok (.tableswitch 125 0 6 #[42, 47, 66, 85, 90, 95, 111], 42) := by decide +kernel
theorem dX0_about_72 : decode cX0_about 72 = .ok (.aload_n 3, 1) := dk_45 (dk_at dksX0_about_3 0 rfl rfl)
theorem dX0_about_73 : decode cX0_about 73 = .ok (.invokevirtual 41, 3) := dk_182 0 41 (dk_at dksX0_about_3 1 rfl rfl)
theorem dX0_about_76 : decode cX0_about 76 = .ok (.ireturn, 1) := dk_172 (dk_at dksX0_about_3 4 rfl rfl)
theorem dX0_about_77 : decode cX0_about 77 = .ok (.aload_n 3, 1) := dk_45 (dk_at dksX0_about_3 5 rfl rfl)
theorem dX0_about_78 : decode cX0_about 78 = .ok (.invokevirtual 59, 3) := dk_182 0 59 (dk_at dksX0_about_3 6 rfl rfl)
theorem dX0_about_81 : decode cX0_about 81 = .ok (.ifnonnull 7, 3) := dk_199 0 7 (dk_at dksX0_about_3 9 rfl rfl)
theorem dX0_about_84 : decode cX0_about 84 = .ok (.iconst (-1), 1) := dk_2 (dk_at dksX0_about_3 12 rfl rfl)
theorem dX0_about_85 : decode cX0_about 85 = .ok (.goto 10, 3) := dk_167 0 10 (dk_at dksX0_about_3 13 rfl rfl)
theorem dX0_about_88 : decode cX0_about 88 = .ok (.aload_n 3, 1) := dk_45 (dk_at dksX0_about_3 16 rfl rfl)
theorem dX0_about_89 : decode cX0_about 89 = .ok (.invokevirtual 59, 3) := dk_182 0 59 (dk_at dksX0_about_3 17 rfl rfl)
theorem dX0_about_92 : decode cX0_about 92 = .ok (.invokevirtual 428, 3) := dk_182 1 172 (dk_at dksX0_about_3 20 rfl rfl)
theorem dX0_about_95 : decode cX0_about 95 = .ok (.ireturn, 1) := dk_172 (dk_at dksX0_about_3 23 rfl rfl)
theorem dX0_about_96 : decode cX0_about 96 = .ok (.aload_n 3, 1) := dk_45 (dk_at dksX0_about_4 0 rfl rfl)
theorem dX0_about_97 : decode cX0_about 97 = .ok (.invokevirtual 264, 3) := dk_182 1 8 (dk_at dksX0_about_4 1 rfl rfl)
theorem dX0_about_100 : decode cX0_about 100 = .ok (.ifnonnull 7, 3) := dk_199 0 7 (dk_at dksX0_about_4 4 rfl rfl)
theorem dX0_about_103 : decode cX0_about 103 = .ok (.iconst (-1), 1) := dk_2 (dk_at dksX0_about_4 7 rfl rfl)
theorem dX0_about_104 : decode cX0_about 104 = .ok (.goto 10, 3) := dk_167 0 10 (dk_at dksX0_about_4 8 rfl rfl)
theorem dX0_about_107 : decode cX0_about 107 = .ok (.aload_n 3, 1) := dk_45 (dk_at dksX0_about_4 11 rfl rfl)
theorem dX0_about_108 : decode cX0_about 108 = .ok (.invokevirtual 264, 3) := dk_182 1 8 (dk_at dksX0_about_4 12 rfl rfl)
theorem dX0_about_111 : decode cX0_about 111 = .ok (.invokevirtual 428, 3) := dk_182 1 172 (dk_at dksX0_about_4 15 rfl rfl)
theorem dX0_about_114 : decode cX0_about 114 = .ok (.ireturn, 1) := dk_172 (dk_at dksX0_about_4 18 rfl rfl)
theorem dX0_about_115 : decode cX0_about 115 = .ok (.aload_n 3, 1) := dk_45 (dk_at dksX0_about_4 19 rfl rfl)
theorem dX0_about_116 : decode cX0_about 116 = .ok (.getfield 206, 3) := dk_180 0 206 (dk_at dksX0_about_4 20 rfl rfl)
theorem dX0_about_119 : decode cX0_about 119 = .ok (.ireturn, 1) := dk_172 (dk_at dksX0_about_4 23 rfl rfl)
theorem dX0_about_120 : decode cX0_about 120 = .ok (.aload_n 3, 1) := dk_45 (dk_at dksX0_about_5 0 rfl rfl)
theorem dX0_about_121 : decode cX0_about 121 = .ok (.getfield 460, 3) := dk_180 1 204 (dk_at dksX0_about_5 1 rfl rfl)
theorem dX0_about_124 : decode cX0_about 124 = .ok (.ireturn, 1) := dk_172 (dk_at dksX0_about_5 4 rfl rfl)
theorem dX0_about_125 : decode cX0_about 125 = .ok (.aload_n 3, 1) := dk_45 (dk_at dksX0_about_5 5 rfl rfl)
theorem dX0_about_126 : decode cX0_about 126 = .ok (.invokevirtual 188, 3) := dk_182 0 188 (dk_at dksX0_about_5 6 rfl rfl)
theorem dX0_about_129 : decode cX0_about 129 = .ok (.ifCond .eq 10, 3) := dk_153 0 10 (dk_at dksX0_about_5 9 rfl rfl)
theorem dX0_about_132 : decode cX0_about 132 = .ok (.aload_n 3, 1) := dk_45 (dk_at dksX0_about_5 12 rfl rfl)
theorem dX0_about_133 : decode cX0_about 133 = .ok (.getfield 63, 3) := dk_180 0 63 (dk_at dksX0_about_5 13 rfl rfl)
theorem dX0_about_136 : decode cX0_about 136 = .ok (.goto 4, 3) := dk_167 0 4 (dk_at dksX0_about_5 16 rfl rfl)
theorem dX0_about_139 : decode cX0_about 139 = .ok (.iconst 0, 1) := dk_3 (dk_at dksX0_about_5 19 rfl rfl)
theorem dX0_about_140 : decode cX0_about 140 = .ok (.ireturn, 1) := dk_172 (dk_at dksX0_about_5 20 rfl rfl)
theorem dX0_about_141 : decode cX0_about 141 = .ok (.aload_n 0, 1) := dk_42 (dk_at dksX0_about_5 21 rfl rfl)
theorem dX0_about_142 : decode cX0_about 142 = .ok (.aload_n 3, 1) := dk_45 (dk_at dksX0_about_5 22 rfl rfl)
theorem dX0_about_143 : decode cX0_about 143 = .ok (.invokevirtual 468, 3) := dk_182 1 212 (dk_at dksX0_about_6 0 rfl rfl)
theorem dX0_about_146 : decode cX0_about 146 = .ok (.ifCond .eq 7, 3) := dk_153 0 7 (dk_at dksX0_about_6 3 rfl rfl)
theorem dX0_about_149 : decode cX0_about 149 = .ok (.iconst 1, 1) := dk_4 (dk_at dksX0_about_6 6 rfl rfl)
theorem dX0_about_150 : decode cX0_about 150 = .ok (.goto 4, 3) := dk_167 0 4 (dk_at dksX0_about_6 7 rfl rfl)
theorem dX0_about_153 : decode cX0_about 153 = .ok (.iconst 0, 1) := dk_3 (dk_at dksX0_about_6 10 rfl rfl)
theorem dX0_about_154 : decode cX0_about 154 = .ok (.ireturn, 1) := dk_172 (dk_at dksX0_about_6 11 rfl rfl)
theorem dX0_about_155 : decode cX0_about 155 = .ok (.iload_n 2, 1) := dk_28 (dk_at dksX0_about_6 12 rfl rfl)
theorem dX0_about_156 : decode cX0_about 156 = .ok (.bipush 7, 2) := dk_16 7 (dk_at dksX0_about_6 13 rfl rfl)
theorem dX0_about_158 : decode cX0_about 158 = .ok (.isub, 1) := dk_100 (dk_at dksX0_about_6 15 rfl rfl)
theorem dX0_about_159 : decode cX0_about 159 = .ok (.aload_n 3, 1) := dk_45 (dk_at dksX0_about_6 16 rfl rfl)
theorem dX0_about_160 : decode cX0_about 160 = .ok (.getfield 460, 3) := dk_180 1 204 (dk_at dksX0_about_6 17 rfl rfl)
theorem dX0_about_163 : decode cX0_about 163 = .ok (.if_icmp .ge 18, 3) := dk_162 0 18 (dk_at dksX0_about_6 20 rfl rfl)
theorem dX0_about_166 : decode cX0_about 166 = .ok (.aload_n 3, 1) := dk_45 (dk_at dksX0_about_6 23 rfl rfl)
theorem dX0_about_167 : decode cX0_about 167 = .ok (.getfield 463, 3) := dk_180 1 207 (dk_at dksX0_about_7 0 rfl rfl)
theorem dX0_about_170 : decode cX0_about 170 = .ok (.iload_n 2, 1) := dk_28 (dk_at dksX0_about_7 3 rfl rfl)
theorem dX0_about_171 : decode cX0_about 171 = .ok (.bipush 7, 2) := dk_16 7 (dk_at dksX0_about_7 4 rfl rfl)
theorem dX0_about_173 : decode cX0_about 173 = .ok (.isub, 1) := dk_100 (dk_at dksX0_about_7 6 rfl rfl)
theorem dX0_about_174 : decode cX0_about 174 = .ok (.aaload, 1) := dk_50 (dk_at dksX0_about_7 7 rfl rfl)
theorem dX0_about_175 : decode cX0_about 175 = .ok (.invokevirtual 428, 3) := dk_182 1 172 (dk_at dksX0_about_7 8 rfl rfl)
theorem dX0_about_178 : decode cX0_about 178 = .ok (.goto 4, 3) := dk_167 0 4 (dk_at dksX0_about_7 11 rfl rfl)
theorem dX0_about_181 : decode cX0_about 181 = .ok (.iconst (-1), 1) := dk_2 (dk_at dksX0_about_7 14 rfl rfl)
theorem dX0_about_182 : decode cX0_about 182 = .ok (.ireturn, 1) := dk_172 (dk_at dksX0_about_7 15 rfl rfl)
abbrev cX0_isClosed : ByteArray := prog_1_method_38_code
def yX0_isClosed : MethodName := ⟨RX0, "isClosed", "(LReflectMirror$Type;)Z"⟩
def dkwX0_isClosed_2 : List UInt8 := [128, 61, 132, 3, 1, 167, 255, 209, 28, 172]
abbrev dktX0_isClosed_2 : List UInt8 := dkwX0_isClosed_2 ++ []
def dkwX0_isClosed_1 : List UInt8 := [153, 0, 23, 42, 180, 1, 144, 29, 50, 180, 0, 192, 43, 182, 0, 184, 153, 0, 7, 4, 167, 0, 4, 3]
abbrev dktX0_isClosed_1 : List UInt8 := dkwX0_isClosed_1 ++ dktX0_isClosed_2
def dkwX0_isClosed_0 : List UInt8 := [3, 61, 3, 62, 29, 42, 180, 1, 120, 162, 0, 45, 28, 42, 180, 1, 144, 29, 50, 193, 0, 204]
abbrev dktX0_isClosed_0 : List UInt8 := dkwX0_isClosed_0 ++ dktX0_isClosed_1
theorem dksX0_isClosed_0 : cX0_isClosed.data.toList.drop 0 = dktX0_isClosed_0 := by decide +kernel
theorem dksX0_isClosed_1 : cX0_isClosed.data.toList.drop 22 = dktX0_isClosed_1 := dk_seg dksX0_isClosed_0 22 rfl rfl
theorem dksX0_isClosed_2 : cX0_isClosed.data.toList.drop 46 = dktX0_isClosed_2 := dk_seg dksX0_isClosed_1 24 rfl rfl
theorem dX0_isClosed_0 : decode cX0_isClosed 0 = .ok (.iconst 0, 1) := dk_3 (dk_at dksX0_isClosed_0 0 rfl rfl)
theorem dX0_isClosed_1 : decode cX0_isClosed 1 = .ok (.istore_n 2, 1) := dk_61 (dk_at dksX0_isClosed_0 1 rfl rfl)
theorem dX0_isClosed_2 : decode cX0_isClosed 2 = .ok (.iconst 0, 1) := dk_3 (dk_at dksX0_isClosed_0 2 rfl rfl)
theorem dX0_isClosed_3 : decode cX0_isClosed 3 = .ok (.istore_n 3, 1) := dk_62 (dk_at dksX0_isClosed_0 3 rfl rfl)
theorem dX0_isClosed_4 : decode cX0_isClosed 4 = .ok (.iload_n 3, 1) := dk_29 (dk_at dksX0_isClosed_0 4 rfl rfl)
theorem dX0_isClosed_5 : decode cX0_isClosed 5 = .ok (.aload_n 0, 1) := dk_42 (dk_at dksX0_isClosed_0 5 rfl rfl)
theorem dX0_isClosed_6 : decode cX0_isClosed 6 = .ok (.getfield 376, 3) := dk_180 1 120 (dk_at dksX0_isClosed_0 6 rfl rfl)
theorem dX0_isClosed_9 : decode cX0_isClosed 9 = .ok (.if_icmp .ge 45, 3) := dk_162 0 45 (dk_at dksX0_isClosed_0 9 rfl rfl)
theorem dX0_isClosed_12 : decode cX0_isClosed 12 = .ok (.iload_n 2, 1) := dk_28 (dk_at dksX0_isClosed_0 12 rfl rfl)
theorem dX0_isClosed_13 : decode cX0_isClosed 13 = .ok (.aload_n 0, 1) := dk_42 (dk_at dksX0_isClosed_0 13 rfl rfl)
theorem dX0_isClosed_14 : decode cX0_isClosed 14 = .ok (.getfield 400, 3) := dk_180 1 144 (dk_at dksX0_isClosed_0 14 rfl rfl)
theorem dX0_isClosed_17 : decode cX0_isClosed 17 = .ok (.iload_n 3, 1) := dk_29 (dk_at dksX0_isClosed_0 17 rfl rfl)
theorem dX0_isClosed_18 : decode cX0_isClosed 18 = .ok (.aaload, 1) := dk_50 (dk_at dksX0_isClosed_0 18 rfl rfl)
theorem dX0_isClosed_19 : decode cX0_isClosed 19 = .ok (.instanceof 204, 3) := dk_193 0 204 (dk_at dksX0_isClosed_0 19 rfl rfl)
theorem dX0_isClosed_22 : decode cX0_isClosed 22 = .ok (.ifCond .eq 23, 3) := dk_153 0 23 (dk_at dksX0_isClosed_1 0 rfl rfl)
theorem dX0_isClosed_25 : decode cX0_isClosed 25 = .ok (.aload_n 0, 1) := dk_42 (dk_at dksX0_isClosed_1 3 rfl rfl)
theorem dX0_isClosed_26 : decode cX0_isClosed 26 = .ok (.getfield 400, 3) := dk_180 1 144 (dk_at dksX0_isClosed_1 4 rfl rfl)
theorem dX0_isClosed_29 : decode cX0_isClosed 29 = .ok (.iload_n 3, 1) := dk_29 (dk_at dksX0_isClosed_1 7 rfl rfl)
theorem dX0_isClosed_30 : decode cX0_isClosed 30 = .ok (.aaload, 1) := dk_50 (dk_at dksX0_isClosed_1 8 rfl rfl)
theorem dX0_isClosed_31 : decode cX0_isClosed 31 = .ok (.getfield 192, 3) := dk_180 0 192 (dk_at dksX0_isClosed_1 9 rfl rfl)
theorem dX0_isClosed_34 : decode cX0_isClosed 34 = .ok (.aload_n 1, 1) := dk_43 (dk_at dksX0_isClosed_1 12 rfl rfl)
theorem dX0_isClosed_35 : decode cX0_isClosed 35 = .ok (.invokevirtual 184, 3) := dk_182 0 184 (dk_at dksX0_isClosed_1 13 rfl rfl)
theorem dX0_isClosed_38 : decode cX0_isClosed 38 = .ok (.ifCond .eq 7, 3) := dk_153 0 7 (dk_at dksX0_isClosed_1 16 rfl rfl)
theorem dX0_isClosed_41 : decode cX0_isClosed 41 = .ok (.iconst 1, 1) := dk_4 (dk_at dksX0_isClosed_1 19 rfl rfl)
theorem dX0_isClosed_42 : decode cX0_isClosed 42 = .ok (.goto 4, 3) := dk_167 0 4 (dk_at dksX0_isClosed_1 20 rfl rfl)
theorem dX0_isClosed_45 : decode cX0_isClosed 45 = .ok (.iconst 0, 1) := dk_3 (dk_at dksX0_isClosed_1 23 rfl rfl)
theorem dX0_isClosed_46 : decode cX0_isClosed 46 = .ok (.ior, 1) := dk_128 (dk_at dksX0_isClosed_2 0 rfl rfl)
theorem dX0_isClosed_47 : decode cX0_isClosed 47 = .ok (.istore_n 2, 1) := dk_61 (dk_at dksX0_isClosed_2 1 rfl rfl)
theorem dX0_isClosed_48 : decode cX0_isClosed 48 = .ok (.iinc 3 1, 3) := dk_132 3 1 (dk_at dksX0_isClosed_2 2 rfl rfl)
theorem dX0_isClosed_51 : decode cX0_isClosed 51 = .ok (.goto (-47), 3) := dk_167 255 209 (dk_at dksX0_isClosed_2 5 rfl rfl)
theorem dX0_isClosed_54 : decode cX0_isClosed 54 = .ok (.iload_n 2, 1) := dk_28 (dk_at dksX0_isClosed_2 8 rfl rfl)
theorem dX0_isClosed_55 : decode cX0_isClosed 55 = .ok (.ireturn, 1) := dk_172 (dk_at dksX0_isClosed_2 9 rfl rfl)
abbrev cX0_ancestor : ByteArray := prog_1_method_40_code
def yX0_ancestor : MethodName := ⟨RX0, "ancestor", "(II)I"⟩
def dkwX0_ancestor_2 : List UInt8 := [153, 0, 20, 42, 180, 0, 7, 27, 50, 180, 0, 66, 28, 50, 182, 1, 172, 167, 0, 4, 2, 172]
abbrev dktX0_ancestor_2 : List UInt8 := dkwX0_ancestor_2 ++ []
def dkwX0_ancestor_1 : List UInt8 := [180, 0, 7, 27, 50, 180, 0, 63, 4, 100, 133, 184, 1, 163, 153, 0, 7, 4, 167, 0, 4, 3, 62, 29]
abbrev dktX0_ancestor_1 : List UInt8 := dkwX0_ancestor_1 ++ dktX0_ancestor_2
def dkwX0_ancestor_0 : List UInt8 := [42, 27, 182, 1, 173, 153, 0, 40, 42, 180, 0, 7, 27, 50, 182, 0, 188, 153, 0, 28, 28, 133, 9, 42]
abbrev dktX0_ancestor_0 : List UInt8 := dkwX0_ancestor_0 ++ dktX0_ancestor_1
theorem dksX0_ancestor_0 : cX0_ancestor.data.toList.drop 0 = dktX0_ancestor_0 := by decide +kernel
theorem dksX0_ancestor_1 : cX0_ancestor.data.toList.drop 24 = dktX0_ancestor_1 := dk_seg dksX0_ancestor_0 24 rfl rfl
theorem dksX0_ancestor_2 : cX0_ancestor.data.toList.drop 48 = dktX0_ancestor_2 := dk_seg dksX0_ancestor_1 24 rfl rfl
theorem dX0_ancestor_0 : decode cX0_ancestor 0 = .ok (.aload_n 0, 1) := dk_42 (dk_at dksX0_ancestor_0 0 rfl rfl)
theorem dX0_ancestor_1 : decode cX0_ancestor 1 = .ok (.iload_n 1, 1) := dk_27 (dk_at dksX0_ancestor_0 1 rfl rfl)
theorem dX0_ancestor_2 : decode cX0_ancestor 2 = .ok (.invokevirtual 429, 3) := dk_182 1 173 (dk_at dksX0_ancestor_0 2 rfl rfl)
theorem dX0_ancestor_5 : decode cX0_ancestor 5 = .ok (.ifCond .eq 40, 3) := dk_153 0 40 (dk_at dksX0_ancestor_0 5 rfl rfl)
theorem dX0_ancestor_8 : decode cX0_ancestor 8 = .ok (.aload_n 0, 1) := dk_42 (dk_at dksX0_ancestor_0 8 rfl rfl)
theorem dX0_ancestor_9 : decode cX0_ancestor 9 = .ok (.getfield 7, 3) := dk_180 0 7 (dk_at dksX0_ancestor_0 9 rfl rfl)
theorem dX0_ancestor_12 : decode cX0_ancestor 12 = .ok (.iload_n 1, 1) := dk_27 (dk_at dksX0_ancestor_0 12 rfl rfl)
theorem dX0_ancestor_13 : decode cX0_ancestor 13 = .ok (.aaload, 1) := dk_50 (dk_at dksX0_ancestor_0 13 rfl rfl)
theorem dX0_ancestor_14 : decode cX0_ancestor 14 = .ok (.invokevirtual 188, 3) := dk_182 0 188 (dk_at dksX0_ancestor_0 14 rfl rfl)
theorem dX0_ancestor_17 : decode cX0_ancestor 17 = .ok (.ifCond .eq 28, 3) := dk_153 0 28 (dk_at dksX0_ancestor_0 17 rfl rfl)
theorem dX0_ancestor_20 : decode cX0_ancestor 20 = .ok (.iload_n 2, 1) := dk_28 (dk_at dksX0_ancestor_0 20 rfl rfl)
theorem dX0_ancestor_21 : decode cX0_ancestor 21 = .ok (.i2l, 1) := dk_133 (dk_at dksX0_ancestor_0 21 rfl rfl)
theorem dX0_ancestor_22 : decode cX0_ancestor 22 = .ok (.lconst 0, 1) := dk_9 (dk_at dksX0_ancestor_0 22 rfl rfl)
theorem dX0_ancestor_23 : decode cX0_ancestor 23 = .ok (.aload_n 0, 1) := dk_42 (dk_at dksX0_ancestor_0 23 rfl rfl)
theorem dX0_ancestor_24 : decode cX0_ancestor 24 = .ok (.getfield 7, 3) := dk_180 0 7 (dk_at dksX0_ancestor_1 0 rfl rfl)
theorem dX0_ancestor_27 : decode cX0_ancestor 27 = .ok (.iload_n 1, 1) := dk_27 (dk_at dksX0_ancestor_1 3 rfl rfl)
theorem dX0_ancestor_28 : decode cX0_ancestor 28 = .ok (.aaload, 1) := dk_50 (dk_at dksX0_ancestor_1 4 rfl rfl)
theorem dX0_ancestor_29 : decode cX0_ancestor 29 = .ok (.getfield 63, 3) := dk_180 0 63 (dk_at dksX0_ancestor_1 5 rfl rfl)
theorem dX0_ancestor_32 : decode cX0_ancestor 32 = .ok (.iconst 1, 1) := dk_4 (dk_at dksX0_ancestor_1 8 rfl rfl)
theorem dX0_ancestor_33 : decode cX0_ancestor 33 = .ok (.isub, 1) := dk_100 (dk_at dksX0_ancestor_1 9 rfl rfl)
theorem dX0_ancestor_34 : decode cX0_ancestor 34 = .ok (.i2l, 1) := dk_133 (dk_at dksX0_ancestor_1 10 rfl rfl)
theorem dX0_ancestor_35 : decode cX0_ancestor 35 = .ok (.invokestatic 419, 3) := dk_184 1 163 (dk_at dksX0_ancestor_1 11 rfl rfl)
theorem dX0_ancestor_38 : decode cX0_ancestor 38 = .ok (.ifCond .eq 7, 3) := dk_153 0 7 (dk_at dksX0_ancestor_1 14 rfl rfl)
theorem dX0_ancestor_41 : decode cX0_ancestor 41 = .ok (.iconst 1, 1) := dk_4 (dk_at dksX0_ancestor_1 17 rfl rfl)
theorem dX0_ancestor_42 : decode cX0_ancestor 42 = .ok (.goto 4, 3) := dk_167 0 4 (dk_at dksX0_ancestor_1 18 rfl rfl)
theorem dX0_ancestor_45 : decode cX0_ancestor 45 = .ok (.iconst 0, 1) := dk_3 (dk_at dksX0_ancestor_1 21 rfl rfl)
theorem dX0_ancestor_46 : decode cX0_ancestor 46 = .ok (.istore_n 3, 1) := dk_62 (dk_at dksX0_ancestor_1 22 rfl rfl)
theorem dX0_ancestor_47 : decode cX0_ancestor 47 = .ok (.iload_n 3, 1) := dk_29 (dk_at dksX0_ancestor_1 23 rfl rfl)
theorem dX0_ancestor_48 : decode cX0_ancestor 48 = .ok (.ifCond .eq 20, 3) := dk_153 0 20 (dk_at dksX0_ancestor_2 0 rfl rfl)
theorem dX0_ancestor_51 : decode cX0_ancestor 51 = .ok (.aload_n 0, 1) := dk_42 (dk_at dksX0_ancestor_2 3 rfl rfl)
theorem dX0_ancestor_52 : decode cX0_ancestor 52 = .ok (.getfield 7, 3) := dk_180 0 7 (dk_at dksX0_ancestor_2 4 rfl rfl)
theorem dX0_ancestor_55 : decode cX0_ancestor 55 = .ok (.iload_n 1, 1) := dk_27 (dk_at dksX0_ancestor_2 7 rfl rfl)
theorem dX0_ancestor_56 : decode cX0_ancestor 56 = .ok (.aaload, 1) := dk_50 (dk_at dksX0_ancestor_2 8 rfl rfl)
theorem dX0_ancestor_57 : decode cX0_ancestor 57 = .ok (.getfield 66, 3) := dk_180 0 66 (dk_at dksX0_ancestor_2 9 rfl rfl)
theorem dX0_ancestor_60 : decode cX0_ancestor 60 = .ok (.iload_n 2, 1) := dk_28 (dk_at dksX0_ancestor_2 12 rfl rfl)
theorem dX0_ancestor_61 : decode cX0_ancestor 61 = .ok (.aaload, 1) := dk_50 (dk_at dksX0_ancestor_2 13 rfl rfl)
theorem dX0_ancestor_62 : decode cX0_ancestor 62 = .ok (.invokevirtual 428, 3) := dk_182 1 172 (dk_at dksX0_ancestor_2 14 rfl rfl)
theorem dX0_ancestor_65 : decode cX0_ancestor 65 = .ok (.goto 4, 3) := dk_167 0 4 (dk_at dksX0_ancestor_2 17 rfl rfl)
theorem dX0_ancestor_68 : decode cX0_ancestor 68 = .ok (.iconst (-1), 1) := dk_2 (dk_at dksX0_ancestor_2 20 rfl rfl)
theorem dX0_ancestor_69 : decode cX0_ancestor 69 = .ok (.ireturn, 1) := dk_172 (dk_at dksX0_ancestor_2 21 rfl rfl)
abbrev cX0_is : ByteArray := prog_1_method_41_code
def yX0_is : MethodName := ⟨RX0, "is", "(II)I"⟩
def dkwX0_is_1 : List UInt8 := [27, 50, 42, 180, 0, 7, 28, 50, 182, 0, 184, 153, 0, 7, 4, 167, 0, 4, 3, 172]
abbrev dktX0_is_1 : List UInt8 := dkwX0_is_1 ++ []
def dkwX0_is_0 : List UInt8 := [42, 27, 182, 1, 173, 153, 0, 11, 42, 28, 182, 1, 173, 154, 0, 7, 2, 167, 0, 26, 42, 180, 0, 7]
abbrev dktX0_is_0 : List UInt8 := dkwX0_is_0 ++ dktX0_is_1
theorem dksX0_is_0 : cX0_is.data.toList.drop 0 = dktX0_is_0 := by decide +kernel
theorem dksX0_is_1 : cX0_is.data.toList.drop 24 = dktX0_is_1 := dk_seg dksX0_is_0 24 rfl rfl
theorem dX0_is_0 : decode cX0_is 0 = .ok (.aload_n 0, 1) := dk_42 (dk_at dksX0_is_0 0 rfl rfl)
theorem dX0_is_1 : decode cX0_is 1 = .ok (.iload_n 1, 1) := dk_27 (dk_at dksX0_is_0 1 rfl rfl)
theorem dX0_is_2 : decode cX0_is 2 = .ok (.invokevirtual 429, 3) := dk_182 1 173 (dk_at dksX0_is_0 2 rfl rfl)
theorem dX0_is_5 : decode cX0_is 5 = .ok (.ifCond .eq 11, 3) := dk_153 0 11 (dk_at dksX0_is_0 5 rfl rfl)
theorem dX0_is_8 : decode cX0_is 8 = .ok (.aload_n 0, 1) := dk_42 (dk_at dksX0_is_0 8 rfl rfl)
theorem dX0_is_9 : decode cX0_is 9 = .ok (.iload_n 2, 1) := dk_28 (dk_at dksX0_is_0 9 rfl rfl)
theorem dX0_is_10 : decode cX0_is 10 = .ok (.invokevirtual 429, 3) := dk_182 1 173 (dk_at dksX0_is_0 10 rfl rfl)
theorem dX0_is_13 : decode cX0_is 13 = .ok (.ifCond .ne 7, 3) := dk_154 0 7 (dk_at dksX0_is_0 13 rfl rfl)
theorem dX0_is_16 : decode cX0_is 16 = .ok (.iconst (-1), 1) := dk_2 (dk_at dksX0_is_0 16 rfl rfl)
theorem dX0_is_17 : decode cX0_is 17 = .ok (.goto 26, 3) := dk_167 0 26 (dk_at dksX0_is_0 17 rfl rfl)
theorem dX0_is_20 : decode cX0_is 20 = .ok (.aload_n 0, 1) := dk_42 (dk_at dksX0_is_0 20 rfl rfl)
theorem dX0_is_21 : decode cX0_is 21 = .ok (.getfield 7, 3) := dk_180 0 7 (dk_at dksX0_is_0 21 rfl rfl)
theorem dX0_is_24 : decode cX0_is 24 = .ok (.iload_n 1, 1) := dk_27 (dk_at dksX0_is_1 0 rfl rfl)
theorem dX0_is_25 : decode cX0_is 25 = .ok (.aaload, 1) := dk_50 (dk_at dksX0_is_1 1 rfl rfl)
theorem dX0_is_26 : decode cX0_is 26 = .ok (.aload_n 0, 1) := dk_42 (dk_at dksX0_is_1 2 rfl rfl)
theorem dX0_is_27 : decode cX0_is 27 = .ok (.getfield 7, 3) := dk_180 0 7 (dk_at dksX0_is_1 3 rfl rfl)
theorem dX0_is_30 : decode cX0_is 30 = .ok (.iload_n 2, 1) := dk_28 (dk_at dksX0_is_1 6 rfl rfl)
theorem dX0_is_31 : decode cX0_is 31 = .ok (.aaload, 1) := dk_50 (dk_at dksX0_is_1 7 rfl rfl)
theorem dX0_is_32 : decode cX0_is 32 = .ok (.invokevirtual 184, 3) := dk_182 0 184 (dk_at dksX0_is_1 8 rfl rfl)
theorem dX0_is_35 : decode cX0_is 35 = .ok (.ifCond .eq 7, 3) := dk_153 0 7 (dk_at dksX0_is_1 11 rfl rfl)
theorem dX0_is_38 : decode cX0_is 38 = .ok (.iconst 1, 1) := dk_4 (dk_at dksX0_is_1 14 rfl rfl)
theorem dX0_is_39 : decode cX0_is 39 = .ok (.goto 4, 3) := dk_167 0 4 (dk_at dksX0_is_1 15 rfl rfl)
theorem dX0_is_42 : decode cX0_is 42 = .ok (.iconst 0, 1) := dk_3 (dk_at dksX0_is_1 18 rfl rfl)
theorem dX0_is_43 : decode cX0_is 43 = .ok (.ireturn, 1) := dk_172 (dk_at dksX0_is_1 19 rfl rfl)
abbrev cX0_meet : ByteArray := prog_1_method_42_code
def yX0_meet : MethodName := ⟨RX0, "meet", "(II)I"⟩
def dkwX0_meet_3 : List UInt8 := [132, 3, 1, 167, 255, 230, 42, 180, 0, 7, 27, 50, 180, 0, 66, 29, 50, 182, 1, 172, 172]
abbrev dktX0_meet_3 : List UInt8 := dkwX0_meet_3 ++ []
def dkwX0_meet_2 : List UInt8 := [180, 0, 7, 28, 50, 42, 180, 0, 7, 27, 50, 180, 0, 66, 29, 50, 182, 0, 184, 154, 0, 9]
abbrev dktX0_meet_2 : List UInt8 := dkwX0_meet_2 ++ dktX0_meet_3
def dkwX0_meet_1 : List UInt8 := [182, 0, 188, 153, 0, 15, 42, 180, 0, 7, 28, 50, 182, 0, 188, 154, 0, 5, 2, 172, 3, 62, 42]
abbrev dktX0_meet_1 : List UInt8 := dkwX0_meet_1 ++ dktX0_meet_2
def dkwX0_meet_0 : List UInt8 := [42, 27, 182, 1, 173, 153, 0, 35, 42, 28, 182, 1, 173, 153, 0, 27, 42, 180, 0, 7, 27, 50]
abbrev dktX0_meet_0 : List UInt8 := dkwX0_meet_0 ++ dktX0_meet_1
theorem dksX0_meet_0 : cX0_meet.data.toList.drop 0 = dktX0_meet_0 := by decide +kernel
theorem dksX0_meet_1 : cX0_meet.data.toList.drop 22 = dktX0_meet_1 := dk_seg dksX0_meet_0 22 rfl rfl
theorem dksX0_meet_2 : cX0_meet.data.toList.drop 45 = dktX0_meet_2 := dk_seg dksX0_meet_1 23 rfl rfl
theorem dksX0_meet_3 : cX0_meet.data.toList.drop 67 = dktX0_meet_3 := dk_seg dksX0_meet_2 22 rfl rfl
theorem dX0_meet_0 : decode cX0_meet 0 = .ok (.aload_n 0, 1) := dk_42 (dk_at dksX0_meet_0 0 rfl rfl)
theorem dX0_meet_1 : decode cX0_meet 1 = .ok (.iload_n 1, 1) := dk_27 (dk_at dksX0_meet_0 1 rfl rfl)
theorem dX0_meet_2 : decode cX0_meet 2 = .ok (.invokevirtual 429, 3) := dk_182 1 173 (dk_at dksX0_meet_0 2 rfl rfl)
theorem dX0_meet_5 : decode cX0_meet 5 = .ok (.ifCond .eq 35, 3) := dk_153 0 35 (dk_at dksX0_meet_0 5 rfl rfl)
theorem dX0_meet_8 : decode cX0_meet 8 = .ok (.aload_n 0, 1) := dk_42 (dk_at dksX0_meet_0 8 rfl rfl)
theorem dX0_meet_9 : decode cX0_meet 9 = .ok (.iload_n 2, 1) := dk_28 (dk_at dksX0_meet_0 9 rfl rfl)
theorem dX0_meet_10 : decode cX0_meet 10 = .ok (.invokevirtual 429, 3) := dk_182 1 173 (dk_at dksX0_meet_0 10 rfl rfl)
theorem dX0_meet_13 : decode cX0_meet 13 = .ok (.ifCond .eq 27, 3) := dk_153 0 27 (dk_at dksX0_meet_0 13 rfl rfl)
theorem dX0_meet_16 : decode cX0_meet 16 = .ok (.aload_n 0, 1) := dk_42 (dk_at dksX0_meet_0 16 rfl rfl)
theorem dX0_meet_17 : decode cX0_meet 17 = .ok (.getfield 7, 3) := dk_180 0 7 (dk_at dksX0_meet_0 17 rfl rfl)
theorem dX0_meet_20 : decode cX0_meet 20 = .ok (.iload_n 1, 1) := dk_27 (dk_at dksX0_meet_0 20 rfl rfl)
theorem dX0_meet_21 : decode cX0_meet 21 = .ok (.aaload, 1) := dk_50 (dk_at dksX0_meet_0 21 rfl rfl)
theorem dX0_meet_22 : decode cX0_meet 22 = .ok (.invokevirtual 188, 3) := dk_182 0 188 (dk_at dksX0_meet_1 0 rfl rfl)
theorem dX0_meet_25 : decode cX0_meet 25 = .ok (.ifCond .eq 15, 3) := dk_153 0 15 (dk_at dksX0_meet_1 3 rfl rfl)
theorem dX0_meet_28 : decode cX0_meet 28 = .ok (.aload_n 0, 1) := dk_42 (dk_at dksX0_meet_1 6 rfl rfl)
theorem dX0_meet_29 : decode cX0_meet 29 = .ok (.getfield 7, 3) := dk_180 0 7 (dk_at dksX0_meet_1 7 rfl rfl)
theorem dX0_meet_32 : decode cX0_meet 32 = .ok (.iload_n 2, 1) := dk_28 (dk_at dksX0_meet_1 10 rfl rfl)
theorem dX0_meet_33 : decode cX0_meet 33 = .ok (.aaload, 1) := dk_50 (dk_at dksX0_meet_1 11 rfl rfl)
theorem dX0_meet_34 : decode cX0_meet 34 = .ok (.invokevirtual 188, 3) := dk_182 0 188 (dk_at dksX0_meet_1 12 rfl rfl)
theorem dX0_meet_37 : decode cX0_meet 37 = .ok (.ifCond .ne 5, 3) := dk_154 0 5 (dk_at dksX0_meet_1 15 rfl rfl)
theorem dX0_meet_40 : decode cX0_meet 40 = .ok (.iconst (-1), 1) := dk_2 (dk_at dksX0_meet_1 18 rfl rfl)
theorem dX0_meet_41 : decode cX0_meet 41 = .ok (.ireturn, 1) := dk_172 (dk_at dksX0_meet_1 19 rfl rfl)
theorem dX0_meet_42 : decode cX0_meet 42 = .ok (.iconst 0, 1) := dk_3 (dk_at dksX0_meet_1 20 rfl rfl)
theorem dX0_meet_43 : decode cX0_meet 43 = .ok (.istore_n 3, 1) := dk_62 (dk_at dksX0_meet_1 21 rfl rfl)
theorem dX0_meet_44 : decode cX0_meet 44 = .ok (.aload_n 0, 1) := dk_42 (dk_at dksX0_meet_1 22 rfl rfl)
theorem dX0_meet_45 : decode cX0_meet 45 = .ok (.getfield 7, 3) := dk_180 0 7 (dk_at dksX0_meet_2 0 rfl rfl)
theorem dX0_meet_48 : decode cX0_meet 48 = .ok (.iload_n 2, 1) := dk_28 (dk_at dksX0_meet_2 3 rfl rfl)
theorem dX0_meet_49 : decode cX0_meet 49 = .ok (.aaload, 1) := dk_50 (dk_at dksX0_meet_2 4 rfl rfl)
theorem dX0_meet_50 : decode cX0_meet 50 = .ok (.aload_n 0, 1) := dk_42 (dk_at dksX0_meet_2 5 rfl rfl)
theorem dX0_meet_51 : decode cX0_meet 51 = .ok (.getfield 7, 3) := dk_180 0 7 (dk_at dksX0_meet_2 6 rfl rfl)
theorem dX0_meet_54 : decode cX0_meet 54 = .ok (.iload_n 1, 1) := dk_27 (dk_at dksX0_meet_2 9 rfl rfl)
theorem dX0_meet_55 : decode cX0_meet 55 = .ok (.aaload, 1) := dk_50 (dk_at dksX0_meet_2 10 rfl rfl)
theorem dX0_meet_56 : decode cX0_meet 56 = .ok (.getfield 66, 3) := dk_180 0 66 (dk_at dksX0_meet_2 11 rfl rfl)
theorem dX0_meet_59 : decode cX0_meet 59 = .ok (.iload_n 3, 1) := dk_29 (dk_at dksX0_meet_2 14 rfl rfl)
theorem dX0_meet_60 : decode cX0_meet 60 = .ok (.aaload, 1) := dk_50 (dk_at dksX0_meet_2 15 rfl rfl)
theorem dX0_meet_61 : decode cX0_meet 61 = .ok (.invokevirtual 184, 3) := dk_182 0 184 (dk_at dksX0_meet_2 16 rfl rfl)
theorem dX0_meet_64 : decode cX0_meet 64 = .ok (.ifCond .ne 9, 3) := dk_154 0 9 (dk_at dksX0_meet_2 19 rfl rfl)
theorem dX0_meet_67 : decode cX0_meet 67 = .ok (.iinc 3 1, 3) := dk_132 3 1 (dk_at dksX0_meet_3 0 rfl rfl)
theorem dX0_meet_70 : decode cX0_meet 70 = .ok (.goto (-26), 3) := dk_167 255 230 (dk_at dksX0_meet_3 3 rfl rfl)
theorem dX0_meet_73 : decode cX0_meet 73 = .ok (.aload_n 0, 1) := dk_42 (dk_at dksX0_meet_3 6 rfl rfl)
theorem dX0_meet_74 : decode cX0_meet 74 = .ok (.getfield 7, 3) := dk_180 0 7 (dk_at dksX0_meet_3 7 rfl rfl)
theorem dX0_meet_77 : decode cX0_meet 77 = .ok (.iload_n 1, 1) := dk_27 (dk_at dksX0_meet_3 10 rfl rfl)
theorem dX0_meet_78 : decode cX0_meet 78 = .ok (.aaload, 1) := dk_50 (dk_at dksX0_meet_3 11 rfl rfl)
theorem dX0_meet_79 : decode cX0_meet 79 = .ok (.getfield 66, 3) := dk_180 0 66 (dk_at dksX0_meet_3 12 rfl rfl)
theorem dX0_meet_82 : decode cX0_meet 82 = .ok (.iload_n 3, 1) := dk_29 (dk_at dksX0_meet_3 15 rfl rfl)
theorem dX0_meet_83 : decode cX0_meet 83 = .ok (.aaload, 1) := dk_50 (dk_at dksX0_meet_3 16 rfl rfl)
theorem dX0_meet_84 : decode cX0_meet 84 = .ok (.invokevirtual 428, 3) := dk_182 1 172 (dk_at dksX0_meet_3 17 rfl rfl)
theorem dX0_meet_87 : decode cX0_meet 87 = .ok (.ireturn, 1) := dk_172 (dk_at dksX0_meet_3 20 rfl rfl)
abbrev cX0_letter : ByteArray := prog_1_method_43_code
def yX0_letter : MethodName := ⟨RX0, "letter", "(II)I"⟩
def dkwX0_letter_7 : List UInt8 := [4, 160, 0, 11, 21, 5, 16, 10, 108, 167, 0, 8, 21, 5, 16, 10, 112, 96, 172]
abbrev dktX0_letter_7 : List UInt8 := dkwX0_letter_7 ++ []
def dkwX0_letter_6 : List UInt8 := [21, 7, 21, 6, 4, 100, 160, 0, 8, 16, 59, 167, 0, 31, 16, 48, 21, 6, 7, 160, 0, 17, 21, 7]
abbrev dktX0_letter_6 : List UInt8 := dkwX0_letter_6 ++ dktX0_letter_7
def dkwX0_letter_5 : List UInt8 := [154, 0, 14, 19, 1, 215, 21, 5, 182, 1, 217, 167, 0, 55, 21, 7, 154, 0, 8, 16, 76, 167, 0, 45]
abbrev dktX0_letter_5 : List UInt8 := dkwX0_letter_5 ++ dktX0_letter_6
def dkwX0_letter_4 : List UInt8 := [29, 21, 6, 96, 172, 28, 29, 100, 54, 7, 21, 7, 156, 0, 6, 16, 91, 172, 25, 4, 182, 0, 188]
abbrev dktX0_letter_4 : List UInt8 := dkwX0_letter_4 ++ dktX0_letter_5
def dkwX0_letter_3 : List UInt8 := [164, 0, 7, 7, 167, 0, 4, 6, 54, 6, 28, 29, 21, 6, 96, 161, 0, 5, 2, 172, 28, 156, 0, 8]
abbrev dktX0_letter_3 : List UInt8 := dkwX0_letter_3 ++ dktX0_letter_4
def dkwX0_letter_2 : List UInt8 := [25, 4, 182, 1, 172, 54, 5, 25, 4, 182, 0, 188, 154, 0, 7, 4, 167, 0, 15, 21, 5, 16, 9]
abbrev dktX0_letter_2 : List UInt8 := dkwX0_letter_2 ++ dktX0_letter_3
def dkwX0_letter_1 : List UInt8 := [58, 4, 25, 4, 182, 1, 8, 198, 0, 16, 25, 4, 182, 1, 8, 58, 4, 132, 3, 1, 167, 255, 238]
abbrev dktX0_letter_1 : List UInt8 := dkwX0_letter_1 ++ dktX0_letter_2
def dkwX0_letter_0 : List UInt8 := [42, 27, 182, 1, 173, 153, 0, 8, 28, 2, 162, 0, 5, 2, 172, 3, 62, 42, 180, 0, 7, 27, 50]
abbrev dktX0_letter_0 : List UInt8 := dkwX0_letter_0 ++ dktX0_letter_1
theorem dksX0_letter_0 : cX0_letter.data.toList.drop 0 = dktX0_letter_0 := by decide +kernel
theorem dksX0_letter_1 : cX0_letter.data.toList.drop 23 = dktX0_letter_1 := dk_seg dksX0_letter_0 23 rfl rfl
theorem dksX0_letter_2 : cX0_letter.data.toList.drop 46 = dktX0_letter_2 := dk_seg dksX0_letter_1 23 rfl rfl
theorem dksX0_letter_3 : cX0_letter.data.toList.drop 69 = dktX0_letter_3 := dk_seg dksX0_letter_2 23 rfl rfl
theorem dksX0_letter_4 : cX0_letter.data.toList.drop 93 = dktX0_letter_4 := dk_seg dksX0_letter_3 24 rfl rfl
theorem dksX0_letter_5 : cX0_letter.data.toList.drop 116 = dktX0_letter_5 := dk_seg dksX0_letter_4 23 rfl rfl
theorem dksX0_letter_6 : cX0_letter.data.toList.drop 140 = dktX0_letter_6 := dk_seg dksX0_letter_5 24 rfl rfl
theorem dksX0_letter_7 : cX0_letter.data.toList.drop 164 = dktX0_letter_7 := dk_seg dksX0_letter_6 24 rfl rfl
theorem dX0_letter_0 : decode cX0_letter 0 = .ok (.aload_n 0, 1) := dk_42 (dk_at dksX0_letter_0 0 rfl rfl)
theorem dX0_letter_1 : decode cX0_letter 1 = .ok (.iload_n 1, 1) := dk_27 (dk_at dksX0_letter_0 1 rfl rfl)
theorem dX0_letter_2 : decode cX0_letter 2 = .ok (.invokevirtual 429, 3) := dk_182 1 173 (dk_at dksX0_letter_0 2 rfl rfl)
theorem dX0_letter_5 : decode cX0_letter 5 = .ok (.ifCond .eq 8, 3) := dk_153 0 8 (dk_at dksX0_letter_0 5 rfl rfl)
theorem dX0_letter_8 : decode cX0_letter 8 = .ok (.iload_n 2, 1) := dk_28 (dk_at dksX0_letter_0 8 rfl rfl)
theorem dX0_letter_9 : decode cX0_letter 9 = .ok (.iconst (-1), 1) := dk_2 (dk_at dksX0_letter_0 9 rfl rfl)
theorem dX0_letter_10 : decode cX0_letter 10 = .ok (.if_icmp .ge 5, 3) := dk_162 0 5 (dk_at dksX0_letter_0 10 rfl rfl)
theorem dX0_letter_13 : decode cX0_letter 13 = .ok (.iconst (-1), 1) := dk_2 (dk_at dksX0_letter_0 13 rfl rfl)
theorem dX0_letter_14 : decode cX0_letter 14 = .ok (.ireturn, 1) := dk_172 (dk_at dksX0_letter_0 14 rfl rfl)
theorem dX0_letter_15 : decode cX0_letter 15 = .ok (.iconst 0, 1) := dk_3 (dk_at dksX0_letter_0 15 rfl rfl)
theorem dX0_letter_16 : decode cX0_letter 16 = .ok (.istore_n 3, 1) := dk_62 (dk_at dksX0_letter_0 16 rfl rfl)
theorem dX0_letter_17 : decode cX0_letter 17 = .ok (.aload_n 0, 1) := dk_42 (dk_at dksX0_letter_0 17 rfl rfl)
theorem dX0_letter_18 : decode cX0_letter 18 = .ok (.getfield 7, 3) := dk_180 0 7 (dk_at dksX0_letter_0 18 rfl rfl)
theorem dX0_letter_21 : decode cX0_letter 21 = .ok (.iload_n 1, 1) := dk_27 (dk_at dksX0_letter_0 21 rfl rfl)
theorem dX0_letter_22 : decode cX0_letter 22 = .ok (.aaload, 1) := dk_50 (dk_at dksX0_letter_0 22 rfl rfl)
theorem dX0_letter_23 : decode cX0_letter 23 = .ok (.astore 4, 2) := dk_58 4 (dk_at dksX0_letter_1 0 rfl rfl)
theorem dX0_letter_25 : decode cX0_letter 25 = .ok (.aload 4, 2) := dk_25 4 (dk_at dksX0_letter_1 2 rfl rfl)
theorem dX0_letter_27 : decode cX0_letter 27 = .ok (.invokevirtual 264, 3) := dk_182 1 8 (dk_at dksX0_letter_1 4 rfl rfl)
theorem dX0_letter_30 : decode cX0_letter 30 = .ok (.ifnull 16, 3) := dk_198 0 16 (dk_at dksX0_letter_1 7 rfl rfl)
theorem dX0_letter_33 : decode cX0_letter 33 = .ok (.aload 4, 2) := dk_25 4 (dk_at dksX0_letter_1 10 rfl rfl)
theorem dX0_letter_35 : decode cX0_letter 35 = .ok (.invokevirtual 264, 3) := dk_182 1 8 (dk_at dksX0_letter_1 12 rfl rfl)
theorem dX0_letter_38 : decode cX0_letter 38 = .ok (.astore 4, 2) := dk_58 4 (dk_at dksX0_letter_1 15 rfl rfl)
theorem dX0_letter_40 : decode cX0_letter 40 = .ok (.iinc 3 1, 3) := dk_132 3 1 (dk_at dksX0_letter_1 17 rfl rfl)
theorem dX0_letter_43 : decode cX0_letter 43 = .ok (.goto (-18), 3) := dk_167 255 238 (dk_at dksX0_letter_1 20 rfl rfl)
theorem dX0_letter_46 : decode cX0_letter 46 = .ok (.aload 4, 2) := dk_25 4 (dk_at dksX0_letter_2 0 rfl rfl)
theorem dX0_letter_48 : decode cX0_letter 48 = .ok (.invokevirtual 428, 3) := dk_182 1 172 (dk_at dksX0_letter_2 2 rfl rfl)
theorem dX0_letter_51 : decode cX0_letter 51 = .ok (.istore 5, 2) := dk_54 5 (dk_at dksX0_letter_2 5 rfl rfl)
theorem dX0_letter_53 : decode cX0_letter 53 = .ok (.aload 4, 2) := dk_25 4 (dk_at dksX0_letter_2 7 rfl rfl)
theorem dX0_letter_55 : decode cX0_letter 55 = .ok (.invokevirtual 188, 3) := dk_182 0 188 (dk_at dksX0_letter_2 9 rfl rfl)
theorem dX0_letter_58 : decode cX0_letter 58 = .ok (.ifCond .ne 7, 3) := dk_154 0 7 (dk_at dksX0_letter_2 12 rfl rfl)
theorem dX0_letter_61 : decode cX0_letter 61 = .ok (.iconst 1, 1) := dk_4 (dk_at dksX0_letter_2 15 rfl rfl)
theorem dX0_letter_62 : decode cX0_letter 62 = .ok (.goto 15, 3) := dk_167 0 15 (dk_at dksX0_letter_2 16 rfl rfl)
theorem dX0_letter_65 : decode cX0_letter 65 = .ok (.iload 5, 2) := dk_21 5 (dk_at dksX0_letter_2 19 rfl rfl)
theorem dX0_letter_67 : decode cX0_letter 67 = .ok (.bipush 9, 2) := dk_16 9 (dk_at dksX0_letter_2 21 rfl rfl)
theorem dX0_letter_69 : decode cX0_letter 69 = .ok (.if_icmp .le 7, 3) := dk_164 0 7 (dk_at dksX0_letter_3 0 rfl rfl)
theorem dX0_letter_72 : decode cX0_letter 72 = .ok (.iconst 4, 1) := dk_7 (dk_at dksX0_letter_3 3 rfl rfl)
theorem dX0_letter_73 : decode cX0_letter 73 = .ok (.goto 4, 3) := dk_167 0 4 (dk_at dksX0_letter_3 4 rfl rfl)
theorem dX0_letter_76 : decode cX0_letter 76 = .ok (.iconst 3, 1) := dk_6 (dk_at dksX0_letter_3 7 rfl rfl)
theorem dX0_letter_77 : decode cX0_letter 77 = .ok (.istore 6, 2) := dk_54 6 (dk_at dksX0_letter_3 8 rfl rfl)
theorem dX0_letter_79 : decode cX0_letter 79 = .ok (.iload_n 2, 1) := dk_28 (dk_at dksX0_letter_3 10 rfl rfl)
theorem dX0_letter_80 : decode cX0_letter 80 = .ok (.iload_n 3, 1) := dk_29 (dk_at dksX0_letter_3 11 rfl rfl)
theorem dX0_letter_81 : decode cX0_letter 81 = .ok (.iload 6, 2) := dk_21 6 (dk_at dksX0_letter_3 12 rfl rfl)
theorem dX0_letter_83 : decode cX0_letter 83 = .ok (.iadd, 1) := dk_96 (dk_at dksX0_letter_3 14 rfl rfl)
theorem dX0_letter_84 : decode cX0_letter 84 = .ok (.if_icmp .lt 5, 3) := dk_161 0 5 (dk_at dksX0_letter_3 15 rfl rfl)
theorem dX0_letter_87 : decode cX0_letter 87 = .ok (.iconst (-1), 1) := dk_2 (dk_at dksX0_letter_3 18 rfl rfl)
theorem dX0_letter_88 : decode cX0_letter 88 = .ok (.ireturn, 1) := dk_172 (dk_at dksX0_letter_3 19 rfl rfl)
theorem dX0_letter_89 : decode cX0_letter 89 = .ok (.iload_n 2, 1) := dk_28 (dk_at dksX0_letter_3 20 rfl rfl)
theorem dX0_letter_90 : decode cX0_letter 90 = .ok (.ifCond .ge 8, 3) := dk_156 0 8 (dk_at dksX0_letter_3 21 rfl rfl)
theorem dX0_letter_93 : decode cX0_letter 93 = .ok (.iload_n 3, 1) := dk_29 (dk_at dksX0_letter_4 0 rfl rfl)
theorem dX0_letter_94 : decode cX0_letter 94 = .ok (.iload 6, 2) := dk_21 6 (dk_at dksX0_letter_4 1 rfl rfl)
theorem dX0_letter_96 : decode cX0_letter 96 = .ok (.iadd, 1) := dk_96 (dk_at dksX0_letter_4 3 rfl rfl)
theorem dX0_letter_97 : decode cX0_letter 97 = .ok (.ireturn, 1) := dk_172 (dk_at dksX0_letter_4 4 rfl rfl)
theorem dX0_letter_98 : decode cX0_letter 98 = .ok (.iload_n 2, 1) := dk_28 (dk_at dksX0_letter_4 5 rfl rfl)
theorem dX0_letter_99 : decode cX0_letter 99 = .ok (.iload_n 3, 1) := dk_29 (dk_at dksX0_letter_4 6 rfl rfl)
theorem dX0_letter_100 : decode cX0_letter 100 = .ok (.isub, 1) := dk_100 (dk_at dksX0_letter_4 7 rfl rfl)
theorem dX0_letter_101 : decode cX0_letter 101 = .ok (.istore 7, 2) := dk_54 7 (dk_at dksX0_letter_4 8 rfl rfl)
theorem dX0_letter_103 : decode cX0_letter 103 = .ok (.iload 7, 2) := dk_21 7 (dk_at dksX0_letter_4 10 rfl rfl)
theorem dX0_letter_105 : decode cX0_letter 105 = .ok (.ifCond .ge 6, 3) := dk_156 0 6 (dk_at dksX0_letter_4 12 rfl rfl)
theorem dX0_letter_108 : decode cX0_letter 108 = .ok (.bipush 91, 2) := dk_16 91 (dk_at dksX0_letter_4 15 rfl rfl)
theorem dX0_letter_110 : decode cX0_letter 110 = .ok (.ireturn, 1) := dk_172 (dk_at dksX0_letter_4 17 rfl rfl)
theorem dX0_letter_111 : decode cX0_letter 111 = .ok (.aload 4, 2) := dk_25 4 (dk_at dksX0_letter_4 18 rfl rfl)
theorem dX0_letter_113 : decode cX0_letter 113 = .ok (.invokevirtual 188, 3) := dk_182 0 188 (dk_at dksX0_letter_4 20 rfl rfl)
theorem dX0_letter_116 : decode cX0_letter 116 = .ok (.ifCond .ne 14, 3) := dk_154 0 14 (dk_at dksX0_letter_5 0 rfl rfl)
theorem dX0_letter_119 : decode cX0_letter 119 = .ok (.ldc_w 471, 3) := dk_19 1 215 (dk_at dksX0_letter_5 3 rfl rfl)
theorem dX0_letter_122 : decode cX0_letter 122 = .ok (.iload 5, 2) := dk_21 5 (dk_at dksX0_letter_5 6 rfl rfl)
theorem dX0_letter_124 : decode cX0_letter 124 = .ok (.invokevirtual 473, 3) := dk_182 1 217 (dk_at dksX0_letter_5 8 rfl rfl)
theorem dX0_letter_127 : decode cX0_letter 127 = .ok (.goto 55, 3) := dk_167 0 55 (dk_at dksX0_letter_5 11 rfl rfl)
theorem dX0_letter_130 : decode cX0_letter 130 = .ok (.iload 7, 2) := dk_21 7 (dk_at dksX0_letter_5 14 rfl rfl)
theorem dX0_letter_132 : decode cX0_letter 132 = .ok (.ifCond .ne 8, 3) := dk_154 0 8 (dk_at dksX0_letter_5 16 rfl rfl)
theorem dX0_letter_135 : decode cX0_letter 135 = .ok (.bipush 76, 2) := dk_16 76 (dk_at dksX0_letter_5 19 rfl rfl)
theorem dX0_letter_137 : decode cX0_letter 137 = .ok (.goto 45, 3) := dk_167 0 45 (dk_at dksX0_letter_5 21 rfl rfl)
theorem dX0_letter_140 : decode cX0_letter 140 = .ok (.iload 7, 2) := dk_21 7 (dk_at dksX0_letter_6 0 rfl rfl)
theorem dX0_letter_142 : decode cX0_letter 142 = .ok (.iload 6, 2) := dk_21 6 (dk_at dksX0_letter_6 2 rfl rfl)
theorem dX0_letter_144 : decode cX0_letter 144 = .ok (.iconst 1, 1) := dk_4 (dk_at dksX0_letter_6 4 rfl rfl)
theorem dX0_letter_145 : decode cX0_letter 145 = .ok (.isub, 1) := dk_100 (dk_at dksX0_letter_6 5 rfl rfl)
theorem dX0_letter_146 : decode cX0_letter 146 = .ok (.if_icmp .ne 8, 3) := dk_160 0 8 (dk_at dksX0_letter_6 6 rfl rfl)
theorem dX0_letter_149 : decode cX0_letter 149 = .ok (.bipush 59, 2) := dk_16 59 (dk_at dksX0_letter_6 9 rfl rfl)
theorem dX0_letter_151 : decode cX0_letter 151 = .ok (.goto 31, 3) := dk_167 0 31 (dk_at dksX0_letter_6 11 rfl rfl)
theorem dX0_letter_154 : decode cX0_letter 154 = .ok (.bipush 48, 2) := dk_16 48 (dk_at dksX0_letter_6 14 rfl rfl)
theorem dX0_letter_156 : decode cX0_letter 156 = .ok (.iload 6, 2) := dk_21 6 (dk_at dksX0_letter_6 16 rfl rfl)
theorem dX0_letter_158 : decode cX0_letter 158 = .ok (.iconst 4, 1) := dk_7 (dk_at dksX0_letter_6 18 rfl rfl)
theorem dX0_letter_159 : decode cX0_letter 159 = .ok (.if_icmp .ne 17, 3) := dk_160 0 17 (dk_at dksX0_letter_6 19 rfl rfl)
theorem dX0_letter_162 : decode cX0_letter 162 = .ok (.iload 7, 2) := dk_21 7 (dk_at dksX0_letter_6 22 rfl rfl)
theorem dX0_letter_164 : decode cX0_letter 164 = .ok (.iconst 1, 1) := dk_4 (dk_at dksX0_letter_7 0 rfl rfl)
theorem dX0_letter_165 : decode cX0_letter 165 = .ok (.if_icmp .ne 11, 3) := dk_160 0 11 (dk_at dksX0_letter_7 1 rfl rfl)
theorem dX0_letter_168 : decode cX0_letter 168 = .ok (.iload 5, 2) := dk_21 5 (dk_at dksX0_letter_7 4 rfl rfl)
theorem dX0_letter_170 : decode cX0_letter 170 = .ok (.bipush 10, 2) := dk_16 10 (dk_at dksX0_letter_7 6 rfl rfl)
theorem dX0_letter_172 : decode cX0_letter 172 = .ok (.idiv, 1) := dk_108 (dk_at dksX0_letter_7 8 rfl rfl)
theorem dX0_letter_173 : decode cX0_letter 173 = .ok (.goto 8, 3) := dk_167 0 8 (dk_at dksX0_letter_7 9 rfl rfl)
theorem dX0_letter_176 : decode cX0_letter 176 = .ok (.iload 5, 2) := dk_21 5 (dk_at dksX0_letter_7 12 rfl rfl)
theorem dX0_letter_178 : decode cX0_letter 178 = .ok (.bipush 10, 2) := dk_16 10 (dk_at dksX0_letter_7 14 rfl rfl)
theorem dX0_letter_180 : decode cX0_letter 180 = .ok (.irem, 1) := dk_112 (dk_at dksX0_letter_7 16 rfl rfl)
theorem dX0_letter_181 : decode cX0_letter 181 = .ok (.iadd, 1) := dk_96 (dk_at dksX0_letter_7 17 rfl rfl)
theorem dX0_letter_182 : decode cX0_letter 182 = .ok (.ireturn, 1) := dk_172 (dk_at dksX0_letter_7 18 rfl rfl)
abbrev cX0_field : ByteArray := prog_1_method_44_code
def yX0_field : MethodName := ⟨RX0, "field", "(IIII)I"⟩
def dkwX0_field_8 : List UInt8 := [96, 181, 0, 17, 42, 89, 180, 1, 234, 4, 96, 181, 1, 234, 25, 6, 182, 1, 237, 172]
abbrev dktX0_field_8 : List UInt8 := dkwX0_field_8 ++ []
def dkwX0_field_7 : List UInt8 := [167, 0, 4, 1, 181, 0, 214, 42, 180, 0, 20, 42, 180, 0, 17, 25, 6, 83, 42, 89, 180, 0, 17, 4]
abbrev dktX0_field_7 : List UInt8 := dkwX0_field_7 ++ dktX0_field_8
def dkwX0_field_6 : List UInt8 := [58, 6, 25, 6, 25, 6, 7, 182, 0, 55, 153, 0, 15, 25, 6, 180, 0, 246, 4, 182, 1, 123]
abbrev dktX0_field_6 : List UInt8 := dkwX0_field_6 ++ dktX0_field_7
def dkwX0_field_5 : List UInt8 := [187, 0, 25, 89, 42, 180, 0, 17, 25, 5, 28, 29, 4, 42, 180, 0, 7, 21, 4, 50, 183, 1, 231]
abbrev dktX0_field_5 : List UInt8 := dkwX0_field_5 ++ dktX0_field_6
def dkwX0_field_4 : List UInt8 := [42, 25, 5, 182, 1, 212, 153, 0, 6, 16, 254, 172, 42, 180, 0, 17, 16, 100, 160, 0, 6, 16, 253, 172]
abbrev dktX0_field_4 : List UInt8 := dkwX0_field_4 ++ dktX0_field_5
def dkwX0_field_3 : List UInt8 := [29, 16, 13, 159, 0, 5, 2, 172, 42, 25, 5, 28, 182, 1, 227, 199, 0, 18, 29, 7, 126, 154, 0, 15]
abbrev dktX0_field_3 : List UInt8 := dkwX0_field_3 ++ dktX0_field_4
def dkwX0_field_2 : List UInt8 := [182, 1, 173, 154, 0, 5, 2, 172, 42, 180, 0, 7, 27, 50, 58, 5, 25, 5, 182, 1, 176, 154, 0, 11]
abbrev dktX0_field_2 : List UInt8 := dkwX0_field_2 ++ dktX0_field_3
def dkwX0_field_1 : List UInt8 := [20, 1, 223, 184, 1, 163, 153, 0, 24, 29, 133, 9, 20, 1, 225, 184, 1, 163, 153, 0, 12, 42, 21, 4]
abbrev dktX0_field_1 : List UInt8 := dkwX0_field_1 ++ dktX0_field_2
def dkwX0_field_0 : List UInt8 := [42, 27, 182, 1, 173, 153, 0, 48, 42, 180, 0, 7, 27, 50, 182, 1, 197, 153, 0, 36, 28, 133, 9]
abbrev dktX0_field_0 : List UInt8 := dkwX0_field_0 ++ dktX0_field_1
theorem dksX0_field_0 : cX0_field.data.toList.drop 0 = dktX0_field_0 := by decide +kernel
theorem dksX0_field_1 : cX0_field.data.toList.drop 23 = dktX0_field_1 := dk_seg dksX0_field_0 23 rfl rfl
theorem dksX0_field_2 : cX0_field.data.toList.drop 47 = dktX0_field_2 := dk_seg dksX0_field_1 24 rfl rfl
theorem dksX0_field_3 : cX0_field.data.toList.drop 71 = dktX0_field_3 := dk_seg dksX0_field_2 24 rfl rfl
theorem dksX0_field_4 : cX0_field.data.toList.drop 95 = dktX0_field_4 := dk_seg dksX0_field_3 24 rfl rfl
theorem dksX0_field_5 : cX0_field.data.toList.drop 119 = dktX0_field_5 := dk_seg dksX0_field_4 24 rfl rfl
theorem dksX0_field_6 : cX0_field.data.toList.drop 142 = dktX0_field_6 := dk_seg dksX0_field_5 23 rfl rfl
theorem dksX0_field_7 : cX0_field.data.toList.drop 164 = dktX0_field_7 := dk_seg dksX0_field_6 22 rfl rfl
theorem dksX0_field_8 : cX0_field.data.toList.drop 188 = dktX0_field_8 := dk_seg dksX0_field_7 24 rfl rfl
theorem dX0_field_0 : decode cX0_field 0 = .ok (.aload_n 0, 1) := dk_42 (dk_at dksX0_field_0 0 rfl rfl)
theorem dX0_field_1 : decode cX0_field 1 = .ok (.iload_n 1, 1) := dk_27 (dk_at dksX0_field_0 1 rfl rfl)
theorem dX0_field_2 : decode cX0_field 2 = .ok (.invokevirtual 429, 3) := dk_182 1 173 (dk_at dksX0_field_0 2 rfl rfl)
theorem dX0_field_5 : decode cX0_field 5 = .ok (.ifCond .eq 48, 3) := dk_153 0 48 (dk_at dksX0_field_0 5 rfl rfl)
theorem dX0_field_8 : decode cX0_field 8 = .ok (.aload_n 0, 1) := dk_42 (dk_at dksX0_field_0 8 rfl rfl)
theorem dX0_field_9 : decode cX0_field 9 = .ok (.getfield 7, 3) := dk_180 0 7 (dk_at dksX0_field_0 9 rfl rfl)
theorem dX0_field_12 : decode cX0_field 12 = .ok (.iload_n 1, 1) := dk_27 (dk_at dksX0_field_0 12 rfl rfl)
theorem dX0_field_13 : decode cX0_field 13 = .ok (.aaload, 1) := dk_50 (dk_at dksX0_field_0 13 rfl rfl)
theorem dX0_field_14 : decode cX0_field 14 = .ok (.invokevirtual 453, 3) := dk_182 1 197 (dk_at dksX0_field_0 14 rfl rfl)
theorem dX0_field_17 : decode cX0_field 17 = .ok (.ifCond .eq 36, 3) := dk_153 0 36 (dk_at dksX0_field_0 17 rfl rfl)
theorem dX0_field_20 : decode cX0_field 20 = .ok (.iload_n 2, 1) := dk_28 (dk_at dksX0_field_0 20 rfl rfl)
theorem dX0_field_21 : decode cX0_field 21 = .ok (.i2l, 1) := dk_133 (dk_at dksX0_field_0 21 rfl rfl)
theorem dX0_field_22 : decode cX0_field 22 = .ok (.lconst 0, 1) := dk_9 (dk_at dksX0_field_0 22 rfl rfl)
theorem dX0_field_23 : decode cX0_field 23 = .ok (.ldc2_w 479, 3) := dk_20 1 223 (dk_at dksX0_field_1 0 rfl rfl)
theorem dX0_field_26 : decode cX0_field 26 = .ok (.invokestatic 419, 3) := dk_184 1 163 (dk_at dksX0_field_1 3 rfl rfl)
theorem dX0_field_29 : decode cX0_field 29 = .ok (.ifCond .eq 24, 3) := dk_153 0 24 (dk_at dksX0_field_1 6 rfl rfl)
theorem dX0_field_32 : decode cX0_field 32 = .ok (.iload_n 3, 1) := dk_29 (dk_at dksX0_field_1 9 rfl rfl)
theorem dX0_field_33 : decode cX0_field 33 = .ok (.i2l, 1) := dk_133 (dk_at dksX0_field_1 10 rfl rfl)
theorem dX0_field_34 : decode cX0_field 34 = .ok (.lconst 0, 1) := dk_9 (dk_at dksX0_field_1 11 rfl rfl)
theorem dX0_field_35 : decode cX0_field 35 = .ok (.ldc2_w 481, 3) := dk_20 1 225 (dk_at dksX0_field_1 12 rfl rfl)
theorem dX0_field_38 : decode cX0_field 38 = .ok (.invokestatic 419, 3) := dk_184 1 163 (dk_at dksX0_field_1 15 rfl rfl)
theorem dX0_field_41 : decode cX0_field 41 = .ok (.ifCond .eq 12, 3) := dk_153 0 12 (dk_at dksX0_field_1 18 rfl rfl)
theorem dX0_field_44 : decode cX0_field 44 = .ok (.aload_n 0, 1) := dk_42 (dk_at dksX0_field_1 21 rfl rfl)
theorem dX0_field_45 : decode cX0_field 45 = .ok (.iload 4, 2) := dk_21 4 (dk_at dksX0_field_1 22 rfl rfl)
theorem dX0_field_47 : decode cX0_field 47 = .ok (.invokevirtual 429, 3) := dk_182 1 173 (dk_at dksX0_field_2 0 rfl rfl)
theorem dX0_field_50 : decode cX0_field 50 = .ok (.ifCond .ne 5, 3) := dk_154 0 5 (dk_at dksX0_field_2 3 rfl rfl)
theorem dX0_field_53 : decode cX0_field 53 = .ok (.iconst (-1), 1) := dk_2 (dk_at dksX0_field_2 6 rfl rfl)
theorem dX0_field_54 : decode cX0_field 54 = .ok (.ireturn, 1) := dk_172 (dk_at dksX0_field_2 7 rfl rfl)
theorem dX0_field_55 : decode cX0_field 55 = .ok (.aload_n 0, 1) := dk_42 (dk_at dksX0_field_2 8 rfl rfl)
theorem dX0_field_56 : decode cX0_field 56 = .ok (.getfield 7, 3) := dk_180 0 7 (dk_at dksX0_field_2 9 rfl rfl)
theorem dX0_field_59 : decode cX0_field 59 = .ok (.iload_n 1, 1) := dk_27 (dk_at dksX0_field_2 12 rfl rfl)
theorem dX0_field_60 : decode cX0_field 60 = .ok (.aaload, 1) := dk_50 (dk_at dksX0_field_2 13 rfl rfl)
theorem dX0_field_61 : decode cX0_field 61 = .ok (.astore 5, 2) := dk_58 5 (dk_at dksX0_field_2 14 rfl rfl)
theorem dX0_field_63 : decode cX0_field 63 = .ok (.aload 5, 2) := dk_25 5 (dk_at dksX0_field_2 16 rfl rfl)
theorem dX0_field_65 : decode cX0_field 65 = .ok (.invokevirtual 432, 3) := dk_182 1 176 (dk_at dksX0_field_2 18 rfl rfl)
theorem dX0_field_68 : decode cX0_field 68 = .ok (.ifCond .ne 11, 3) := dk_154 0 11 (dk_at dksX0_field_2 21 rfl rfl)
theorem dX0_field_71 : decode cX0_field 71 = .ok (.iload_n 3, 1) := dk_29 (dk_at dksX0_field_3 0 rfl rfl)
theorem dX0_field_72 : decode cX0_field 72 = .ok (.bipush 13, 2) := dk_16 13 (dk_at dksX0_field_3 1 rfl rfl)
theorem dX0_field_74 : decode cX0_field 74 = .ok (.if_icmp .eq 5, 3) := dk_159 0 5 (dk_at dksX0_field_3 3 rfl rfl)
theorem dX0_field_77 : decode cX0_field 77 = .ok (.iconst (-1), 1) := dk_2 (dk_at dksX0_field_3 6 rfl rfl)
theorem dX0_field_78 : decode cX0_field 78 = .ok (.ireturn, 1) := dk_172 (dk_at dksX0_field_3 7 rfl rfl)
theorem dX0_field_79 : decode cX0_field 79 = .ok (.aload_n 0, 1) := dk_42 (dk_at dksX0_field_3 8 rfl rfl)
theorem dX0_field_80 : decode cX0_field 80 = .ok (.aload 5, 2) := dk_25 5 (dk_at dksX0_field_3 9 rfl rfl)
theorem dX0_field_82 : decode cX0_field 82 = .ok (.iload_n 2, 1) := dk_28 (dk_at dksX0_field_3 11 rfl rfl)
theorem dX0_field_83 : decode cX0_field 83 = .ok (.invokevirtual 483, 3) := dk_182 1 227 (dk_at dksX0_field_3 12 rfl rfl)
theorem dX0_field_86 : decode cX0_field 86 = .ok (.ifnonnull 18, 3) := dk_199 0 18 (dk_at dksX0_field_3 15 rfl rfl)
theorem dX0_field_89 : decode cX0_field 89 = .ok (.iload_n 3, 1) := dk_29 (dk_at dksX0_field_3 18 rfl rfl)
theorem dX0_field_90 : decode cX0_field 90 = .ok (.iconst 4, 1) := dk_7 (dk_at dksX0_field_3 19 rfl rfl)
theorem dX0_field_91 : decode cX0_field 91 = .ok (.iand, 1) := dk_126 (dk_at dksX0_field_3 20 rfl rfl)
theorem dX0_field_92 : decode cX0_field 92 = .ok (.ifCond .ne 15, 3) := dk_154 0 15 (dk_at dksX0_field_3 21 rfl rfl)
theorem dX0_field_95 : decode cX0_field 95 = .ok (.aload_n 0, 1) := dk_42 (dk_at dksX0_field_4 0 rfl rfl)
theorem dX0_field_96 : decode cX0_field 96 = .ok (.aload 5, 2) := dk_25 5 (dk_at dksX0_field_4 1 rfl rfl)
theorem dX0_field_98 : decode cX0_field 98 = .ok (.invokevirtual 468, 3) := dk_182 1 212 (dk_at dksX0_field_4 3 rfl rfl)
theorem dX0_field_101 : decode cX0_field 101 = .ok (.ifCond .eq 6, 3) := dk_153 0 6 (dk_at dksX0_field_4 6 rfl rfl)
theorem dX0_field_104 : decode cX0_field 104 = .ok (.bipush (-2), 2) := dk_16 254 (dk_at dksX0_field_4 9 rfl rfl)
theorem dX0_field_106 : decode cX0_field 106 = .ok (.ireturn, 1) := dk_172 (dk_at dksX0_field_4 11 rfl rfl)
theorem dX0_field_107 : decode cX0_field 107 = .ok (.aload_n 0, 1) := dk_42 (dk_at dksX0_field_4 12 rfl rfl)
theorem dX0_field_108 : decode cX0_field 108 = .ok (.getfield 17, 3) := dk_180 0 17 (dk_at dksX0_field_4 13 rfl rfl)
theorem dX0_field_111 : decode cX0_field 111 = .ok (.bipush 100, 2) := dk_16 100 (dk_at dksX0_field_4 16 rfl rfl)
theorem dX0_field_113 : decode cX0_field 113 = .ok (.if_icmp .ne 6, 3) := dk_160 0 6 (dk_at dksX0_field_4 18 rfl rfl)
theorem dX0_field_116 : decode cX0_field 116 = .ok (.bipush (-3), 2) := dk_16 253 (dk_at dksX0_field_4 21 rfl rfl)
theorem dX0_field_118 : decode cX0_field 118 = .ok (.ireturn, 1) := dk_172 (dk_at dksX0_field_4 23 rfl rfl)
theorem dX0_field_119 : decode cX0_field 119 = .ok (.new 25, 3) := dk_187 0 25 (dk_at dksX0_field_5 0 rfl rfl)
theorem dX0_field_122 : decode cX0_field 122 = .ok (.dup, 1) := dk_89 (dk_at dksX0_field_5 3 rfl rfl)
theorem dX0_field_123 : decode cX0_field 123 = .ok (.aload_n 0, 1) := dk_42 (dk_at dksX0_field_5 4 rfl rfl)
theorem dX0_field_124 : decode cX0_field 124 = .ok (.getfield 17, 3) := dk_180 0 17 (dk_at dksX0_field_5 5 rfl rfl)
theorem dX0_field_127 : decode cX0_field 127 = .ok (.aload 5, 2) := dk_25 5 (dk_at dksX0_field_5 8 rfl rfl)
theorem dX0_field_129 : decode cX0_field 129 = .ok (.iload_n 2, 1) := dk_28 (dk_at dksX0_field_5 10 rfl rfl)
theorem dX0_field_130 : decode cX0_field 130 = .ok (.iload_n 3, 1) := dk_29 (dk_at dksX0_field_5 11 rfl rfl)
theorem dX0_field_131 : decode cX0_field 131 = .ok (.iconst 1, 1) := dk_4 (dk_at dksX0_field_5 12 rfl rfl)
theorem dX0_field_132 : decode cX0_field 132 = .ok (.aload_n 0, 1) := dk_42 (dk_at dksX0_field_5 13 rfl rfl)
theorem dX0_field_133 : decode cX0_field 133 = .ok (.getfield 7, 3) := dk_180 0 7 (dk_at dksX0_field_5 14 rfl rfl)
theorem dX0_field_136 : decode cX0_field 136 = .ok (.iload 4, 2) := dk_21 4 (dk_at dksX0_field_5 17 rfl rfl)
theorem dX0_field_138 : decode cX0_field 138 = .ok (.aaload, 1) := dk_50 (dk_at dksX0_field_5 19 rfl rfl)
theorem dX0_field_139 : decode cX0_field 139 = .ok (.invokespecial 487, 3) := dk_183 1 231 (dk_at dksX0_field_5 20 rfl rfl)
theorem dX0_field_142 : decode cX0_field 142 = .ok (.astore 6, 2) := dk_58 6 (dk_at dksX0_field_6 0 rfl rfl)
theorem dX0_field_144 : decode cX0_field 144 = .ok (.aload 6, 2) := dk_25 6 (dk_at dksX0_field_6 2 rfl rfl)
theorem dX0_field_146 : decode cX0_field 146 = .ok (.aload 6, 2) := dk_25 6 (dk_at dksX0_field_6 4 rfl rfl)
theorem dX0_field_148 : decode cX0_field 148 = .ok (.iconst 4, 1) := dk_7 (dk_at dksX0_field_6 6 rfl rfl)
theorem dX0_field_149 : decode cX0_field 149 = .ok (.invokevirtual 55, 3) := dk_182 0 55 (dk_at dksX0_field_6 7 rfl rfl)
theorem dX0_field_152 : decode cX0_field 152 = .ok (.ifCond .eq 15, 3) := dk_153 0 15 (dk_at dksX0_field_6 10 rfl rfl)
theorem dX0_field_155 : decode cX0_field 155 = .ok (.aload 6, 2) := dk_25 6 (dk_at dksX0_field_6 13 rfl rfl)
theorem dX0_field_157 : decode cX0_field 157 = .ok (.getfield 246, 3) := dk_180 0 246 (dk_at dksX0_field_6 15 rfl rfl)
theorem dX0_field_160 : decode cX0_field 160 = .ok (.iconst 1, 1) := dk_4 (dk_at dksX0_field_6 18 rfl rfl)
theorem dX0_field_161 : decode cX0_field 161 = .ok (.invokevirtual 379, 3) := dk_182 1 123 (dk_at dksX0_field_6 19 rfl rfl)
theorem dX0_field_164 : decode cX0_field 164 = .ok (.goto 4, 3) := dk_167 0 4 (dk_at dksX0_field_7 0 rfl rfl)
theorem dX0_field_167 : decode cX0_field 167 = .ok (.aconst_null, 1) := dk_1 (dk_at dksX0_field_7 3 rfl rfl)
theorem dX0_field_168 : decode cX0_field 168 = .ok (.putfield 214, 3) := dk_181 0 214 (dk_at dksX0_field_7 4 rfl rfl)
theorem dX0_field_171 : decode cX0_field 171 = .ok (.aload_n 0, 1) := dk_42 (dk_at dksX0_field_7 7 rfl rfl)
theorem dX0_field_172 : decode cX0_field 172 = .ok (.getfield 20, 3) := dk_180 0 20 (dk_at dksX0_field_7 8 rfl rfl)
theorem dX0_field_175 : decode cX0_field 175 = .ok (.aload_n 0, 1) := dk_42 (dk_at dksX0_field_7 11 rfl rfl)
theorem dX0_field_176 : decode cX0_field 176 = .ok (.getfield 17, 3) := dk_180 0 17 (dk_at dksX0_field_7 12 rfl rfl)
theorem dX0_field_179 : decode cX0_field 179 = .ok (.aload 6, 2) := dk_25 6 (dk_at dksX0_field_7 15 rfl rfl)
theorem dX0_field_181 : decode cX0_field 181 = .ok (.aastore, 1) := dk_83 (dk_at dksX0_field_7 17 rfl rfl)
theorem dX0_field_182 : decode cX0_field 182 = .ok (.aload_n 0, 1) := dk_42 (dk_at dksX0_field_7 18 rfl rfl)
theorem dX0_field_183 : decode cX0_field 183 = .ok (.dup, 1) := dk_89 (dk_at dksX0_field_7 19 rfl rfl)
theorem dX0_field_184 : decode cX0_field 184 = .ok (.getfield 17, 3) := dk_180 0 17 (dk_at dksX0_field_7 20 rfl rfl)
theorem dX0_field_187 : decode cX0_field 187 = .ok (.iconst 1, 1) := dk_4 (dk_at dksX0_field_7 23 rfl rfl)
theorem dX0_field_188 : decode cX0_field 188 = .ok (.iadd, 1) := dk_96 (dk_at dksX0_field_8 0 rfl rfl)
theorem dX0_field_189 : decode cX0_field 189 = .ok (.putfield 17, 3) := dk_181 0 17 (dk_at dksX0_field_8 1 rfl rfl)
theorem dX0_field_192 : decode cX0_field 192 = .ok (.aload_n 0, 1) := dk_42 (dk_at dksX0_field_8 4 rfl rfl)
theorem dX0_field_193 : decode cX0_field 193 = .ok (.dup, 1) := dk_89 (dk_at dksX0_field_8 5 rfl rfl)
theorem dX0_field_194 : decode cX0_field 194 = .ok (.getfield 490, 3) := dk_180 1 234 (dk_at dksX0_field_8 6 rfl rfl)
theorem dX0_field_197 : decode cX0_field 197 = .ok (.iconst 1, 1) := dk_4 (dk_at dksX0_field_8 9 rfl rfl)
theorem dX0_field_198 : decode cX0_field 198 = .ok (.iadd, 1) := dk_96 (dk_at dksX0_field_8 10 rfl rfl)
theorem dX0_field_199 : decode cX0_field 199 = .ok (.putfield 490, 3) := dk_181 1 234 (dk_at dksX0_field_8 11 rfl rfl)
theorem dX0_field_202 : decode cX0_field 202 = .ok (.aload 6, 2) := dk_25 6 (dk_at dksX0_field_8 14 rfl rfl)
theorem dX0_field_204 : decode cX0_field 204 = .ok (.invokevirtual 493, 3) := dk_182 1 237 (dk_at dksX0_field_8 16 rfl rfl)
theorem dX0_field_207 : decode cX0_field 207 = .ok (.ireturn, 1) := dk_172 (dk_at dksX0_field_8 19 rfl rfl)
abbrev cX0_ownField : ByteArray := prog_1_method_3_code
def yX0_ownField : MethodName := ⟨RX0, "ownField", "(LReflectMirror$Type;I)LReflectMirror$Member;"⟩
def dkwX0_ownField_2 : List UInt8 := [42, 180, 0, 20, 29, 50, 176, 132, 3, 1, 167, 255, 200, 1, 176]
abbrev dktX0_ownField_2 : List UInt8 := dkwX0_ownField_2 ++ []
def dkwX0_ownField_1 : List UInt8 := [180, 0, 20, 29, 50, 180, 0, 30, 153, 0, 23, 42, 180, 0, 20, 29, 50, 180, 0, 34, 28, 160, 0, 10]
abbrev dktX0_ownField_1 : List UInt8 := dkwX0_ownField_1 ++ dktX0_ownField_2
def dkwX0_ownField_0 : List UInt8 := [3, 62, 29, 42, 180, 0, 17, 162, 0, 54, 42, 180, 0, 20, 29, 50, 180, 0, 24, 43, 166, 0, 35, 42]
abbrev dktX0_ownField_0 : List UInt8 := dkwX0_ownField_0 ++ dktX0_ownField_1
theorem dksX0_ownField_0 : cX0_ownField.data.toList.drop 0 = dktX0_ownField_0 := by decide +kernel
theorem dksX0_ownField_1 : cX0_ownField.data.toList.drop 24 = dktX0_ownField_1 := dk_seg dksX0_ownField_0 24 rfl rfl
theorem dksX0_ownField_2 : cX0_ownField.data.toList.drop 48 = dktX0_ownField_2 := dk_seg dksX0_ownField_1 24 rfl rfl
theorem dX0_ownField_0 : decode cX0_ownField 0 = .ok (.iconst 0, 1) := dk_3 (dk_at dksX0_ownField_0 0 rfl rfl)
theorem dX0_ownField_1 : decode cX0_ownField 1 = .ok (.istore_n 3, 1) := dk_62 (dk_at dksX0_ownField_0 1 rfl rfl)
theorem dX0_ownField_2 : decode cX0_ownField 2 = .ok (.iload_n 3, 1) := dk_29 (dk_at dksX0_ownField_0 2 rfl rfl)
theorem dX0_ownField_3 : decode cX0_ownField 3 = .ok (.aload_n 0, 1) := dk_42 (dk_at dksX0_ownField_0 3 rfl rfl)
theorem dX0_ownField_4 : decode cX0_ownField 4 = .ok (.getfield 17, 3) := dk_180 0 17 (dk_at dksX0_ownField_0 4 rfl rfl)
theorem dX0_ownField_7 : decode cX0_ownField 7 = .ok (.if_icmp .ge 54, 3) := dk_162 0 54 (dk_at dksX0_ownField_0 7 rfl rfl)
theorem dX0_ownField_10 : decode cX0_ownField 10 = .ok (.aload_n 0, 1) := dk_42 (dk_at dksX0_ownField_0 10 rfl rfl)
theorem dX0_ownField_11 : decode cX0_ownField 11 = .ok (.getfield 20, 3) := dk_180 0 20 (dk_at dksX0_ownField_0 11 rfl rfl)
theorem dX0_ownField_14 : decode cX0_ownField 14 = .ok (.iload_n 3, 1) := dk_29 (dk_at dksX0_ownField_0 14 rfl rfl)
theorem dX0_ownField_15 : decode cX0_ownField 15 = .ok (.aaload, 1) := dk_50 (dk_at dksX0_ownField_0 15 rfl rfl)
theorem dX0_ownField_16 : decode cX0_ownField 16 = .ok (.getfield 24, 3) := dk_180 0 24 (dk_at dksX0_ownField_0 16 rfl rfl)
theorem dX0_ownField_19 : decode cX0_ownField 19 = .ok (.aload_n 1, 1) := dk_43 (dk_at dksX0_ownField_0 19 rfl rfl)
theorem dX0_ownField_20 : decode cX0_ownField 20 = .ok (.if_acmp .ne 35, 3) := dk_166 0 35 (dk_at dksX0_ownField_0 20 rfl rfl)
theorem dX0_ownField_23 : decode cX0_ownField 23 = .ok (.aload_n 0, 1) := dk_42 (dk_at dksX0_ownField_0 23 rfl rfl)
theorem dX0_ownField_24 : decode cX0_ownField 24 = .ok (.getfield 20, 3) := dk_180 0 20 (dk_at dksX0_ownField_1 0 rfl rfl)
theorem dX0_ownField_27 : decode cX0_ownField 27 = .ok (.iload_n 3, 1) := dk_29 (dk_at dksX0_ownField_1 3 rfl rfl)
theorem dX0_ownField_28 : decode cX0_ownField 28 = .ok (.aaload, 1) := dk_50 (dk_at dksX0_ownField_1 4 rfl rfl)
theorem dX0_ownField_29 : decode cX0_ownField 29 = .ok (.getfield 30, 3) := dk_180 0 30 (dk_at dksX0_ownField_1 5 rfl rfl)
theorem dX0_ownField_32 : decode cX0_ownField 32 = .ok (.ifCond .eq 23, 3) := dk_153 0 23 (dk_at dksX0_ownField_1 8 rfl rfl)
theorem dX0_ownField_35 : decode cX0_ownField 35 = .ok (.aload_n 0, 1) := dk_42 (dk_at dksX0_ownField_1 11 rfl rfl)
theorem dX0_ownField_36 : decode cX0_ownField 36 = .ok (.getfield 20, 3) := dk_180 0 20 (dk_at dksX0_ownField_1 12 rfl rfl)
theorem dX0_ownField_39 : decode cX0_ownField 39 = .ok (.iload_n 3, 1) := dk_29 (dk_at dksX0_ownField_1 15 rfl rfl)
theorem dX0_ownField_40 : decode cX0_ownField 40 = .ok (.aaload, 1) := dk_50 (dk_at dksX0_ownField_1 16 rfl rfl)
theorem dX0_ownField_41 : decode cX0_ownField 41 = .ok (.getfield 34, 3) := dk_180 0 34 (dk_at dksX0_ownField_1 17 rfl rfl)
theorem dX0_ownField_44 : decode cX0_ownField 44 = .ok (.iload_n 2, 1) := dk_28 (dk_at dksX0_ownField_1 20 rfl rfl)
theorem dX0_ownField_45 : decode cX0_ownField 45 = .ok (.if_icmp .ne 10, 3) := dk_160 0 10 (dk_at dksX0_ownField_1 21 rfl rfl)
theorem dX0_ownField_48 : decode cX0_ownField 48 = .ok (.aload_n 0, 1) := dk_42 (dk_at dksX0_ownField_2 0 rfl rfl)
theorem dX0_ownField_49 : decode cX0_ownField 49 = .ok (.getfield 20, 3) := dk_180 0 20 (dk_at dksX0_ownField_2 1 rfl rfl)
theorem dX0_ownField_52 : decode cX0_ownField 52 = .ok (.iload_n 3, 1) := dk_29 (dk_at dksX0_ownField_2 4 rfl rfl)
theorem dX0_ownField_53 : decode cX0_ownField 53 = .ok (.aaload, 1) := dk_50 (dk_at dksX0_ownField_2 5 rfl rfl)
theorem dX0_ownField_54 : decode cX0_ownField 54 = .ok (.areturn, 1) := dk_176 (dk_at dksX0_ownField_2 6 rfl rfl)
theorem dX0_ownField_55 : decode cX0_ownField 55 = .ok (.iinc 3 1, 3) := dk_132 3 1 (dk_at dksX0_ownField_2 7 rfl rfl)
theorem dX0_ownField_58 : decode cX0_ownField 58 = .ok (.goto (-56), 3) := dk_167 255 200 (dk_at dksX0_ownField_2 10 rfl rfl)
theorem dX0_ownField_61 : decode cX0_ownField 61 = .ok (.aconst_null, 1) := dk_1 (dk_at dksX0_ownField_2 13 rfl rfl)
theorem dX0_ownField_62 : decode cX0_ownField 62 = .ok (.areturn, 1) := dk_176 (dk_at dksX0_ownField_2 14 rfl rfl)
abbrev cX0_method : ByteArray := prog_1_method_46_code
def yX0_method : MethodName := ⟨RX0, "method", "(IIIIIIII)I"⟩
def dkwX0_method_13 : List UInt8 := [42, 89, 180, 0, 17, 4, 96, 181, 0, 17, 25, 9, 182, 1, 237, 172]
abbrev dktX0_method_13 : List UInt8 := dkwX0_method_13 ++ []
def dkwX0_method_12 : List UInt8 := [187, 1, 244, 89, 42, 25, 9, 183, 1, 246, 181, 1, 62, 42, 180, 0, 20, 42, 180, 0, 17, 25, 9, 83]
abbrev dktX0_method_12 : List UInt8 := dkwX0_method_12 ++ dktX0_method_13
def dkwX0_method_11 : List UInt8 := [160, 0, 6, 16, 253, 172, 25, 9, 25, 9, 16, 16, 182, 0, 55, 153, 0, 7, 1, 167, 0, 13]
abbrev dktX0_method_11 : List UInt8 := dkwX0_method_11 ++ dktX0_method_12
def dkwX0_method_10 : List UInt8 := [42, 42, 180, 0, 7, 27, 50, 25, 9, 182, 0, 45, 198, 0, 6, 16, 254, 172, 42, 180, 0, 17, 16, 100]
abbrev dktX0_method_10 : List UInt8 := dkwX0_method_10 ++ dktX0_method_11
def dkwX0_method_9 : List UInt8 := [167, 0, 16, 21, 10, 4, 160, 0, 8, 21, 7, 167, 0, 5, 21, 8, 50, 83, 132, 10, 1, 167, 255, 210]
abbrev dktX0_method_9 : List UInt8 := dkwX0_method_9 ++ dktX0_method_10
def dkwX0_method_8 : List UInt8 := [21, 5, 162, 0, 45, 25, 9, 180, 1, 51, 21, 10, 42, 180, 0, 7, 21, 10, 154, 0, 8, 21, 6]
abbrev dktX0_method_8 : List UInt8 := dkwX0_method_8 ++ dktX0_method_9
def dkwX0_method_7 : List UInt8 := [180, 0, 7, 21, 4, 50, 183, 1, 231, 58, 9, 25, 9, 21, 5, 181, 1, 48, 3, 54, 10, 21, 10]
abbrev dktX0_method_7 : List UInt8 := dkwX0_method_7 ++ dktX0_method_8
def dkwX0_method_6 : List UInt8 := [42, 180, 0, 17, 42, 180, 0, 7, 27, 50, 28, 29, 3, 21, 4, 2, 160, 0, 7, 1, 167, 0, 10, 42]
abbrev dktX0_method_6 : List UInt8 := dkwX0_method_6 ++ dktX0_method_7
def dkwX0_method_5 : List UInt8 := [153, 0, 18, 21, 5, 5, 164, 0, 14, 42, 21, 8, 182, 1, 173, 154, 0, 5, 2, 172, 187, 0, 25, 89]
abbrev dktX0_method_5 : List UInt8 := dkwX0_method_5 ++ dktX0_method_6
def dkwX0_method_4 : List UInt8 := [158, 0, 12, 42, 21, 6, 182, 1, 173, 153, 0, 33, 21, 5, 4, 164, 0, 12, 42, 21, 7, 182, 1, 173]
abbrev dktX0_method_4 : List UInt8 := dkwX0_method_4 ++ dktX0_method_5
def dkwX0_method_3 : List UInt8 := [4, 100, 133, 184, 1, 163, 153, 0, 60, 21, 5, 133, 9, 20, 1, 179, 184, 1, 163, 153, 0, 47, 21, 5]
abbrev dktX0_method_3 : List UInt8 := dkwX0_method_3 ++ dktX0_method_4
def dkwX0_method_2 : List UInt8 := [180, 0, 7, 27, 50, 29, 184, 1, 240, 154, 0, 5, 2, 172, 21, 4, 133, 20, 1, 167, 42, 180, 0, 1]
abbrev dktX0_method_2 : List UInt8 := dkwX0_method_2 ++ dktX0_method_3
def dkwX0_method_1 : List UInt8 := [20, 1, 223, 184, 1, 163, 153, 0, 28, 29, 133, 9, 20, 1, 238, 184, 1, 163, 153, 0, 16, 42]
abbrev dktX0_method_1 : List UInt8 := dkwX0_method_1 ++ dktX0_method_2
def dkwX0_method_0 : List UInt8 := [42, 27, 182, 1, 173, 153, 0, 52, 42, 180, 0, 7, 27, 50, 182, 1, 197, 153, 0, 40, 28, 133, 9]
abbrev dktX0_method_0 : List UInt8 := dkwX0_method_0 ++ dktX0_method_1
theorem dksX0_method_0 : cX0_method.data.toList.drop 0 = dktX0_method_0 := by decide +kernel
theorem dksX0_method_1 : cX0_method.data.toList.drop 23 = dktX0_method_1 := dk_seg dksX0_method_0 23 rfl rfl
theorem dksX0_method_2 : cX0_method.data.toList.drop 45 = dktX0_method_2 := dk_seg dksX0_method_1 22 rfl rfl
theorem dksX0_method_3 : cX0_method.data.toList.drop 69 = dktX0_method_3 := dk_seg dksX0_method_2 24 rfl rfl
theorem dksX0_method_4 : cX0_method.data.toList.drop 93 = dktX0_method_4 := dk_seg dksX0_method_3 24 rfl rfl
theorem dksX0_method_5 : cX0_method.data.toList.drop 117 = dktX0_method_5 := dk_seg dksX0_method_4 24 rfl rfl
theorem dksX0_method_6 : cX0_method.data.toList.drop 141 = dktX0_method_6 := dk_seg dksX0_method_5 24 rfl rfl
theorem dksX0_method_7 : cX0_method.data.toList.drop 165 = dktX0_method_7 := dk_seg dksX0_method_6 24 rfl rfl
theorem dksX0_method_8 : cX0_method.data.toList.drop 188 = dktX0_method_8 := dk_seg dksX0_method_7 23 rfl rfl
theorem dksX0_method_9 : cX0_method.data.toList.drop 211 = dktX0_method_9 := dk_seg dksX0_method_8 23 rfl rfl
theorem dksX0_method_10 : cX0_method.data.toList.drop 235 = dktX0_method_10 := dk_seg dksX0_method_9 24 rfl rfl
theorem dksX0_method_11 : cX0_method.data.toList.drop 259 = dktX0_method_11 := dk_seg dksX0_method_10 24 rfl rfl
theorem dksX0_method_12 : cX0_method.data.toList.drop 281 = dktX0_method_12 := dk_seg dksX0_method_11 22 rfl rfl
theorem dksX0_method_13 : cX0_method.data.toList.drop 305 = dktX0_method_13 := dk_seg dksX0_method_12 24 rfl rfl
theorem dX0_method_0 : decode cX0_method 0 = .ok (.aload_n 0, 1) := dk_42 (dk_at dksX0_method_0 0 rfl rfl)
theorem dX0_method_1 : decode cX0_method 1 = .ok (.iload_n 1, 1) := dk_27 (dk_at dksX0_method_0 1 rfl rfl)
theorem dX0_method_2 : decode cX0_method 2 = .ok (.invokevirtual 429, 3) := dk_182 1 173 (dk_at dksX0_method_0 2 rfl rfl)
theorem dX0_method_5 : decode cX0_method 5 = .ok (.ifCond .eq 52, 3) := dk_153 0 52 (dk_at dksX0_method_0 5 rfl rfl)
theorem dX0_method_8 : decode cX0_method 8 = .ok (.aload_n 0, 1) := dk_42 (dk_at dksX0_method_0 8 rfl rfl)
theorem dX0_method_9 : decode cX0_method 9 = .ok (.getfield 7, 3) := dk_180 0 7 (dk_at dksX0_method_0 9 rfl rfl)
theorem dX0_method_12 : decode cX0_method 12 = .ok (.iload_n 1, 1) := dk_27 (dk_at dksX0_method_0 12 rfl rfl)
theorem dX0_method_13 : decode cX0_method 13 = .ok (.aaload, 1) := dk_50 (dk_at dksX0_method_0 13 rfl rfl)
theorem dX0_method_14 : decode cX0_method 14 = .ok (.invokevirtual 453, 3) := dk_182 1 197 (dk_at dksX0_method_0 14 rfl rfl)
theorem dX0_method_17 : decode cX0_method 17 = .ok (.ifCond .eq 40, 3) := dk_153 0 40 (dk_at dksX0_method_0 17 rfl rfl)
theorem dX0_method_20 : decode cX0_method 20 = .ok (.iload_n 2, 1) := dk_28 (dk_at dksX0_method_0 20 rfl rfl)
theorem dX0_method_21 : decode cX0_method 21 = .ok (.i2l, 1) := dk_133 (dk_at dksX0_method_0 21 rfl rfl)
theorem dX0_method_22 : decode cX0_method 22 = .ok (.lconst 0, 1) := dk_9 (dk_at dksX0_method_0 22 rfl rfl)
theorem dX0_method_23 : decode cX0_method 23 = .ok (.ldc2_w 479, 3) := dk_20 1 223 (dk_at dksX0_method_1 0 rfl rfl)
theorem dX0_method_26 : decode cX0_method 26 = .ok (.invokestatic 419, 3) := dk_184 1 163 (dk_at dksX0_method_1 3 rfl rfl)
theorem dX0_method_29 : decode cX0_method 29 = .ok (.ifCond .eq 28, 3) := dk_153 0 28 (dk_at dksX0_method_1 6 rfl rfl)
theorem dX0_method_32 : decode cX0_method 32 = .ok (.iload_n 3, 1) := dk_29 (dk_at dksX0_method_1 9 rfl rfl)
theorem dX0_method_33 : decode cX0_method 33 = .ok (.i2l, 1) := dk_133 (dk_at dksX0_method_1 10 rfl rfl)
theorem dX0_method_34 : decode cX0_method 34 = .ok (.lconst 0, 1) := dk_9 (dk_at dksX0_method_1 11 rfl rfl)
theorem dX0_method_35 : decode cX0_method 35 = .ok (.ldc2_w 494, 3) := dk_20 1 238 (dk_at dksX0_method_1 12 rfl rfl)
theorem dX0_method_38 : decode cX0_method 38 = .ok (.invokestatic 419, 3) := dk_184 1 163 (dk_at dksX0_method_1 15 rfl rfl)
theorem dX0_method_41 : decode cX0_method 41 = .ok (.ifCond .eq 16, 3) := dk_153 0 16 (dk_at dksX0_method_1 18 rfl rfl)
theorem dX0_method_44 : decode cX0_method 44 = .ok (.aload_n 0, 1) := dk_42 (dk_at dksX0_method_1 21 rfl rfl)
theorem dX0_method_45 : decode cX0_method 45 = .ok (.getfield 7, 3) := dk_180 0 7 (dk_at dksX0_method_2 0 rfl rfl)
theorem dX0_method_48 : decode cX0_method 48 = .ok (.iload_n 1, 1) := dk_27 (dk_at dksX0_method_2 3 rfl rfl)
theorem dX0_method_49 : decode cX0_method 49 = .ok (.aaload, 1) := dk_50 (dk_at dksX0_method_2 4 rfl rfl)
theorem dX0_method_50 : decode cX0_method 50 = .ok (.iload_n 3, 1) := dk_29 (dk_at dksX0_method_2 5 rfl rfl)
theorem dX0_method_51 : decode cX0_method 51 = .ok (.invokestatic 496, 3) := dk_184 1 240 (dk_at dksX0_method_2 6 rfl rfl)
theorem dX0_method_54 : decode cX0_method 54 = .ok (.ifCond .ne 5, 3) := dk_154 0 5 (dk_at dksX0_method_2 9 rfl rfl)
theorem dX0_method_57 : decode cX0_method 57 = .ok (.iconst (-1), 1) := dk_2 (dk_at dksX0_method_2 12 rfl rfl)
theorem dX0_method_58 : decode cX0_method 58 = .ok (.ireturn, 1) := dk_172 (dk_at dksX0_method_2 13 rfl rfl)
theorem dX0_method_59 : decode cX0_method 59 = .ok (.iload 4, 2) := dk_21 4 (dk_at dksX0_method_2 14 rfl rfl)
theorem dX0_method_61 : decode cX0_method 61 = .ok (.i2l, 1) := dk_133 (dk_at dksX0_method_2 16 rfl rfl)
theorem dX0_method_62 : decode cX0_method 62 = .ok (.ldc2_w 423, 3) := dk_20 1 167 (dk_at dksX0_method_2 17 rfl rfl)
theorem dX0_method_65 : decode cX0_method 65 = .ok (.aload_n 0, 1) := dk_42 (dk_at dksX0_method_2 20 rfl rfl)
theorem dX0_method_66 : decode cX0_method 66 = .ok (.getfield 1, 3) := dk_180 0 1 (dk_at dksX0_method_2 21 rfl rfl)
theorem dX0_method_69 : decode cX0_method 69 = .ok (.iconst 1, 1) := dk_4 (dk_at dksX0_method_3 0 rfl rfl)
theorem dX0_method_70 : decode cX0_method 70 = .ok (.isub, 1) := dk_100 (dk_at dksX0_method_3 1 rfl rfl)
theorem dX0_method_71 : decode cX0_method 71 = .ok (.i2l, 1) := dk_133 (dk_at dksX0_method_3 2 rfl rfl)
theorem dX0_method_72 : decode cX0_method 72 = .ok (.invokestatic 419, 3) := dk_184 1 163 (dk_at dksX0_method_3 3 rfl rfl)
theorem dX0_method_75 : decode cX0_method 75 = .ok (.ifCond .eq 60, 3) := dk_153 0 60 (dk_at dksX0_method_3 6 rfl rfl)
theorem dX0_method_78 : decode cX0_method 78 = .ok (.iload 5, 2) := dk_21 5 (dk_at dksX0_method_3 9 rfl rfl)
theorem dX0_method_80 : decode cX0_method 80 = .ok (.i2l, 1) := dk_133 (dk_at dksX0_method_3 11 rfl rfl)
theorem dX0_method_81 : decode cX0_method 81 = .ok (.lconst 0, 1) := dk_9 (dk_at dksX0_method_3 12 rfl rfl)
theorem dX0_method_82 : decode cX0_method 82 = .ok (.ldc2_w 435, 3) := dk_20 1 179 (dk_at dksX0_method_3 13 rfl rfl)
theorem dX0_method_85 : decode cX0_method 85 = .ok (.invokestatic 419, 3) := dk_184 1 163 (dk_at dksX0_method_3 16 rfl rfl)
theorem dX0_method_88 : decode cX0_method 88 = .ok (.ifCond .eq 47, 3) := dk_153 0 47 (dk_at dksX0_method_3 19 rfl rfl)
theorem dX0_method_91 : decode cX0_method 91 = .ok (.iload 5, 2) := dk_21 5 (dk_at dksX0_method_3 22 rfl rfl)
theorem dX0_method_93 : decode cX0_method 93 = .ok (.ifCond .le 12, 3) := dk_158 0 12 (dk_at dksX0_method_4 0 rfl rfl)
theorem dX0_method_96 : decode cX0_method 96 = .ok (.aload_n 0, 1) := dk_42 (dk_at dksX0_method_4 3 rfl rfl)
theorem dX0_method_97 : decode cX0_method 97 = .ok (.iload 6, 2) := dk_21 6 (dk_at dksX0_method_4 4 rfl rfl)
theorem dX0_method_99 : decode cX0_method 99 = .ok (.invokevirtual 429, 3) := dk_182 1 173 (dk_at dksX0_method_4 6 rfl rfl)
theorem dX0_method_102 : decode cX0_method 102 = .ok (.ifCond .eq 33, 3) := dk_153 0 33 (dk_at dksX0_method_4 9 rfl rfl)
theorem dX0_method_105 : decode cX0_method 105 = .ok (.iload 5, 2) := dk_21 5 (dk_at dksX0_method_4 12 rfl rfl)
theorem dX0_method_107 : decode cX0_method 107 = .ok (.iconst 1, 1) := dk_4 (dk_at dksX0_method_4 14 rfl rfl)
theorem dX0_method_108 : decode cX0_method 108 = .ok (.if_icmp .le 12, 3) := dk_164 0 12 (dk_at dksX0_method_4 15 rfl rfl)
theorem dX0_method_111 : decode cX0_method 111 = .ok (.aload_n 0, 1) := dk_42 (dk_at dksX0_method_4 18 rfl rfl)
theorem dX0_method_112 : decode cX0_method 112 = .ok (.iload 7, 2) := dk_21 7 (dk_at dksX0_method_4 19 rfl rfl)
theorem dX0_method_114 : decode cX0_method 114 = .ok (.invokevirtual 429, 3) := dk_182 1 173 (dk_at dksX0_method_4 21 rfl rfl)
theorem dX0_method_117 : decode cX0_method 117 = .ok (.ifCond .eq 18, 3) := dk_153 0 18 (dk_at dksX0_method_5 0 rfl rfl)
theorem dX0_method_120 : decode cX0_method 120 = .ok (.iload 5, 2) := dk_21 5 (dk_at dksX0_method_5 3 rfl rfl)
theorem dX0_method_122 : decode cX0_method 122 = .ok (.iconst 2, 1) := dk_5 (dk_at dksX0_method_5 5 rfl rfl)
theorem dX0_method_123 : decode cX0_method 123 = .ok (.if_icmp .le 14, 3) := dk_164 0 14 (dk_at dksX0_method_5 6 rfl rfl)
theorem dX0_method_126 : decode cX0_method 126 = .ok (.aload_n 0, 1) := dk_42 (dk_at dksX0_method_5 9 rfl rfl)
theorem dX0_method_127 : decode cX0_method 127 = .ok (.iload 8, 2) := dk_21 8 (dk_at dksX0_method_5 10 rfl rfl)
theorem dX0_method_129 : decode cX0_method 129 = .ok (.invokevirtual 429, 3) := dk_182 1 173 (dk_at dksX0_method_5 12 rfl rfl)
theorem dX0_method_132 : decode cX0_method 132 = .ok (.ifCond .ne 5, 3) := dk_154 0 5 (dk_at dksX0_method_5 15 rfl rfl)
theorem dX0_method_135 : decode cX0_method 135 = .ok (.iconst (-1), 1) := dk_2 (dk_at dksX0_method_5 18 rfl rfl)
theorem dX0_method_136 : decode cX0_method 136 = .ok (.ireturn, 1) := dk_172 (dk_at dksX0_method_5 19 rfl rfl)
theorem dX0_method_137 : decode cX0_method 137 = .ok (.new 25, 3) := dk_187 0 25 (dk_at dksX0_method_5 20 rfl rfl)
theorem dX0_method_140 : decode cX0_method 140 = .ok (.dup, 1) := dk_89 (dk_at dksX0_method_5 23 rfl rfl)
theorem dX0_method_141 : decode cX0_method 141 = .ok (.aload_n 0, 1) := dk_42 (dk_at dksX0_method_6 0 rfl rfl)
theorem dX0_method_142 : decode cX0_method 142 = .ok (.getfield 17, 3) := dk_180 0 17 (dk_at dksX0_method_6 1 rfl rfl)
theorem dX0_method_145 : decode cX0_method 145 = .ok (.aload_n 0, 1) := dk_42 (dk_at dksX0_method_6 4 rfl rfl)
theorem dX0_method_146 : decode cX0_method 146 = .ok (.getfield 7, 3) := dk_180 0 7 (dk_at dksX0_method_6 5 rfl rfl)
theorem dX0_method_149 : decode cX0_method 149 = .ok (.iload_n 1, 1) := dk_27 (dk_at dksX0_method_6 8 rfl rfl)
theorem dX0_method_150 : decode cX0_method 150 = .ok (.aaload, 1) := dk_50 (dk_at dksX0_method_6 9 rfl rfl)
theorem dX0_method_151 : decode cX0_method 151 = .ok (.iload_n 2, 1) := dk_28 (dk_at dksX0_method_6 10 rfl rfl)
theorem dX0_method_152 : decode cX0_method 152 = .ok (.iload_n 3, 1) := dk_29 (dk_at dksX0_method_6 11 rfl rfl)
theorem dX0_method_153 : decode cX0_method 153 = .ok (.iconst 0, 1) := dk_3 (dk_at dksX0_method_6 12 rfl rfl)
theorem dX0_method_154 : decode cX0_method 154 = .ok (.iload 4, 2) := dk_21 4 (dk_at dksX0_method_6 13 rfl rfl)
theorem dX0_method_156 : decode cX0_method 156 = .ok (.iconst (-1), 1) := dk_2 (dk_at dksX0_method_6 15 rfl rfl)
theorem dX0_method_157 : decode cX0_method 157 = .ok (.if_icmp .ne 7, 3) := dk_160 0 7 (dk_at dksX0_method_6 16 rfl rfl)
theorem dX0_method_160 : decode cX0_method 160 = .ok (.aconst_null, 1) := dk_1 (dk_at dksX0_method_6 19 rfl rfl)
theorem dX0_method_161 : decode cX0_method 161 = .ok (.goto 10, 3) := dk_167 0 10 (dk_at dksX0_method_6 20 rfl rfl)
theorem dX0_method_164 : decode cX0_method 164 = .ok (.aload_n 0, 1) := dk_42 (dk_at dksX0_method_6 23 rfl rfl)
theorem dX0_method_165 : decode cX0_method 165 = .ok (.getfield 7, 3) := dk_180 0 7 (dk_at dksX0_method_7 0 rfl rfl)
theorem dX0_method_168 : decode cX0_method 168 = .ok (.iload 4, 2) := dk_21 4 (dk_at dksX0_method_7 3 rfl rfl)
theorem dX0_method_170 : decode cX0_method 170 = .ok (.aaload, 1) := dk_50 (dk_at dksX0_method_7 5 rfl rfl)
theorem dX0_method_171 : decode cX0_method 171 = .ok (.invokespecial 487, 3) := dk_183 1 231 (dk_at dksX0_method_7 6 rfl rfl)
theorem dX0_method_174 : decode cX0_method 174 = .ok (.astore 9, 2) := dk_58 9 (dk_at dksX0_method_7 9 rfl rfl)
theorem dX0_method_176 : decode cX0_method 176 = .ok (.aload 9, 2) := dk_25 9 (dk_at dksX0_method_7 11 rfl rfl)
theorem dX0_method_178 : decode cX0_method 178 = .ok (.iload 5, 2) := dk_21 5 (dk_at dksX0_method_7 13 rfl rfl)
theorem dX0_method_180 : decode cX0_method 180 = .ok (.putfield 304, 3) := dk_181 1 48 (dk_at dksX0_method_7 15 rfl rfl)
theorem dX0_method_183 : decode cX0_method 183 = .ok (.iconst 0, 1) := dk_3 (dk_at dksX0_method_7 18 rfl rfl)
theorem dX0_method_184 : decode cX0_method 184 = .ok (.istore 10, 2) := dk_54 10 (dk_at dksX0_method_7 19 rfl rfl)
theorem dX0_method_186 : decode cX0_method 186 = .ok (.iload 10, 2) := dk_21 10 (dk_at dksX0_method_7 21 rfl rfl)
theorem dX0_method_188 : decode cX0_method 188 = .ok (.iload 5, 2) := dk_21 5 (dk_at dksX0_method_8 0 rfl rfl)
theorem dX0_method_190 : decode cX0_method 190 = .ok (.if_icmp .ge 45, 3) := dk_162 0 45 (dk_at dksX0_method_8 2 rfl rfl)
theorem dX0_method_193 : decode cX0_method 193 = .ok (.aload 9, 2) := dk_25 9 (dk_at dksX0_method_8 5 rfl rfl)
theorem dX0_method_195 : decode cX0_method 195 = .ok (.getfield 307, 3) := dk_180 1 51 (dk_at dksX0_method_8 7 rfl rfl)
theorem dX0_method_198 : decode cX0_method 198 = .ok (.iload 10, 2) := dk_21 10 (dk_at dksX0_method_8 10 rfl rfl)
theorem dX0_method_200 : decode cX0_method 200 = .ok (.aload_n 0, 1) := dk_42 (dk_at dksX0_method_8 12 rfl rfl)
theorem dX0_method_201 : decode cX0_method 201 = .ok (.getfield 7, 3) := dk_180 0 7 (dk_at dksX0_method_8 13 rfl rfl)
theorem dX0_method_204 : decode cX0_method 204 = .ok (.iload 10, 2) := dk_21 10 (dk_at dksX0_method_8 16 rfl rfl)
theorem dX0_method_206 : decode cX0_method 206 = .ok (.ifCond .ne 8, 3) := dk_154 0 8 (dk_at dksX0_method_8 18 rfl rfl)
theorem dX0_method_209 : decode cX0_method 209 = .ok (.iload 6, 2) := dk_21 6 (dk_at dksX0_method_8 21 rfl rfl)
theorem dX0_method_211 : decode cX0_method 211 = .ok (.goto 16, 3) := dk_167 0 16 (dk_at dksX0_method_9 0 rfl rfl)
theorem dX0_method_214 : decode cX0_method 214 = .ok (.iload 10, 2) := dk_21 10 (dk_at dksX0_method_9 3 rfl rfl)
theorem dX0_method_216 : decode cX0_method 216 = .ok (.iconst 1, 1) := dk_4 (dk_at dksX0_method_9 5 rfl rfl)
theorem dX0_method_217 : decode cX0_method 217 = .ok (.if_icmp .ne 8, 3) := dk_160 0 8 (dk_at dksX0_method_9 6 rfl rfl)
theorem dX0_method_220 : decode cX0_method 220 = .ok (.iload 7, 2) := dk_21 7 (dk_at dksX0_method_9 9 rfl rfl)
theorem dX0_method_222 : decode cX0_method 222 = .ok (.goto 5, 3) := dk_167 0 5 (dk_at dksX0_method_9 11 rfl rfl)
theorem dX0_method_225 : decode cX0_method 225 = .ok (.iload 8, 2) := dk_21 8 (dk_at dksX0_method_9 14 rfl rfl)
theorem dX0_method_227 : decode cX0_method 227 = .ok (.aaload, 1) := dk_50 (dk_at dksX0_method_9 16 rfl rfl)
theorem dX0_method_228 : decode cX0_method 228 = .ok (.aastore, 1) := dk_83 (dk_at dksX0_method_9 17 rfl rfl)
theorem dX0_method_229 : decode cX0_method 229 = .ok (.iinc 10 1, 3) := dk_132 10 1 (dk_at dksX0_method_9 18 rfl rfl)
theorem dX0_method_232 : decode cX0_method 232 = .ok (.goto (-46), 3) := dk_167 255 210 (dk_at dksX0_method_9 21 rfl rfl)
theorem dX0_method_235 : decode cX0_method 235 = .ok (.aload_n 0, 1) := dk_42 (dk_at dksX0_method_10 0 rfl rfl)
theorem dX0_method_236 : decode cX0_method 236 = .ok (.aload_n 0, 1) := dk_42 (dk_at dksX0_method_10 1 rfl rfl)
theorem dX0_method_237 : decode cX0_method 237 = .ok (.getfield 7, 3) := dk_180 0 7 (dk_at dksX0_method_10 2 rfl rfl)
theorem dX0_method_240 : decode cX0_method 240 = .ok (.iload_n 1, 1) := dk_27 (dk_at dksX0_method_10 5 rfl rfl)
theorem dX0_method_241 : decode cX0_method 241 = .ok (.aaload, 1) := dk_50 (dk_at dksX0_method_10 6 rfl rfl)
theorem dX0_method_242 : decode cX0_method 242 = .ok (.aload 9, 2) := dk_25 9 (dk_at dksX0_method_10 7 rfl rfl)
theorem dX0_method_244 : decode cX0_method 244 = .ok (.invokevirtual 45, 3) := dk_182 0 45 (dk_at dksX0_method_10 9 rfl rfl)
theorem dX0_method_247 : decode cX0_method 247 = .ok (.ifnull 6, 3) := dk_198 0 6 (dk_at dksX0_method_10 12 rfl rfl)
theorem dX0_method_250 : decode cX0_method 250 = .ok (.bipush (-2), 2) := dk_16 254 (dk_at dksX0_method_10 15 rfl rfl)
theorem dX0_method_252 : decode cX0_method 252 = .ok (.ireturn, 1) := dk_172 (dk_at dksX0_method_10 17 rfl rfl)
theorem dX0_method_253 : decode cX0_method 253 = .ok (.aload_n 0, 1) := dk_42 (dk_at dksX0_method_10 18 rfl rfl)
theorem dX0_method_254 : decode cX0_method 254 = .ok (.getfield 17, 3) := dk_180 0 17 (dk_at dksX0_method_10 19 rfl rfl)
theorem dX0_method_257 : decode cX0_method 257 = .ok (.bipush 100, 2) := dk_16 100 (dk_at dksX0_method_10 22 rfl rfl)
theorem dX0_method_259 : decode cX0_method 259 = .ok (.if_icmp .ne 6, 3) := dk_160 0 6 (dk_at dksX0_method_11 0 rfl rfl)
theorem dX0_method_262 : decode cX0_method 262 = .ok (.bipush (-3), 2) := dk_16 253 (dk_at dksX0_method_11 3 rfl rfl)
theorem dX0_method_264 : decode cX0_method 264 = .ok (.ireturn, 1) := dk_172 (dk_at dksX0_method_11 5 rfl rfl)
theorem dX0_method_265 : decode cX0_method 265 = .ok (.aload 9, 2) := dk_25 9 (dk_at dksX0_method_11 6 rfl rfl)
theorem dX0_method_267 : decode cX0_method 267 = .ok (.aload 9, 2) := dk_25 9 (dk_at dksX0_method_11 8 rfl rfl)
theorem dX0_method_269 : decode cX0_method 269 = .ok (.bipush 16, 2) := dk_16 16 (dk_at dksX0_method_11 10 rfl rfl)
theorem dX0_method_271 : decode cX0_method 271 = .ok (.invokevirtual 55, 3) := dk_182 0 55 (dk_at dksX0_method_11 12 rfl rfl)
theorem dX0_method_274 : decode cX0_method 274 = .ok (.ifCond .eq 7, 3) := dk_153 0 7 (dk_at dksX0_method_11 15 rfl rfl)
theorem dX0_method_277 : decode cX0_method 277 = .ok (.aconst_null, 1) := dk_1 (dk_at dksX0_method_11 18 rfl rfl)
theorem dX0_method_278 : decode cX0_method 278 = .ok (.goto 13, 3) := dk_167 0 13 (dk_at dksX0_method_11 19 rfl rfl)
theorem dX0_method_281 : decode cX0_method 281 = .ok (.new 500, 3) := dk_187 1 244 (dk_at dksX0_method_12 0 rfl rfl)
theorem dX0_method_284 : decode cX0_method 284 = .ok (.dup, 1) := dk_89 (dk_at dksX0_method_12 3 rfl rfl)
theorem dX0_method_285 : decode cX0_method 285 = .ok (.aload_n 0, 1) := dk_42 (dk_at dksX0_method_12 4 rfl rfl)
theorem dX0_method_286 : decode cX0_method 286 = .ok (.aload 9, 2) := dk_25 9 (dk_at dksX0_method_12 5 rfl rfl)
theorem dX0_method_288 : decode cX0_method 288 = .ok (.invokespecial 502, 3) := dk_183 1 246 (dk_at dksX0_method_12 7 rfl rfl)
theorem dX0_method_291 : decode cX0_method 291 = .ok (.putfield 318, 3) := dk_181 1 62 (dk_at dksX0_method_12 10 rfl rfl)
theorem dX0_method_294 : decode cX0_method 294 = .ok (.aload_n 0, 1) := dk_42 (dk_at dksX0_method_12 13 rfl rfl)
theorem dX0_method_295 : decode cX0_method 295 = .ok (.getfield 20, 3) := dk_180 0 20 (dk_at dksX0_method_12 14 rfl rfl)
theorem dX0_method_298 : decode cX0_method 298 = .ok (.aload_n 0, 1) := dk_42 (dk_at dksX0_method_12 17 rfl rfl)
theorem dX0_method_299 : decode cX0_method 299 = .ok (.getfield 17, 3) := dk_180 0 17 (dk_at dksX0_method_12 18 rfl rfl)
theorem dX0_method_302 : decode cX0_method 302 = .ok (.aload 9, 2) := dk_25 9 (dk_at dksX0_method_12 21 rfl rfl)
theorem dX0_method_304 : decode cX0_method 304 = .ok (.aastore, 1) := dk_83 (dk_at dksX0_method_12 23 rfl rfl)
theorem dX0_method_305 : decode cX0_method 305 = .ok (.aload_n 0, 1) := dk_42 (dk_at dksX0_method_13 0 rfl rfl)
theorem dX0_method_306 : decode cX0_method 306 = .ok (.dup, 1) := dk_89 (dk_at dksX0_method_13 1 rfl rfl)
theorem dX0_method_307 : decode cX0_method 307 = .ok (.getfield 17, 3) := dk_180 0 17 (dk_at dksX0_method_13 2 rfl rfl)
theorem dX0_method_310 : decode cX0_method 310 = .ok (.iconst 1, 1) := dk_4 (dk_at dksX0_method_13 5 rfl rfl)
theorem dX0_method_311 : decode cX0_method 311 = .ok (.iadd, 1) := dk_96 (dk_at dksX0_method_13 6 rfl rfl)
theorem dX0_method_312 : decode cX0_method 312 = .ok (.putfield 17, 3) := dk_181 0 17 (dk_at dksX0_method_13 7 rfl rfl)
theorem dX0_method_315 : decode cX0_method 315 = .ok (.aload 9, 2) := dk_25 9 (dk_at dksX0_method_13 10 rfl rfl)
theorem dX0_method_317 : decode cX0_method 317 = .ok (.invokevirtual 493, 3) := dk_182 1 237 (dk_at dksX0_method_13 12 rfl rfl)
theorem dX0_method_320 : decode cX0_method 320 = .ok (.ireturn, 1) := dk_172 (dk_at dksX0_method_13 15 rfl rfl)
abbrev cX0_canBe : ByteArray := prog_1_method_45_code
def yX0_canBe : MethodName := ⟨RX0, "canBe", "(LReflectMirror$Type;I)Z"⟩
def dkwX0_canBe_3 : List UInt8 := [3, 172]
abbrev dktX0_canBe_3 : List UInt8 := dkwX0_canBe_3 ++ []
def dkwX0_canBe_2 : List UInt8 := [154, 0, 20, 29, 4, 159, 0, 8, 29, 5, 160, 0, 14, 27, 16, 8, 126, 154, 0, 7, 4, 167, 0, 4]
abbrev dktX0_canBe_2 : List UInt8 := dkwX0_canBe_2 ++ dktX0_canBe_3
def dkwX0_canBe_1 : List UInt8 := [126, 154, 0, 16, 29, 5, 159, 0, 11, 42, 182, 0, 41, 4, 160, 0, 5, 3, 172, 42, 182, 1, 176]
abbrev dktX0_canBe_1 : List UInt8 := dkwX0_canBe_1 ++ dktX0_canBe_2
def dkwX0_canBe_0 : List UInt8 := [27, 16, 16, 126, 153, 0, 7, 4, 167, 0, 4, 3, 61, 27, 6, 126, 62, 28, 153, 0, 25, 27, 16, 12]
abbrev dktX0_canBe_0 : List UInt8 := dkwX0_canBe_0 ++ dktX0_canBe_1
theorem dksX0_canBe_0 : cX0_canBe.data.toList.drop 0 = dktX0_canBe_0 := by decide +kernel
theorem dksX0_canBe_1 : cX0_canBe.data.toList.drop 24 = dktX0_canBe_1 := dk_seg dksX0_canBe_0 24 rfl rfl
theorem dksX0_canBe_2 : cX0_canBe.data.toList.drop 47 = dktX0_canBe_2 := dk_seg dksX0_canBe_1 23 rfl rfl
theorem dksX0_canBe_3 : cX0_canBe.data.toList.drop 71 = dktX0_canBe_3 := dk_seg dksX0_canBe_2 24 rfl rfl
theorem dX0_canBe_0 : decode cX0_canBe 0 = .ok (.iload_n 1, 1) := dk_27 (dk_at dksX0_canBe_0 0 rfl rfl)
theorem dX0_canBe_1 : decode cX0_canBe 1 = .ok (.bipush 16, 2) := dk_16 16 (dk_at dksX0_canBe_0 1 rfl rfl)
theorem dX0_canBe_3 : decode cX0_canBe 3 = .ok (.iand, 1) := dk_126 (dk_at dksX0_canBe_0 3 rfl rfl)
theorem dX0_canBe_4 : decode cX0_canBe 4 = .ok (.ifCond .eq 7, 3) := dk_153 0 7 (dk_at dksX0_canBe_0 4 rfl rfl)
theorem dX0_canBe_7 : decode cX0_canBe 7 = .ok (.iconst 1, 1) := dk_4 (dk_at dksX0_canBe_0 7 rfl rfl)
theorem dX0_canBe_8 : decode cX0_canBe 8 = .ok (.goto 4, 3) := dk_167 0 4 (dk_at dksX0_canBe_0 8 rfl rfl)
theorem dX0_canBe_11 : decode cX0_canBe 11 = .ok (.iconst 0, 1) := dk_3 (dk_at dksX0_canBe_0 11 rfl rfl)
theorem dX0_canBe_12 : decode cX0_canBe 12 = .ok (.istore_n 2, 1) := dk_61 (dk_at dksX0_canBe_0 12 rfl rfl)
theorem dX0_canBe_13 : decode cX0_canBe 13 = .ok (.iload_n 1, 1) := dk_27 (dk_at dksX0_canBe_0 13 rfl rfl)
theorem dX0_canBe_14 : decode cX0_canBe 14 = .ok (.iconst 3, 1) := dk_6 (dk_at dksX0_canBe_0 14 rfl rfl)
theorem dX0_canBe_15 : decode cX0_canBe 15 = .ok (.iand, 1) := dk_126 (dk_at dksX0_canBe_0 15 rfl rfl)
theorem dX0_canBe_16 : decode cX0_canBe 16 = .ok (.istore_n 3, 1) := dk_62 (dk_at dksX0_canBe_0 16 rfl rfl)
theorem dX0_canBe_17 : decode cX0_canBe 17 = .ok (.iload_n 2, 1) := dk_28 (dk_at dksX0_canBe_0 17 rfl rfl)
theorem dX0_canBe_18 : decode cX0_canBe 18 = .ok (.ifCond .eq 25, 3) := dk_153 0 25 (dk_at dksX0_canBe_0 18 rfl rfl)
theorem dX0_canBe_21 : decode cX0_canBe 21 = .ok (.iload_n 1, 1) := dk_27 (dk_at dksX0_canBe_0 21 rfl rfl)
theorem dX0_canBe_22 : decode cX0_canBe 22 = .ok (.bipush 12, 2) := dk_16 12 (dk_at dksX0_canBe_0 22 rfl rfl)
theorem dX0_canBe_24 : decode cX0_canBe 24 = .ok (.iand, 1) := dk_126 (dk_at dksX0_canBe_1 0 rfl rfl)
theorem dX0_canBe_25 : decode cX0_canBe 25 = .ok (.ifCond .ne 16, 3) := dk_154 0 16 (dk_at dksX0_canBe_1 1 rfl rfl)
theorem dX0_canBe_28 : decode cX0_canBe 28 = .ok (.iload_n 3, 1) := dk_29 (dk_at dksX0_canBe_1 4 rfl rfl)
theorem dX0_canBe_29 : decode cX0_canBe 29 = .ok (.iconst 2, 1) := dk_5 (dk_at dksX0_canBe_1 5 rfl rfl)
theorem dX0_canBe_30 : decode cX0_canBe 30 = .ok (.if_icmp .eq 11, 3) := dk_159 0 11 (dk_at dksX0_canBe_1 6 rfl rfl)
theorem dX0_canBe_33 : decode cX0_canBe 33 = .ok (.aload_n 0, 1) := dk_42 (dk_at dksX0_canBe_1 9 rfl rfl)
theorem dX0_canBe_34 : decode cX0_canBe 34 = .ok (.invokevirtual 41, 3) := dk_182 0 41 (dk_at dksX0_canBe_1 10 rfl rfl)
theorem dX0_canBe_37 : decode cX0_canBe 37 = .ok (.iconst 1, 1) := dk_4 (dk_at dksX0_canBe_1 13 rfl rfl)
theorem dX0_canBe_38 : decode cX0_canBe 38 = .ok (.if_icmp .ne 5, 3) := dk_160 0 5 (dk_at dksX0_canBe_1 14 rfl rfl)
theorem dX0_canBe_41 : decode cX0_canBe 41 = .ok (.iconst 0, 1) := dk_3 (dk_at dksX0_canBe_1 17 rfl rfl)
theorem dX0_canBe_42 : decode cX0_canBe 42 = .ok (.ireturn, 1) := dk_172 (dk_at dksX0_canBe_1 18 rfl rfl)
theorem dX0_canBe_43 : decode cX0_canBe 43 = .ok (.aload_n 0, 1) := dk_42 (dk_at dksX0_canBe_1 19 rfl rfl)
theorem dX0_canBe_44 : decode cX0_canBe 44 = .ok (.invokevirtual 432, 3) := dk_182 1 176 (dk_at dksX0_canBe_1 20 rfl rfl)
theorem dX0_canBe_47 : decode cX0_canBe 47 = .ok (.ifCond .ne 20, 3) := dk_154 0 20 (dk_at dksX0_canBe_2 0 rfl rfl)
theorem dX0_canBe_50 : decode cX0_canBe 50 = .ok (.iload_n 3, 1) := dk_29 (dk_at dksX0_canBe_2 3 rfl rfl)
theorem dX0_canBe_51 : decode cX0_canBe 51 = .ok (.iconst 1, 1) := dk_4 (dk_at dksX0_canBe_2 4 rfl rfl)
theorem dX0_canBe_52 : decode cX0_canBe 52 = .ok (.if_icmp .eq 8, 3) := dk_159 0 8 (dk_at dksX0_canBe_2 5 rfl rfl)
theorem dX0_canBe_55 : decode cX0_canBe 55 = .ok (.iload_n 3, 1) := dk_29 (dk_at dksX0_canBe_2 8 rfl rfl)
theorem dX0_canBe_56 : decode cX0_canBe 56 = .ok (.iconst 2, 1) := dk_5 (dk_at dksX0_canBe_2 9 rfl rfl)
theorem dX0_canBe_57 : decode cX0_canBe 57 = .ok (.if_icmp .ne 14, 3) := dk_160 0 14 (dk_at dksX0_canBe_2 10 rfl rfl)
theorem dX0_canBe_60 : decode cX0_canBe 60 = .ok (.iload_n 1, 1) := dk_27 (dk_at dksX0_canBe_2 13 rfl rfl)
theorem dX0_canBe_61 : decode cX0_canBe 61 = .ok (.bipush 8, 2) := dk_16 8 (dk_at dksX0_canBe_2 14 rfl rfl)
theorem dX0_canBe_63 : decode cX0_canBe 63 = .ok (.iand, 1) := dk_126 (dk_at dksX0_canBe_2 16 rfl rfl)
theorem dX0_canBe_64 : decode cX0_canBe 64 = .ok (.ifCond .ne 7, 3) := dk_154 0 7 (dk_at dksX0_canBe_2 17 rfl rfl)
theorem dX0_canBe_67 : decode cX0_canBe 67 = .ok (.iconst 1, 1) := dk_4 (dk_at dksX0_canBe_2 20 rfl rfl)
theorem dX0_canBe_68 : decode cX0_canBe 68 = .ok (.goto 4, 3) := dk_167 0 4 (dk_at dksX0_canBe_2 21 rfl rfl)
theorem dX0_canBe_71 : decode cX0_canBe 71 = .ok (.iconst 0, 1) := dk_3 (dk_at dksX0_canBe_3 0 rfl rfl)
theorem dX0_canBe_72 : decode cX0_canBe 72 = .ok (.ireturn, 1) := dk_172 (dk_at dksX0_canBe_3 1 rfl rfl)
abbrev cX0_ownMethod : ByteArray := prog_1_method_4_code
def yX0_ownMethod : MethodName := ⟨RX0, "ownMethod", "(LReflectMirror$Type;LReflectMirror$Member;)LReflectMirror$Member;"⟩
def dkwX0_ownMethod_2 : List UInt8 := [42, 180, 0, 20, 29, 50, 176, 132, 3, 1, 167, 255, 200, 1, 176]
abbrev dktX0_ownMethod_2 : List UInt8 := dkwX0_ownMethod_2 ++ []
def dkwX0_ownMethod_1 : List UInt8 := [180, 0, 20, 29, 50, 180, 0, 30, 154, 0, 23, 42, 180, 0, 20, 29, 50, 44, 182, 0, 37, 153, 0, 10]
abbrev dktX0_ownMethod_1 : List UInt8 := dkwX0_ownMethod_1 ++ dktX0_ownMethod_2
def dkwX0_ownMethod_0 : List UInt8 := [3, 62, 29, 42, 180, 0, 17, 162, 0, 54, 42, 180, 0, 20, 29, 50, 180, 0, 24, 43, 166, 0, 35, 42]
abbrev dktX0_ownMethod_0 : List UInt8 := dkwX0_ownMethod_0 ++ dktX0_ownMethod_1
theorem dksX0_ownMethod_0 : cX0_ownMethod.data.toList.drop 0 = dktX0_ownMethod_0 := by decide +kernel
theorem dksX0_ownMethod_1 : cX0_ownMethod.data.toList.drop 24 = dktX0_ownMethod_1 := dk_seg dksX0_ownMethod_0 24 rfl rfl
theorem dksX0_ownMethod_2 : cX0_ownMethod.data.toList.drop 48 = dktX0_ownMethod_2 := dk_seg dksX0_ownMethod_1 24 rfl rfl
theorem dX0_ownMethod_0 : decode cX0_ownMethod 0 = .ok (.iconst 0, 1) := dk_3 (dk_at dksX0_ownMethod_0 0 rfl rfl)
theorem dX0_ownMethod_1 : decode cX0_ownMethod 1 = .ok (.istore_n 3, 1) := dk_62 (dk_at dksX0_ownMethod_0 1 rfl rfl)
theorem dX0_ownMethod_2 : decode cX0_ownMethod 2 = .ok (.iload_n 3, 1) := dk_29 (dk_at dksX0_ownMethod_0 2 rfl rfl)
theorem dX0_ownMethod_3 : decode cX0_ownMethod 3 = .ok (.aload_n 0, 1) := dk_42 (dk_at dksX0_ownMethod_0 3 rfl rfl)
theorem dX0_ownMethod_4 : decode cX0_ownMethod 4 = .ok (.getfield 17, 3) := dk_180 0 17 (dk_at dksX0_ownMethod_0 4 rfl rfl)
theorem dX0_ownMethod_7 : decode cX0_ownMethod 7 = .ok (.if_icmp .ge 54, 3) := dk_162 0 54 (dk_at dksX0_ownMethod_0 7 rfl rfl)
theorem dX0_ownMethod_10 : decode cX0_ownMethod 10 = .ok (.aload_n 0, 1) := dk_42 (dk_at dksX0_ownMethod_0 10 rfl rfl)
theorem dX0_ownMethod_11 : decode cX0_ownMethod 11 = .ok (.getfield 20, 3) := dk_180 0 20 (dk_at dksX0_ownMethod_0 11 rfl rfl)
theorem dX0_ownMethod_14 : decode cX0_ownMethod 14 = .ok (.iload_n 3, 1) := dk_29 (dk_at dksX0_ownMethod_0 14 rfl rfl)
theorem dX0_ownMethod_15 : decode cX0_ownMethod 15 = .ok (.aaload, 1) := dk_50 (dk_at dksX0_ownMethod_0 15 rfl rfl)
theorem dX0_ownMethod_16 : decode cX0_ownMethod 16 = .ok (.getfield 24, 3) := dk_180 0 24 (dk_at dksX0_ownMethod_0 16 rfl rfl)
theorem dX0_ownMethod_19 : decode cX0_ownMethod 19 = .ok (.aload_n 1, 1) := dk_43 (dk_at dksX0_ownMethod_0 19 rfl rfl)
theorem dX0_ownMethod_20 : decode cX0_ownMethod 20 = .ok (.if_acmp .ne 35, 3) := dk_166 0 35 (dk_at dksX0_ownMethod_0 20 rfl rfl)
theorem dX0_ownMethod_23 : decode cX0_ownMethod 23 = .ok (.aload_n 0, 1) := dk_42 (dk_at dksX0_ownMethod_0 23 rfl rfl)
theorem dX0_ownMethod_24 : decode cX0_ownMethod 24 = .ok (.getfield 20, 3) := dk_180 0 20 (dk_at dksX0_ownMethod_1 0 rfl rfl)
theorem dX0_ownMethod_27 : decode cX0_ownMethod 27 = .ok (.iload_n 3, 1) := dk_29 (dk_at dksX0_ownMethod_1 3 rfl rfl)
theorem dX0_ownMethod_28 : decode cX0_ownMethod 28 = .ok (.aaload, 1) := dk_50 (dk_at dksX0_ownMethod_1 4 rfl rfl)
theorem dX0_ownMethod_29 : decode cX0_ownMethod 29 = .ok (.getfield 30, 3) := dk_180 0 30 (dk_at dksX0_ownMethod_1 5 rfl rfl)
theorem dX0_ownMethod_32 : decode cX0_ownMethod 32 = .ok (.ifCond .ne 23, 3) := dk_154 0 23 (dk_at dksX0_ownMethod_1 8 rfl rfl)
theorem dX0_ownMethod_35 : decode cX0_ownMethod 35 = .ok (.aload_n 0, 1) := dk_42 (dk_at dksX0_ownMethod_1 11 rfl rfl)
theorem dX0_ownMethod_36 : decode cX0_ownMethod 36 = .ok (.getfield 20, 3) := dk_180 0 20 (dk_at dksX0_ownMethod_1 12 rfl rfl)
theorem dX0_ownMethod_39 : decode cX0_ownMethod 39 = .ok (.iload_n 3, 1) := dk_29 (dk_at dksX0_ownMethod_1 15 rfl rfl)
theorem dX0_ownMethod_40 : decode cX0_ownMethod 40 = .ok (.aaload, 1) := dk_50 (dk_at dksX0_ownMethod_1 16 rfl rfl)
theorem dX0_ownMethod_41 : decode cX0_ownMethod 41 = .ok (.aload_n 2, 1) := dk_44 (dk_at dksX0_ownMethod_1 17 rfl rfl)
theorem dX0_ownMethod_42 : decode cX0_ownMethod 42 = .ok (.invokevirtual 37, 3) := dk_182 0 37 (dk_at dksX0_ownMethod_1 18 rfl rfl)
theorem dX0_ownMethod_45 : decode cX0_ownMethod 45 = .ok (.ifCond .eq 10, 3) := dk_153 0 10 (dk_at dksX0_ownMethod_1 21 rfl rfl)
theorem dX0_ownMethod_48 : decode cX0_ownMethod 48 = .ok (.aload_n 0, 1) := dk_42 (dk_at dksX0_ownMethod_2 0 rfl rfl)
theorem dX0_ownMethod_49 : decode cX0_ownMethod 49 = .ok (.getfield 20, 3) := dk_180 0 20 (dk_at dksX0_ownMethod_2 1 rfl rfl)
theorem dX0_ownMethod_52 : decode cX0_ownMethod 52 = .ok (.iload_n 3, 1) := dk_29 (dk_at dksX0_ownMethod_2 4 rfl rfl)
theorem dX0_ownMethod_53 : decode cX0_ownMethod 53 = .ok (.aaload, 1) := dk_50 (dk_at dksX0_ownMethod_2 5 rfl rfl)
theorem dX0_ownMethod_54 : decode cX0_ownMethod 54 = .ok (.areturn, 1) := dk_176 (dk_at dksX0_ownMethod_2 6 rfl rfl)
theorem dX0_ownMethod_55 : decode cX0_ownMethod 55 = .ok (.iinc 3 1, 3) := dk_132 3 1 (dk_at dksX0_ownMethod_2 7 rfl rfl)
theorem dX0_ownMethod_58 : decode cX0_ownMethod 58 = .ok (.goto (-56), 3) := dk_167 255 200 (dk_at dksX0_ownMethod_2 10 rfl rfl)
theorem dX0_ownMethod_61 : decode cX0_ownMethod 61 = .ok (.aconst_null, 1) := dk_1 (dk_at dksX0_ownMethod_2 13 rfl rfl)
theorem dX0_ownMethod_62 : decode cX0_ownMethod 62 = .ok (.areturn, 1) := dk_176 (dk_at dksX0_ownMethod_2 14 rfl rfl)
abbrev cX0_body : ByteArray := prog_1_method_48_code
def yX0_body : MethodName := ⟨RX0, "body", "(IIII)I"⟩
def dkwX0_body_3 : List UInt8 := [153, 0, 6, 16, 254, 172, 25, 5, 4, 181, 2, 46, 25, 5, 25, 6, 181, 1, 62, 4, 172]
abbrev dktX0_body_3 : List UInt8 := dkwX0_body_3 ++ []
def dkwX0_body_2 : List UInt8 := [29, 21, 4, 182, 2, 39, 58, 6, 25, 6, 182, 2, 43, 154, 0, 5, 2, 172, 25, 5, 180, 2, 46]
abbrev dktX0_body_2 : List UInt8 := dkwX0_body_2 ++ dktX0_body_3
def dkwX0_body_1 : List UInt8 := [27, 50, 16, 16, 182, 0, 55, 153, 0, 5, 2, 172, 42, 180, 0, 20, 27, 50, 58, 5, 42, 25, 5, 28]
abbrev dktX0_body_1 : List UInt8 := dkwX0_body_1 ++ dktX0_body_2
def dkwX0_body_0 : List UInt8 := [42, 27, 182, 2, 34, 153, 0, 29, 28, 133, 9, 20, 2, 37, 184, 1, 163, 153, 0, 17, 42, 180, 0, 20]
abbrev dktX0_body_0 : List UInt8 := dkwX0_body_0 ++ dktX0_body_1
theorem dksX0_body_0 : cX0_body.data.toList.drop 0 = dktX0_body_0 := by decide +kernel
theorem dksX0_body_1 : cX0_body.data.toList.drop 24 = dktX0_body_1 := dk_seg dksX0_body_0 24 rfl rfl
theorem dksX0_body_2 : cX0_body.data.toList.drop 48 = dktX0_body_2 := dk_seg dksX0_body_1 24 rfl rfl
theorem dksX0_body_3 : cX0_body.data.toList.drop 71 = dktX0_body_3 := dk_seg dksX0_body_2 23 rfl rfl
theorem dX0_body_0 : decode cX0_body 0 = .ok (.aload_n 0, 1) := dk_42 (dk_at dksX0_body_0 0 rfl rfl)
theorem dX0_body_1 : decode cX0_body 1 = .ok (.iload_n 1, 1) := dk_27 (dk_at dksX0_body_0 1 rfl rfl)
theorem dX0_body_2 : decode cX0_body 2 = .ok (.invokevirtual 546, 3) := dk_182 2 34 (dk_at dksX0_body_0 2 rfl rfl)
theorem dX0_body_5 : decode cX0_body 5 = .ok (.ifCond .eq 29, 3) := dk_153 0 29 (dk_at dksX0_body_0 5 rfl rfl)
theorem dX0_body_8 : decode cX0_body 8 = .ok (.iload_n 2, 1) := dk_28 (dk_at dksX0_body_0 8 rfl rfl)
theorem dX0_body_9 : decode cX0_body 9 = .ok (.i2l, 1) := dk_133 (dk_at dksX0_body_0 9 rfl rfl)
theorem dX0_body_10 : decode cX0_body 10 = .ok (.lconst 0, 1) := dk_9 (dk_at dksX0_body_0 10 rfl rfl)
theorem dX0_body_11 : decode cX0_body 11 = .ok (.ldc2_w 549, 3) := dk_20 2 37 (dk_at dksX0_body_0 11 rfl rfl)
theorem dX0_body_14 : decode cX0_body 14 = .ok (.invokestatic 419, 3) := dk_184 1 163 (dk_at dksX0_body_0 14 rfl rfl)
theorem dX0_body_17 : decode cX0_body 17 = .ok (.ifCond .eq 17, 3) := dk_153 0 17 (dk_at dksX0_body_0 17 rfl rfl)
theorem dX0_body_20 : decode cX0_body 20 = .ok (.aload_n 0, 1) := dk_42 (dk_at dksX0_body_0 20 rfl rfl)
theorem dX0_body_21 : decode cX0_body 21 = .ok (.getfield 20, 3) := dk_180 0 20 (dk_at dksX0_body_0 21 rfl rfl)
theorem dX0_body_24 : decode cX0_body 24 = .ok (.iload_n 1, 1) := dk_27 (dk_at dksX0_body_1 0 rfl rfl)
theorem dX0_body_25 : decode cX0_body 25 = .ok (.aaload, 1) := dk_50 (dk_at dksX0_body_1 1 rfl rfl)
theorem dX0_body_26 : decode cX0_body 26 = .ok (.bipush 16, 2) := dk_16 16 (dk_at dksX0_body_1 2 rfl rfl)
theorem dX0_body_28 : decode cX0_body 28 = .ok (.invokevirtual 55, 3) := dk_182 0 55 (dk_at dksX0_body_1 4 rfl rfl)
theorem dX0_body_31 : decode cX0_body 31 = .ok (.ifCond .eq 5, 3) := dk_153 0 5 (dk_at dksX0_body_1 7 rfl rfl)
theorem dX0_body_34 : decode cX0_body 34 = .ok (.iconst (-1), 1) := dk_2 (dk_at dksX0_body_1 10 rfl rfl)
theorem dX0_body_35 : decode cX0_body 35 = .ok (.ireturn, 1) := dk_172 (dk_at dksX0_body_1 11 rfl rfl)
theorem dX0_body_36 : decode cX0_body 36 = .ok (.aload_n 0, 1) := dk_42 (dk_at dksX0_body_1 12 rfl rfl)
theorem dX0_body_37 : decode cX0_body 37 = .ok (.getfield 20, 3) := dk_180 0 20 (dk_at dksX0_body_1 13 rfl rfl)
theorem dX0_body_40 : decode cX0_body 40 = .ok (.iload_n 1, 1) := dk_27 (dk_at dksX0_body_1 16 rfl rfl)
theorem dX0_body_41 : decode cX0_body 41 = .ok (.aaload, 1) := dk_50 (dk_at dksX0_body_1 17 rfl rfl)
theorem dX0_body_42 : decode cX0_body 42 = .ok (.astore 5, 2) := dk_58 5 (dk_at dksX0_body_1 18 rfl rfl)
theorem dX0_body_44 : decode cX0_body 44 = .ok (.aload_n 0, 1) := dk_42 (dk_at dksX0_body_1 20 rfl rfl)
theorem dX0_body_45 : decode cX0_body 45 = .ok (.aload 5, 2) := dk_25 5 (dk_at dksX0_body_1 21 rfl rfl)
theorem dX0_body_47 : decode cX0_body 47 = .ok (.iload_n 2, 1) := dk_28 (dk_at dksX0_body_1 23 rfl rfl)
theorem dX0_body_48 : decode cX0_body 48 = .ok (.iload_n 3, 1) := dk_29 (dk_at dksX0_body_2 0 rfl rfl)
theorem dX0_body_49 : decode cX0_body 49 = .ok (.iload 4, 2) := dk_21 4 (dk_at dksX0_body_2 1 rfl rfl)
theorem dX0_body_51 : decode cX0_body 51 = .ok (.invokevirtual 551, 3) := dk_182 2 39 (dk_at dksX0_body_2 3 rfl rfl)
theorem dX0_body_54 : decode cX0_body 54 = .ok (.astore 6, 2) := dk_58 6 (dk_at dksX0_body_2 6 rfl rfl)
theorem dX0_body_56 : decode cX0_body 56 = .ok (.aload 6, 2) := dk_25 6 (dk_at dksX0_body_2 8 rfl rfl)
theorem dX0_body_58 : decode cX0_body 58 = .ok (.invokevirtual 555, 3) := dk_182 2 43 (dk_at dksX0_body_2 10 rfl rfl)
theorem dX0_body_61 : decode cX0_body 61 = .ok (.ifCond .ne 5, 3) := dk_154 0 5 (dk_at dksX0_body_2 13 rfl rfl)
theorem dX0_body_64 : decode cX0_body 64 = .ok (.iconst (-1), 1) := dk_2 (dk_at dksX0_body_2 16 rfl rfl)
theorem dX0_body_65 : decode cX0_body 65 = .ok (.ireturn, 1) := dk_172 (dk_at dksX0_body_2 17 rfl rfl)
theorem dX0_body_66 : decode cX0_body 66 = .ok (.aload 5, 2) := dk_25 5 (dk_at dksX0_body_2 18 rfl rfl)
theorem dX0_body_68 : decode cX0_body 68 = .ok (.getfield 558, 3) := dk_180 2 46 (dk_at dksX0_body_2 20 rfl rfl)
theorem dX0_body_71 : decode cX0_body 71 = .ok (.ifCond .eq 6, 3) := dk_153 0 6 (dk_at dksX0_body_3 0 rfl rfl)
theorem dX0_body_74 : decode cX0_body 74 = .ok (.bipush (-2), 2) := dk_16 254 (dk_at dksX0_body_3 3 rfl rfl)
theorem dX0_body_76 : decode cX0_body 76 = .ok (.ireturn, 1) := dk_172 (dk_at dksX0_body_3 5 rfl rfl)
theorem dX0_body_77 : decode cX0_body 77 = .ok (.aload 5, 2) := dk_25 5 (dk_at dksX0_body_3 6 rfl rfl)
theorem dX0_body_79 : decode cX0_body 79 = .ok (.iconst 1, 1) := dk_4 (dk_at dksX0_body_3 8 rfl rfl)
theorem dX0_body_80 : decode cX0_body 80 = .ok (.putfield 558, 3) := dk_181 2 46 (dk_at dksX0_body_3 9 rfl rfl)
theorem dX0_body_83 : decode cX0_body 83 = .ok (.aload 5, 2) := dk_25 5 (dk_at dksX0_body_3 12 rfl rfl)
theorem dX0_body_85 : decode cX0_body 85 = .ok (.aload 6, 2) := dk_25 6 (dk_at dksX0_body_3 14 rfl rfl)
theorem dX0_body_87 : decode cX0_body 87 = .ok (.putfield 318, 3) := dk_181 1 62 (dk_at dksX0_body_3 16 rfl rfl)
theorem dX0_body_90 : decode cX0_body 90 = .ok (.iconst 1, 1) := dk_4 (dk_at dksX0_body_3 19 rfl rfl)
theorem dX0_body_91 : decode cX0_body 91 = .ok (.ireturn, 1) := dk_172 (dk_at dksX0_body_3 20 rfl rfl)
abbrev cX0_isMethod : ByteArray := prog_1_method_31_code
def yX0_isMethod : MethodName := ⟨RX0, "isMethod", "(I)Z"⟩
def dkwX0_isMethod_1 : List UInt8 := [3, 172]
abbrev dktX0_isMethod_1 : List UInt8 := dkwX0_isMethod_1 ++ []
def dkwX0_isMethod_0 : List UInt8 := [42, 27, 182, 1, 169, 153, 0, 19, 42, 180, 0, 20, 27, 50, 180, 0, 30, 154, 0, 7, 4, 167, 0, 4]
abbrev dktX0_isMethod_0 : List UInt8 := dkwX0_isMethod_0 ++ dktX0_isMethod_1
theorem dksX0_isMethod_0 : cX0_isMethod.data.toList.drop 0 = dktX0_isMethod_0 := by decide +kernel
theorem dksX0_isMethod_1 : cX0_isMethod.data.toList.drop 24 = dktX0_isMethod_1 := dk_seg dksX0_isMethod_0 24 rfl rfl
theorem dX0_isMethod_0 : decode cX0_isMethod 0 = .ok (.aload_n 0, 1) := dk_42 (dk_at dksX0_isMethod_0 0 rfl rfl)
theorem dX0_isMethod_1 : decode cX0_isMethod 1 = .ok (.iload_n 1, 1) := dk_27 (dk_at dksX0_isMethod_0 1 rfl rfl)
theorem dX0_isMethod_2 : decode cX0_isMethod 2 = .ok (.invokevirtual 425, 3) := dk_182 1 169 (dk_at dksX0_isMethod_0 2 rfl rfl)
theorem dX0_isMethod_5 : decode cX0_isMethod 5 = .ok (.ifCond .eq 19, 3) := dk_153 0 19 (dk_at dksX0_isMethod_0 5 rfl rfl)
theorem dX0_isMethod_8 : decode cX0_isMethod 8 = .ok (.aload_n 0, 1) := dk_42 (dk_at dksX0_isMethod_0 8 rfl rfl)
theorem dX0_isMethod_9 : decode cX0_isMethod 9 = .ok (.getfield 20, 3) := dk_180 0 20 (dk_at dksX0_isMethod_0 9 rfl rfl)
theorem dX0_isMethod_12 : decode cX0_isMethod 12 = .ok (.iload_n 1, 1) := dk_27 (dk_at dksX0_isMethod_0 12 rfl rfl)
theorem dX0_isMethod_13 : decode cX0_isMethod 13 = .ok (.aaload, 1) := dk_50 (dk_at dksX0_isMethod_0 13 rfl rfl)
theorem dX0_isMethod_14 : decode cX0_isMethod 14 = .ok (.getfield 30, 3) := dk_180 0 30 (dk_at dksX0_isMethod_0 14 rfl rfl)
theorem dX0_isMethod_17 : decode cX0_isMethod 17 = .ok (.ifCond .ne 7, 3) := dk_154 0 7 (dk_at dksX0_isMethod_0 17 rfl rfl)
theorem dX0_isMethod_20 : decode cX0_isMethod 20 = .ok (.iconst 1, 1) := dk_4 (dk_at dksX0_isMethod_0 20 rfl rfl)
theorem dX0_isMethod_21 : decode cX0_isMethod 21 = .ok (.goto 4, 3) := dk_167 0 4 (dk_at dksX0_isMethod_0 21 rfl rfl)
theorem dX0_isMethod_24 : decode cX0_isMethod 24 = .ok (.iconst 0, 1) := dk_3 (dk_at dksX0_isMethod_1 0 rfl rfl)
theorem dX0_isMethod_25 : decode cX0_isMethod 25 = .ok (.ireturn, 1) := dk_172 (dk_at dksX0_isMethod_1 1 rfl rfl)
abbrev cX0_isMember : ByteArray := prog_1_method_30_code
def yX0_isMember : MethodName := ⟨RX0, "isMember", "(I)Z"⟩
def dkwX0_isMember_0 : List UInt8 := [27, 133, 9, 42, 180, 0, 17, 4, 100, 133, 184, 1, 163, 172]
abbrev dktX0_isMember_0 : List UInt8 := dkwX0_isMember_0 ++ []
theorem dksX0_isMember_0 : cX0_isMember.data.toList.drop 0 = dktX0_isMember_0 := by decide +kernel
theorem dX0_isMember_0 : decode cX0_isMember 0 = .ok (.iload_n 1, 1) := dk_27 (dk_at dksX0_isMember_0 0 rfl rfl)
theorem dX0_isMember_1 : decode cX0_isMember 1 = .ok (.i2l, 1) := dk_133 (dk_at dksX0_isMember_0 1 rfl rfl)
theorem dX0_isMember_2 : decode cX0_isMember 2 = .ok (.lconst 0, 1) := dk_9 (dk_at dksX0_isMember_0 2 rfl rfl)
theorem dX0_isMember_3 : decode cX0_isMember 3 = .ok (.aload_n 0, 1) := dk_42 (dk_at dksX0_isMember_0 3 rfl rfl)
theorem dX0_isMember_4 : decode cX0_isMember 4 = .ok (.getfield 17, 3) := dk_180 0 17 (dk_at dksX0_isMember_0 4 rfl rfl)
theorem dX0_isMember_7 : decode cX0_isMember 7 = .ok (.iconst 1, 1) := dk_4 (dk_at dksX0_isMember_0 7 rfl rfl)
theorem dX0_isMember_8 : decode cX0_isMember 8 = .ok (.isub, 1) := dk_100 (dk_at dksX0_isMember_0 8 rfl rfl)
theorem dX0_isMember_9 : decode cX0_isMember 9 = .ok (.i2l, 1) := dk_133 (dk_at dksX0_isMember_0 9 rfl rfl)
theorem dX0_isMember_10 : decode cX0_isMember 10 = .ok (.invokestatic 419, 3) := dk_184 1 163 (dk_at dksX0_isMember_0 10 rfl rfl)
theorem dX0_isMember_13 : decode cX0_isMember 13 = .ok (.ireturn, 1) := dk_172 (dk_at dksX0_isMember_0 13 rfl rfl)
abbrev cX0_bodyOf : ByteArray := prog_1_method_47_code
def yX0_bodyOf : MethodName := ⟨RX0, "bodyOf", "(LReflectMirror$Member;III)LReflectMirror$Body;"⟩
def dkwX0_bodyOf_10 : List UInt8 := [176]
abbrev dktX0_bodyOf_10 : List UInt8 := dkwX0_bodyOf_10 ++ []
def dkwX0_bodyOf_9 : List UInt8 := [183, 2, 23, 25, 5, 182, 2, 26, 183, 2, 30, 176, 187, 2, 31, 89, 42, 43, 29, 21, 4, 183, 2, 33]
abbrev dktX0_bodyOf_9 : List UInt8 := dkwX0_bodyOf_9 ++ dktX0_bodyOf_10
def dkwX0_bodyOf_8 : List UInt8 := [187, 2, 19, 89, 42, 43, 25, 5, 199, 0, 7, 1, 167, 0, 20, 187, 2, 21, 89, 42, 5, 43, 25, 5]
abbrev dktX0_bodyOf_8 : List UInt8 := dkwX0_bodyOf_8 ++ dktX0_bodyOf_9
def dkwX0_bodyOf_7 : List UInt8 := [187, 2, 14, 89, 42, 43, 29, 21, 4, 183, 2, 16, 176, 43, 180, 0, 24, 182, 0, 59, 58, 5]
abbrev dktX0_bodyOf_7 : List UInt8 := dkwX0_bodyOf_7 ++ dktX0_bodyOf_8
def dkwX0_bodyOf_6 : List UInt8 := [42, 29, 182, 1, 169, 153, 0, 12, 42, 180, 0, 20, 29, 50, 167, 0, 4, 1, 183, 2, 13, 176]
abbrev dktX0_bodyOf_6 : List UInt8 := dkwX0_bodyOf_6 ++ dktX0_bodyOf_7
def dkwX0_bodyOf_5 : List UInt8 := [1, 21, 4, 183, 2, 5, 176, 187, 2, 8, 89, 42, 43, 29, 183, 2, 10, 176, 187, 2, 11, 89, 42, 43]
abbrev dktX0_bodyOf_5 : List UInt8 := dkwX0_bodyOf_5 ++ dktX0_bodyOf_6
def dkwX0_bodyOf_4 : List UInt8 := [176, 187, 2, 3, 89, 42, 43, 42, 29, 182, 1, 169, 153, 0, 12, 42, 180, 0, 20, 29, 50, 167, 0, 4]
abbrev dktX0_bodyOf_4 : List UInt8 := dkwX0_bodyOf_4 ++ dktX0_bodyOf_5
def dkwX0_bodyOf_3 : List UInt8 := [89, 42, 43, 42, 29, 182, 1, 169, 153, 0, 12, 42, 180, 0, 20, 29, 50, 167, 0, 4, 1, 183, 2, 0]
abbrev dktX0_bodyOf_3 : List UInt8 := dkwX0_bodyOf_3 ++ dktX0_bodyOf_4
def dkwX0_bodyOf_2 : List UInt8 := [187, 1, 244, 89, 42, 43, 183, 1, 246, 176, 187, 1, 249, 89, 42, 43, 29, 183, 1, 251, 176, 187, 1, 254]
abbrev dktX0_bodyOf_2 : List UInt8 := dkwX0_bodyOf_2 ++ dktX0_bodyOf_3
def dkwX0_bodyOf_1 : List UInt8 := [170, 0, 0, 0, 0, 0, 223, 0, 0, 0, 0, 0, 0, 0, 7, 0, 0, 0, 47, 0, 0, 0, 57, 0, 0, 0, 68, 0, 0, 0, 96, 0, 0, 0, 126, 0, 0, 0, 137, 0, 0, 0, 165, 0, 0, 0, 178]
abbrev dktX0_bodyOf_1 : List UInt8 := dkwX0_bodyOf_1 ++ dktX0_bodyOf_2
def dkwX0_bodyOf_0 : List UInt8 := [28]
abbrev dktX0_bodyOf_0 : List UInt8 := dkwX0_bodyOf_0 ++ dktX0_bodyOf_1
theorem dksX0_bodyOf_0 : cX0_bodyOf.data.toList.drop 0 = dktX0_bodyOf_0 := by decide +kernel
theorem dksX0_bodyOf_1 : cX0_bodyOf.data.toList.drop 1 = dktX0_bodyOf_1 := dk_seg dksX0_bodyOf_0 1 rfl rfl
theorem dksX0_bodyOf_2 : cX0_bodyOf.data.toList.drop 48 = dktX0_bodyOf_2 := dk_seg dksX0_bodyOf_1 47 rfl rfl
theorem dksX0_bodyOf_3 : cX0_bodyOf.data.toList.drop 72 = dktX0_bodyOf_3 := dk_seg dksX0_bodyOf_2 24 rfl rfl
theorem dksX0_bodyOf_4 : cX0_bodyOf.data.toList.drop 96 = dktX0_bodyOf_4 := dk_seg dksX0_bodyOf_3 24 rfl rfl
theorem dksX0_bodyOf_5 : cX0_bodyOf.data.toList.drop 120 = dktX0_bodyOf_5 := dk_seg dksX0_bodyOf_4 24 rfl rfl
theorem dksX0_bodyOf_6 : cX0_bodyOf.data.toList.drop 144 = dktX0_bodyOf_6 := dk_seg dksX0_bodyOf_5 24 rfl rfl
theorem dksX0_bodyOf_7 : cX0_bodyOf.data.toList.drop 166 = dktX0_bodyOf_7 := dk_seg dksX0_bodyOf_6 22 rfl rfl
theorem dksX0_bodyOf_8 : cX0_bodyOf.data.toList.drop 188 = dktX0_bodyOf_8 := dk_seg dksX0_bodyOf_7 22 rfl rfl
theorem dksX0_bodyOf_9 : cX0_bodyOf.data.toList.drop 212 = dktX0_bodyOf_9 := dk_seg dksX0_bodyOf_8 24 rfl rfl
theorem dksX0_bodyOf_10 : cX0_bodyOf.data.toList.drop 236 = dktX0_bodyOf_10 := dk_seg dksX0_bodyOf_9 24 rfl rfl
theorem dX0_bodyOf_0 : decode cX0_bodyOf 0 = .ok (.iload_n 2, 1) := dk_28 (dk_at dksX0_bodyOf_0 0 rfl rfl)
theorem dX0_bodyOf_1 : decode cX0_bodyOf 1 = .ok (.tableswitch 223 0 7 #[47, 57, 68, 96, 126, 137, 165, 178], 47) := by decide +kernel
theorem dX0_bodyOf_48 : decode cX0_bodyOf 48 = .ok (.new 500, 3) := dk_187 1 244 (dk_at dksX0_bodyOf_2 0 rfl rfl)
theorem dX0_bodyOf_51 : decode cX0_bodyOf 51 = .ok (.dup, 1) := dk_89 (dk_at dksX0_bodyOf_2 3 rfl rfl)
theorem dX0_bodyOf_52 : decode cX0_bodyOf 52 = .ok (.aload_n 0, 1) := dk_42 (dk_at dksX0_bodyOf_2 4 rfl rfl)
theorem dX0_bodyOf_53 : decode cX0_bodyOf 53 = .ok (.aload_n 1, 1) := dk_43 (dk_at dksX0_bodyOf_2 5 rfl rfl)
theorem dX0_bodyOf_54 : decode cX0_bodyOf 54 = .ok (.invokespecial 502, 3) := dk_183 1 246 (dk_at dksX0_bodyOf_2 6 rfl rfl)
theorem dX0_bodyOf_57 : decode cX0_bodyOf 57 = .ok (.areturn, 1) := dk_176 (dk_at dksX0_bodyOf_2 9 rfl rfl)
theorem dX0_bodyOf_58 : decode cX0_bodyOf 58 = .ok (.new 505, 3) := dk_187 1 249 (dk_at dksX0_bodyOf_2 10 rfl rfl)
theorem dX0_bodyOf_61 : decode cX0_bodyOf 61 = .ok (.dup, 1) := dk_89 (dk_at dksX0_bodyOf_2 13 rfl rfl)
theorem dX0_bodyOf_62 : decode cX0_bodyOf 62 = .ok (.aload_n 0, 1) := dk_42 (dk_at dksX0_bodyOf_2 14 rfl rfl)
theorem dX0_bodyOf_63 : decode cX0_bodyOf 63 = .ok (.aload_n 1, 1) := dk_43 (dk_at dksX0_bodyOf_2 15 rfl rfl)
theorem dX0_bodyOf_64 : decode cX0_bodyOf 64 = .ok (.iload_n 3, 1) := dk_29 (dk_at dksX0_bodyOf_2 16 rfl rfl)
theorem dX0_bodyOf_65 : decode cX0_bodyOf 65 = .ok (.invokespecial 507, 3) := dk_183 1 251 (dk_at dksX0_bodyOf_2 17 rfl rfl)
theorem dX0_bodyOf_68 : decode cX0_bodyOf 68 = .ok (.areturn, 1) := dk_176 (dk_at dksX0_bodyOf_2 20 rfl rfl)
theorem dX0_bodyOf_69 : decode cX0_bodyOf 69 = .ok (.new 510, 3) := dk_187 1 254 (dk_at dksX0_bodyOf_2 21 rfl rfl)
theorem dX0_bodyOf_72 : decode cX0_bodyOf 72 = .ok (.dup, 1) := dk_89 (dk_at dksX0_bodyOf_3 0 rfl rfl)
theorem dX0_bodyOf_73 : decode cX0_bodyOf 73 = .ok (.aload_n 0, 1) := dk_42 (dk_at dksX0_bodyOf_3 1 rfl rfl)
theorem dX0_bodyOf_74 : decode cX0_bodyOf 74 = .ok (.aload_n 1, 1) := dk_43 (dk_at dksX0_bodyOf_3 2 rfl rfl)
theorem dX0_bodyOf_75 : decode cX0_bodyOf 75 = .ok (.aload_n 0, 1) := dk_42 (dk_at dksX0_bodyOf_3 3 rfl rfl)
theorem dX0_bodyOf_76 : decode cX0_bodyOf 76 = .ok (.iload_n 3, 1) := dk_29 (dk_at dksX0_bodyOf_3 4 rfl rfl)
theorem dX0_bodyOf_77 : decode cX0_bodyOf 77 = .ok (.invokevirtual 425, 3) := dk_182 1 169 (dk_at dksX0_bodyOf_3 5 rfl rfl)
theorem dX0_bodyOf_80 : decode cX0_bodyOf 80 = .ok (.ifCond .eq 12, 3) := dk_153 0 12 (dk_at dksX0_bodyOf_3 8 rfl rfl)
theorem dX0_bodyOf_83 : decode cX0_bodyOf 83 = .ok (.aload_n 0, 1) := dk_42 (dk_at dksX0_bodyOf_3 11 rfl rfl)
theorem dX0_bodyOf_84 : decode cX0_bodyOf 84 = .ok (.getfield 20, 3) := dk_180 0 20 (dk_at dksX0_bodyOf_3 12 rfl rfl)
theorem dX0_bodyOf_87 : decode cX0_bodyOf 87 = .ok (.iload_n 3, 1) := dk_29 (dk_at dksX0_bodyOf_3 15 rfl rfl)
theorem dX0_bodyOf_88 : decode cX0_bodyOf 88 = .ok (.aaload, 1) := dk_50 (dk_at dksX0_bodyOf_3 16 rfl rfl)
theorem dX0_bodyOf_89 : decode cX0_bodyOf 89 = .ok (.goto 4, 3) := dk_167 0 4 (dk_at dksX0_bodyOf_3 17 rfl rfl)
theorem dX0_bodyOf_92 : decode cX0_bodyOf 92 = .ok (.aconst_null, 1) := dk_1 (dk_at dksX0_bodyOf_3 20 rfl rfl)
theorem dX0_bodyOf_93 : decode cX0_bodyOf 93 = .ok (.invokespecial 512, 3) := dk_183 2 0 (dk_at dksX0_bodyOf_3 21 rfl rfl)
theorem dX0_bodyOf_96 : decode cX0_bodyOf 96 = .ok (.areturn, 1) := dk_176 (dk_at dksX0_bodyOf_4 0 rfl rfl)
theorem dX0_bodyOf_97 : decode cX0_bodyOf 97 = .ok (.new 515, 3) := dk_187 2 3 (dk_at dksX0_bodyOf_4 1 rfl rfl)
theorem dX0_bodyOf_100 : decode cX0_bodyOf 100 = .ok (.dup, 1) := dk_89 (dk_at dksX0_bodyOf_4 4 rfl rfl)
theorem dX0_bodyOf_101 : decode cX0_bodyOf 101 = .ok (.aload_n 0, 1) := dk_42 (dk_at dksX0_bodyOf_4 5 rfl rfl)
theorem dX0_bodyOf_102 : decode cX0_bodyOf 102 = .ok (.aload_n 1, 1) := dk_43 (dk_at dksX0_bodyOf_4 6 rfl rfl)
theorem dX0_bodyOf_103 : decode cX0_bodyOf 103 = .ok (.aload_n 0, 1) := dk_42 (dk_at dksX0_bodyOf_4 7 rfl rfl)
theorem dX0_bodyOf_104 : decode cX0_bodyOf 104 = .ok (.iload_n 3, 1) := dk_29 (dk_at dksX0_bodyOf_4 8 rfl rfl)
theorem dX0_bodyOf_105 : decode cX0_bodyOf 105 = .ok (.invokevirtual 425, 3) := dk_182 1 169 (dk_at dksX0_bodyOf_4 9 rfl rfl)
theorem dX0_bodyOf_108 : decode cX0_bodyOf 108 = .ok (.ifCond .eq 12, 3) := dk_153 0 12 (dk_at dksX0_bodyOf_4 12 rfl rfl)
theorem dX0_bodyOf_111 : decode cX0_bodyOf 111 = .ok (.aload_n 0, 1) := dk_42 (dk_at dksX0_bodyOf_4 15 rfl rfl)
theorem dX0_bodyOf_112 : decode cX0_bodyOf 112 = .ok (.getfield 20, 3) := dk_180 0 20 (dk_at dksX0_bodyOf_4 16 rfl rfl)
theorem dX0_bodyOf_115 : decode cX0_bodyOf 115 = .ok (.iload_n 3, 1) := dk_29 (dk_at dksX0_bodyOf_4 19 rfl rfl)
theorem dX0_bodyOf_116 : decode cX0_bodyOf 116 = .ok (.aaload, 1) := dk_50 (dk_at dksX0_bodyOf_4 20 rfl rfl)
theorem dX0_bodyOf_117 : decode cX0_bodyOf 117 = .ok (.goto 4, 3) := dk_167 0 4 (dk_at dksX0_bodyOf_4 21 rfl rfl)
theorem dX0_bodyOf_120 : decode cX0_bodyOf 120 = .ok (.aconst_null, 1) := dk_1 (dk_at dksX0_bodyOf_5 0 rfl rfl)
theorem dX0_bodyOf_121 : decode cX0_bodyOf 121 = .ok (.iload 4, 2) := dk_21 4 (dk_at dksX0_bodyOf_5 1 rfl rfl)
theorem dX0_bodyOf_123 : decode cX0_bodyOf 123 = .ok (.invokespecial 517, 3) := dk_183 2 5 (dk_at dksX0_bodyOf_5 3 rfl rfl)
theorem dX0_bodyOf_126 : decode cX0_bodyOf 126 = .ok (.areturn, 1) := dk_176 (dk_at dksX0_bodyOf_5 6 rfl rfl)
theorem dX0_bodyOf_127 : decode cX0_bodyOf 127 = .ok (.new 520, 3) := dk_187 2 8 (dk_at dksX0_bodyOf_5 7 rfl rfl)
theorem dX0_bodyOf_130 : decode cX0_bodyOf 130 = .ok (.dup, 1) := dk_89 (dk_at dksX0_bodyOf_5 10 rfl rfl)
theorem dX0_bodyOf_131 : decode cX0_bodyOf 131 = .ok (.aload_n 0, 1) := dk_42 (dk_at dksX0_bodyOf_5 11 rfl rfl)
theorem dX0_bodyOf_132 : decode cX0_bodyOf 132 = .ok (.aload_n 1, 1) := dk_43 (dk_at dksX0_bodyOf_5 12 rfl rfl)
theorem dX0_bodyOf_133 : decode cX0_bodyOf 133 = .ok (.iload_n 3, 1) := dk_29 (dk_at dksX0_bodyOf_5 13 rfl rfl)
theorem dX0_bodyOf_134 : decode cX0_bodyOf 134 = .ok (.invokespecial 522, 3) := dk_183 2 10 (dk_at dksX0_bodyOf_5 14 rfl rfl)
theorem dX0_bodyOf_137 : decode cX0_bodyOf 137 = .ok (.areturn, 1) := dk_176 (dk_at dksX0_bodyOf_5 17 rfl rfl)
theorem dX0_bodyOf_138 : decode cX0_bodyOf 138 = .ok (.new 523, 3) := dk_187 2 11 (dk_at dksX0_bodyOf_5 18 rfl rfl)
theorem dX0_bodyOf_141 : decode cX0_bodyOf 141 = .ok (.dup, 1) := dk_89 (dk_at dksX0_bodyOf_5 21 rfl rfl)
theorem dX0_bodyOf_142 : decode cX0_bodyOf 142 = .ok (.aload_n 0, 1) := dk_42 (dk_at dksX0_bodyOf_5 22 rfl rfl)
theorem dX0_bodyOf_143 : decode cX0_bodyOf 143 = .ok (.aload_n 1, 1) := dk_43 (dk_at dksX0_bodyOf_5 23 rfl rfl)
theorem dX0_bodyOf_144 : decode cX0_bodyOf 144 = .ok (.aload_n 0, 1) := dk_42 (dk_at dksX0_bodyOf_6 0 rfl rfl)
theorem dX0_bodyOf_145 : decode cX0_bodyOf 145 = .ok (.iload_n 3, 1) := dk_29 (dk_at dksX0_bodyOf_6 1 rfl rfl)
theorem dX0_bodyOf_146 : decode cX0_bodyOf 146 = .ok (.invokevirtual 425, 3) := dk_182 1 169 (dk_at dksX0_bodyOf_6 2 rfl rfl)
theorem dX0_bodyOf_149 : decode cX0_bodyOf 149 = .ok (.ifCond .eq 12, 3) := dk_153 0 12 (dk_at dksX0_bodyOf_6 5 rfl rfl)
theorem dX0_bodyOf_152 : decode cX0_bodyOf 152 = .ok (.aload_n 0, 1) := dk_42 (dk_at dksX0_bodyOf_6 8 rfl rfl)
theorem dX0_bodyOf_153 : decode cX0_bodyOf 153 = .ok (.getfield 20, 3) := dk_180 0 20 (dk_at dksX0_bodyOf_6 9 rfl rfl)
theorem dX0_bodyOf_156 : decode cX0_bodyOf 156 = .ok (.iload_n 3, 1) := dk_29 (dk_at dksX0_bodyOf_6 12 rfl rfl)
theorem dX0_bodyOf_157 : decode cX0_bodyOf 157 = .ok (.aaload, 1) := dk_50 (dk_at dksX0_bodyOf_6 13 rfl rfl)
theorem dX0_bodyOf_158 : decode cX0_bodyOf 158 = .ok (.goto 4, 3) := dk_167 0 4 (dk_at dksX0_bodyOf_6 14 rfl rfl)
theorem dX0_bodyOf_161 : decode cX0_bodyOf 161 = .ok (.aconst_null, 1) := dk_1 (dk_at dksX0_bodyOf_6 17 rfl rfl)
theorem dX0_bodyOf_162 : decode cX0_bodyOf 162 = .ok (.invokespecial 525, 3) := dk_183 2 13 (dk_at dksX0_bodyOf_6 18 rfl rfl)
theorem dX0_bodyOf_165 : decode cX0_bodyOf 165 = .ok (.areturn, 1) := dk_176 (dk_at dksX0_bodyOf_6 21 rfl rfl)
theorem dX0_bodyOf_166 : decode cX0_bodyOf 166 = .ok (.new 526, 3) := dk_187 2 14 (dk_at dksX0_bodyOf_7 0 rfl rfl)
theorem dX0_bodyOf_169 : decode cX0_bodyOf 169 = .ok (.dup, 1) := dk_89 (dk_at dksX0_bodyOf_7 3 rfl rfl)
theorem dX0_bodyOf_170 : decode cX0_bodyOf 170 = .ok (.aload_n 0, 1) := dk_42 (dk_at dksX0_bodyOf_7 4 rfl rfl)
theorem dX0_bodyOf_171 : decode cX0_bodyOf 171 = .ok (.aload_n 1, 1) := dk_43 (dk_at dksX0_bodyOf_7 5 rfl rfl)
theorem dX0_bodyOf_172 : decode cX0_bodyOf 172 = .ok (.iload_n 3, 1) := dk_29 (dk_at dksX0_bodyOf_7 6 rfl rfl)
theorem dX0_bodyOf_173 : decode cX0_bodyOf 173 = .ok (.iload 4, 2) := dk_21 4 (dk_at dksX0_bodyOf_7 7 rfl rfl)
theorem dX0_bodyOf_175 : decode cX0_bodyOf 175 = .ok (.invokespecial 528, 3) := dk_183 2 16 (dk_at dksX0_bodyOf_7 9 rfl rfl)
theorem dX0_bodyOf_178 : decode cX0_bodyOf 178 = .ok (.areturn, 1) := dk_176 (dk_at dksX0_bodyOf_7 12 rfl rfl)
theorem dX0_bodyOf_179 : decode cX0_bodyOf 179 = .ok (.aload_n 1, 1) := dk_43 (dk_at dksX0_bodyOf_7 13 rfl rfl)
theorem dX0_bodyOf_180 : decode cX0_bodyOf 180 = .ok (.getfield 24, 3) := dk_180 0 24 (dk_at dksX0_bodyOf_7 14 rfl rfl)
theorem dX0_bodyOf_183 : decode cX0_bodyOf 183 = .ok (.invokevirtual 59, 3) := dk_182 0 59 (dk_at dksX0_bodyOf_7 17 rfl rfl)
theorem dX0_bodyOf_186 : decode cX0_bodyOf 186 = .ok (.astore 5, 2) := dk_58 5 (dk_at dksX0_bodyOf_7 20 rfl rfl)
theorem dX0_bodyOf_188 : decode cX0_bodyOf 188 = .ok (.new 531, 3) := dk_187 2 19 (dk_at dksX0_bodyOf_8 0 rfl rfl)
theorem dX0_bodyOf_191 : decode cX0_bodyOf 191 = .ok (.dup, 1) := dk_89 (dk_at dksX0_bodyOf_8 3 rfl rfl)
theorem dX0_bodyOf_192 : decode cX0_bodyOf 192 = .ok (.aload_n 0, 1) := dk_42 (dk_at dksX0_bodyOf_8 4 rfl rfl)
theorem dX0_bodyOf_193 : decode cX0_bodyOf 193 = .ok (.aload_n 1, 1) := dk_43 (dk_at dksX0_bodyOf_8 5 rfl rfl)
theorem dX0_bodyOf_194 : decode cX0_bodyOf 194 = .ok (.aload 5, 2) := dk_25 5 (dk_at dksX0_bodyOf_8 6 rfl rfl)
theorem dX0_bodyOf_196 : decode cX0_bodyOf 196 = .ok (.ifnonnull 7, 3) := dk_199 0 7 (dk_at dksX0_bodyOf_8 8 rfl rfl)
theorem dX0_bodyOf_199 : decode cX0_bodyOf 199 = .ok (.aconst_null, 1) := dk_1 (dk_at dksX0_bodyOf_8 11 rfl rfl)
theorem dX0_bodyOf_200 : decode cX0_bodyOf 200 = .ok (.goto 20, 3) := dk_167 0 20 (dk_at dksX0_bodyOf_8 12 rfl rfl)
theorem dX0_bodyOf_203 : decode cX0_bodyOf 203 = .ok (.new 533, 3) := dk_187 2 21 (dk_at dksX0_bodyOf_8 15 rfl rfl)
theorem dX0_bodyOf_206 : decode cX0_bodyOf 206 = .ok (.dup, 1) := dk_89 (dk_at dksX0_bodyOf_8 18 rfl rfl)
theorem dX0_bodyOf_207 : decode cX0_bodyOf 207 = .ok (.aload_n 0, 1) := dk_42 (dk_at dksX0_bodyOf_8 19 rfl rfl)
theorem dX0_bodyOf_208 : decode cX0_bodyOf 208 = .ok (.iconst 2, 1) := dk_5 (dk_at dksX0_bodyOf_8 20 rfl rfl)
theorem dX0_bodyOf_209 : decode cX0_bodyOf 209 = .ok (.aload_n 1, 1) := dk_43 (dk_at dksX0_bodyOf_8 21 rfl rfl)
theorem dX0_bodyOf_210 : decode cX0_bodyOf 210 = .ok (.aload 5, 2) := dk_25 5 (dk_at dksX0_bodyOf_8 22 rfl rfl)
theorem dX0_bodyOf_212 : decode cX0_bodyOf 212 = .ok (.invokespecial 535, 3) := dk_183 2 23 (dk_at dksX0_bodyOf_9 0 rfl rfl)
theorem dX0_bodyOf_215 : decode cX0_bodyOf 215 = .ok (.aload 5, 2) := dk_25 5 (dk_at dksX0_bodyOf_9 3 rfl rfl)
theorem dX0_bodyOf_217 : decode cX0_bodyOf 217 = .ok (.invokevirtual 538, 3) := dk_182 2 26 (dk_at dksX0_bodyOf_9 5 rfl rfl)
theorem dX0_bodyOf_220 : decode cX0_bodyOf 220 = .ok (.invokespecial 542, 3) := dk_183 2 30 (dk_at dksX0_bodyOf_9 8 rfl rfl)
theorem dX0_bodyOf_223 : decode cX0_bodyOf 223 = .ok (.areturn, 1) := dk_176 (dk_at dksX0_bodyOf_9 11 rfl rfl)
theorem dX0_bodyOf_224 : decode cX0_bodyOf 224 = .ok (.new 543, 3) := dk_187 2 31 (dk_at dksX0_bodyOf_9 12 rfl rfl)
theorem dX0_bodyOf_227 : decode cX0_bodyOf 227 = .ok (.dup, 1) := dk_89 (dk_at dksX0_bodyOf_9 15 rfl rfl)
theorem dX0_bodyOf_228 : decode cX0_bodyOf 228 = .ok (.aload_n 0, 1) := dk_42 (dk_at dksX0_bodyOf_9 16 rfl rfl)
theorem dX0_bodyOf_229 : decode cX0_bodyOf 229 = .ok (.aload_n 1, 1) := dk_43 (dk_at dksX0_bodyOf_9 17 rfl rfl)
theorem dX0_bodyOf_230 : decode cX0_bodyOf 230 = .ok (.iload_n 3, 1) := dk_29 (dk_at dksX0_bodyOf_9 18 rfl rfl)
theorem dX0_bodyOf_231 : decode cX0_bodyOf 231 = .ok (.iload 4, 2) := dk_21 4 (dk_at dksX0_bodyOf_9 19 rfl rfl)
theorem dX0_bodyOf_233 : decode cX0_bodyOf 233 = .ok (.invokespecial 545, 3) := dk_183 2 33 (dk_at dksX0_bodyOf_9 21 rfl rfl)
theorem dX0_bodyOf_236 : decode cX0_bodyOf 236 = .ok (.areturn, 1) := dk_176 (dk_at dksX0_bodyOf_10 0 rfl rfl)
abbrev cX0_member : ByteArray := prog_1_method_49_code
def yX0_member : MethodName := ⟨RX0, "member", "(II)I"⟩
def dkwX0_member_8 : List UInt8 := [182, 1, 172, 167, 0, 4, 2, 172]
abbrev dktX0_member_8 : List UInt8 := dkwX0_member_8 ++ []
def dkwX0_member_7 : List UInt8 := [182, 2, 54, 172, 28, 16, 6, 100, 45, 180, 1, 48, 162, 0, 18, 45, 180, 1, 51, 28, 16, 6, 100, 50]
abbrev dktX0_member_7 : List UInt8 := dkwX0_member_7 ++ dktX0_member_8
def dkwX0_member_6 : List UInt8 := [153, 0, 7, 4, 167, 0, 4, 3, 172, 45, 180, 1, 62, 199, 0, 7, 2, 167, 0, 10, 45, 180, 1, 62]
abbrev dktX0_member_6 : List UInt8 := dkwX0_member_6 ++ dktX0_member_7
def dkwX0_member_5 : List UInt8 := [182, 1, 172, 172, 45, 180, 0, 30, 153, 0, 7, 2, 167, 0, 7, 45, 180, 1, 48, 172, 45, 180, 0, 195]
abbrev dktX0_member_5 : List UInt8 := dkwX0_member_5 ++ dktX0_member_6
def dkwX0_member_4 : List UInt8 := [153, 0, 7, 4, 167, 0, 4, 3, 172, 45, 180, 0, 246, 199, 0, 7, 2, 167, 0, 10, 45, 180, 0, 246]
abbrev dktX0_member_4 : List UInt8 := dkwX0_member_4 ++ dktX0_member_5
def dkwX0_member_3 : List UInt8 := [45, 180, 0, 24, 182, 1, 172, 172, 45, 180, 0, 34, 172, 45, 180, 2, 51, 172, 45, 180, 0, 30]
abbrev dktX0_member_3 : List UInt8 := dkwX0_member_3 ++ dktX0_member_4
def dkwX0_member_2 : List UInt8 := [170, 0, 0, 0, 155, 0, 0, 0, 0, 0, 0, 0, 10, 0, 0, 0, 57, 0, 0, 0, 65, 0, 0, 0, 70, 0, 0, 0, 75, 0, 0, 0, 88, 0, 0, 0, 107, 0, 0, 0, 155, 0, 0, 0, 155, 0, 0, 0, 155, 0, 0, 0, 123, 0, 0, 0, 136]
abbrev dktX0_member_2 : List UInt8 := dkwX0_member_2 ++ dktX0_member_3
def dkwX0_member_1 : List UInt8 := [180, 0, 20, 27, 50, 78, 28]
abbrev dktX0_member_1 : List UInt8 := dkwX0_member_1 ++ dktX0_member_2
def dkwX0_member_0 : List UInt8 := [42, 27, 182, 1, 169, 153, 0, 15, 28, 133, 9, 20, 2, 49, 184, 1, 163, 154, 0, 6, 16, 253, 172, 42]
abbrev dktX0_member_0 : List UInt8 := dkwX0_member_0 ++ dktX0_member_1
theorem dksX0_member_0 : cX0_member.data.toList.drop 0 = dktX0_member_0 := by decide +kernel
theorem dksX0_member_1 : cX0_member.data.toList.drop 24 = dktX0_member_1 := dk_seg dksX0_member_0 24 rfl rfl
theorem dksX0_member_2 : cX0_member.data.toList.drop 31 = dktX0_member_2 := dk_seg dksX0_member_1 7 rfl rfl
theorem dksX0_member_3 : cX0_member.data.toList.drop 88 = dktX0_member_3 := dk_seg dksX0_member_2 57 rfl rfl
theorem dksX0_member_4 : cX0_member.data.toList.drop 110 = dktX0_member_4 := dk_seg dksX0_member_3 22 rfl rfl
theorem dksX0_member_5 : cX0_member.data.toList.drop 134 = dktX0_member_5 := dk_seg dksX0_member_4 24 rfl rfl
theorem dksX0_member_6 : cX0_member.data.toList.drop 158 = dktX0_member_6 := dk_seg dksX0_member_5 24 rfl rfl
theorem dksX0_member_7 : cX0_member.data.toList.drop 182 = dktX0_member_7 := dk_seg dksX0_member_6 24 rfl rfl
theorem dksX0_member_8 : cX0_member.data.toList.drop 206 = dktX0_member_8 := dk_seg dksX0_member_7 24 rfl rfl
theorem dX0_member_0 : decode cX0_member 0 = .ok (.aload_n 0, 1) := dk_42 (dk_at dksX0_member_0 0 rfl rfl)
theorem dX0_member_1 : decode cX0_member 1 = .ok (.iload_n 1, 1) := dk_27 (dk_at dksX0_member_0 1 rfl rfl)
theorem dX0_member_2 : decode cX0_member 2 = .ok (.invokevirtual 425, 3) := dk_182 1 169 (dk_at dksX0_member_0 2 rfl rfl)
theorem dX0_member_5 : decode cX0_member 5 = .ok (.ifCond .eq 15, 3) := dk_153 0 15 (dk_at dksX0_member_0 5 rfl rfl)
theorem dX0_member_8 : decode cX0_member 8 = .ok (.iload_n 2, 1) := dk_28 (dk_at dksX0_member_0 8 rfl rfl)
theorem dX0_member_9 : decode cX0_member 9 = .ok (.i2l, 1) := dk_133 (dk_at dksX0_member_0 9 rfl rfl)
theorem dX0_member_10 : decode cX0_member 10 = .ok (.lconst 0, 1) := dk_9 (dk_at dksX0_member_0 10 rfl rfl)
theorem dX0_member_11 : decode cX0_member 11 = .ok (.ldc2_w 561, 3) := dk_20 2 49 (dk_at dksX0_member_0 11 rfl rfl)
theorem dX0_member_14 : decode cX0_member 14 = .ok (.invokestatic 419, 3) := dk_184 1 163 (dk_at dksX0_member_0 14 rfl rfl)
theorem dX0_member_17 : decode cX0_member 17 = .ok (.ifCond .ne 6, 3) := dk_154 0 6 (dk_at dksX0_member_0 17 rfl rfl)
theorem dX0_member_20 : decode cX0_member 20 = .ok (.bipush (-3), 2) := dk_16 253 (dk_at dksX0_member_0 20 rfl rfl)
theorem dX0_member_22 : decode cX0_member 22 = .ok (.ireturn, 1) := dk_172 (dk_at dksX0_member_0 22 rfl rfl)
theorem dX0_member_23 : decode cX0_member 23 = .ok (.aload_n 0, 1) := dk_42 (dk_at dksX0_member_0 23 rfl rfl)
theorem dX0_member_24 : decode cX0_member 24 = .ok (.getfield 20, 3) := dk_180 0 20 (dk_at dksX0_member_1 0 rfl rfl)
theorem dX0_member_27 : decode cX0_member 27 = .ok (.iload_n 1, 1) := dk_27 (dk_at dksX0_member_1 3 rfl rfl)
theorem dX0_member_28 : decode cX0_member 28 = .ok (.aaload, 1) := dk_50 (dk_at dksX0_member_1 4 rfl rfl)
theorem dX0_member_29 : decode cX0_member 29 = .ok (.astore_n 3, 1) := dk_78 (dk_at dksX0_member_1 5 rfl rfl)
theorem dX0_member_30 : decode cX0_member 30 = .ok (.iload_n 2, 1) := dk_28 (dk_at dksX0_member_1 6 rfl rfl)
theorem dX0_member_31 : decode cX0_member 31 = .ok (.tableswitch 155 0 10 #[57, 65, 70, 75, 88, 107, 155, 155, 155, 123, 136], 57) := by decide +kernel
theorem dX0_member_88 : decode cX0_member 88 = .ok (.aload_n 3, 1) := dk_45 (dk_at dksX0_member_3 0 rfl rfl)
theorem dX0_member_89 : decode cX0_member 89 = .ok (.getfield 24, 3) := dk_180 0 24 (dk_at dksX0_member_3 1 rfl rfl)
theorem dX0_member_92 : decode cX0_member 92 = .ok (.invokevirtual 428, 3) := dk_182 1 172 (dk_at dksX0_member_3 4 rfl rfl)
theorem dX0_member_95 : decode cX0_member 95 = .ok (.ireturn, 1) := dk_172 (dk_at dksX0_member_3 7 rfl rfl)
theorem dX0_member_96 : decode cX0_member 96 = .ok (.aload_n 3, 1) := dk_45 (dk_at dksX0_member_3 8 rfl rfl)
theorem dX0_member_97 : decode cX0_member 97 = .ok (.getfield 34, 3) := dk_180 0 34 (dk_at dksX0_member_3 9 rfl rfl)
theorem dX0_member_100 : decode cX0_member 100 = .ok (.ireturn, 1) := dk_172 (dk_at dksX0_member_3 12 rfl rfl)
theorem dX0_member_101 : decode cX0_member 101 = .ok (.aload_n 3, 1) := dk_45 (dk_at dksX0_member_3 13 rfl rfl)
theorem dX0_member_102 : decode cX0_member 102 = .ok (.getfield 563, 3) := dk_180 2 51 (dk_at dksX0_member_3 14 rfl rfl)
theorem dX0_member_105 : decode cX0_member 105 = .ok (.ireturn, 1) := dk_172 (dk_at dksX0_member_3 17 rfl rfl)
theorem dX0_member_106 : decode cX0_member 106 = .ok (.aload_n 3, 1) := dk_45 (dk_at dksX0_member_3 18 rfl rfl)
theorem dX0_member_107 : decode cX0_member 107 = .ok (.getfield 30, 3) := dk_180 0 30 (dk_at dksX0_member_3 19 rfl rfl)
theorem dX0_member_110 : decode cX0_member 110 = .ok (.ifCond .eq 7, 3) := dk_153 0 7 (dk_at dksX0_member_4 0 rfl rfl)
theorem dX0_member_113 : decode cX0_member 113 = .ok (.iconst 1, 1) := dk_4 (dk_at dksX0_member_4 3 rfl rfl)
theorem dX0_member_114 : decode cX0_member 114 = .ok (.goto 4, 3) := dk_167 0 4 (dk_at dksX0_member_4 4 rfl rfl)
theorem dX0_member_117 : decode cX0_member 117 = .ok (.iconst 0, 1) := dk_3 (dk_at dksX0_member_4 7 rfl rfl)
theorem dX0_member_118 : decode cX0_member 118 = .ok (.ireturn, 1) := dk_172 (dk_at dksX0_member_4 8 rfl rfl)
theorem dX0_member_119 : decode cX0_member 119 = .ok (.aload_n 3, 1) := dk_45 (dk_at dksX0_member_4 9 rfl rfl)
theorem dX0_member_120 : decode cX0_member 120 = .ok (.getfield 246, 3) := dk_180 0 246 (dk_at dksX0_member_4 10 rfl rfl)
theorem dX0_member_123 : decode cX0_member 123 = .ok (.ifnonnull 7, 3) := dk_199 0 7 (dk_at dksX0_member_4 13 rfl rfl)
theorem dX0_member_126 : decode cX0_member 126 = .ok (.iconst (-1), 1) := dk_2 (dk_at dksX0_member_4 16 rfl rfl)
theorem dX0_member_127 : decode cX0_member 127 = .ok (.goto 10, 3) := dk_167 0 10 (dk_at dksX0_member_4 17 rfl rfl)
theorem dX0_member_130 : decode cX0_member 130 = .ok (.aload_n 3, 1) := dk_45 (dk_at dksX0_member_4 20 rfl rfl)
theorem dX0_member_131 : decode cX0_member 131 = .ok (.getfield 246, 3) := dk_180 0 246 (dk_at dksX0_member_4 21 rfl rfl)
theorem dX0_member_134 : decode cX0_member 134 = .ok (.invokevirtual 428, 3) := dk_182 1 172 (dk_at dksX0_member_5 0 rfl rfl)
theorem dX0_member_137 : decode cX0_member 137 = .ok (.ireturn, 1) := dk_172 (dk_at dksX0_member_5 3 rfl rfl)
theorem dX0_member_138 : decode cX0_member 138 = .ok (.aload_n 3, 1) := dk_45 (dk_at dksX0_member_5 4 rfl rfl)
theorem dX0_member_139 : decode cX0_member 139 = .ok (.getfield 30, 3) := dk_180 0 30 (dk_at dksX0_member_5 5 rfl rfl)
theorem dX0_member_142 : decode cX0_member 142 = .ok (.ifCond .eq 7, 3) := dk_153 0 7 (dk_at dksX0_member_5 8 rfl rfl)
theorem dX0_member_145 : decode cX0_member 145 = .ok (.iconst (-1), 1) := dk_2 (dk_at dksX0_member_5 11 rfl rfl)
theorem dX0_member_146 : decode cX0_member 146 = .ok (.goto 7, 3) := dk_167 0 7 (dk_at dksX0_member_5 12 rfl rfl)
theorem dX0_member_149 : decode cX0_member 149 = .ok (.aload_n 3, 1) := dk_45 (dk_at dksX0_member_5 15 rfl rfl)
theorem dX0_member_150 : decode cX0_member 150 = .ok (.getfield 304, 3) := dk_180 1 48 (dk_at dksX0_member_5 16 rfl rfl)
theorem dX0_member_153 : decode cX0_member 153 = .ok (.ireturn, 1) := dk_172 (dk_at dksX0_member_5 19 rfl rfl)
theorem dX0_member_154 : decode cX0_member 154 = .ok (.aload_n 3, 1) := dk_45 (dk_at dksX0_member_5 20 rfl rfl)
theorem dX0_member_155 : decode cX0_member 155 = .ok (.getfield 195, 3) := dk_180 0 195 (dk_at dksX0_member_5 21 rfl rfl)
theorem dX0_member_158 : decode cX0_member 158 = .ok (.ifCond .eq 7, 3) := dk_153 0 7 (dk_at dksX0_member_6 0 rfl rfl)
theorem dX0_member_161 : decode cX0_member 161 = .ok (.iconst 1, 1) := dk_4 (dk_at dksX0_member_6 3 rfl rfl)
theorem dX0_member_162 : decode cX0_member 162 = .ok (.goto 4, 3) := dk_167 0 4 (dk_at dksX0_member_6 4 rfl rfl)
theorem dX0_member_165 : decode cX0_member 165 = .ok (.iconst 0, 1) := dk_3 (dk_at dksX0_member_6 7 rfl rfl)
theorem dX0_member_166 : decode cX0_member 166 = .ok (.ireturn, 1) := dk_172 (dk_at dksX0_member_6 8 rfl rfl)
theorem dX0_member_167 : decode cX0_member 167 = .ok (.aload_n 3, 1) := dk_45 (dk_at dksX0_member_6 9 rfl rfl)
theorem dX0_member_168 : decode cX0_member 168 = .ok (.getfield 318, 3) := dk_180 1 62 (dk_at dksX0_member_6 10 rfl rfl)
theorem dX0_member_171 : decode cX0_member 171 = .ok (.ifnonnull 7, 3) := dk_199 0 7 (dk_at dksX0_member_6 13 rfl rfl)
theorem dX0_member_174 : decode cX0_member 174 = .ok (.iconst (-1), 1) := dk_2 (dk_at dksX0_member_6 16 rfl rfl)
theorem dX0_member_175 : decode cX0_member 175 = .ok (.goto 10, 3) := dk_167 0 10 (dk_at dksX0_member_6 17 rfl rfl)
theorem dX0_member_178 : decode cX0_member 178 = .ok (.aload_n 3, 1) := dk_45 (dk_at dksX0_member_6 20 rfl rfl)
theorem dX0_member_179 : decode cX0_member 179 = .ok (.getfield 318, 3) := dk_180 1 62 (dk_at dksX0_member_6 21 rfl rfl)
theorem dX0_member_182 : decode cX0_member 182 = .ok (.invokevirtual 566, 3) := dk_182 2 54 (dk_at dksX0_member_7 0 rfl rfl)
theorem dX0_member_185 : decode cX0_member 185 = .ok (.ireturn, 1) := dk_172 (dk_at dksX0_member_7 3 rfl rfl)
theorem dX0_member_186 : decode cX0_member 186 = .ok (.iload_n 2, 1) := dk_28 (dk_at dksX0_member_7 4 rfl rfl)
theorem dX0_member_187 : decode cX0_member 187 = .ok (.bipush 6, 2) := dk_16 6 (dk_at dksX0_member_7 5 rfl rfl)
theorem dX0_member_189 : decode cX0_member 189 = .ok (.isub, 1) := dk_100 (dk_at dksX0_member_7 7 rfl rfl)
theorem dX0_member_190 : decode cX0_member 190 = .ok (.aload_n 3, 1) := dk_45 (dk_at dksX0_member_7 8 rfl rfl)
theorem dX0_member_191 : decode cX0_member 191 = .ok (.getfield 304, 3) := dk_180 1 48 (dk_at dksX0_member_7 9 rfl rfl)
theorem dX0_member_194 : decode cX0_member 194 = .ok (.if_icmp .ge 18, 3) := dk_162 0 18 (dk_at dksX0_member_7 12 rfl rfl)
theorem dX0_member_197 : decode cX0_member 197 = .ok (.aload_n 3, 1) := dk_45 (dk_at dksX0_member_7 15 rfl rfl)
theorem dX0_member_198 : decode cX0_member 198 = .ok (.getfield 307, 3) := dk_180 1 51 (dk_at dksX0_member_7 16 rfl rfl)
theorem dX0_member_201 : decode cX0_member 201 = .ok (.iload_n 2, 1) := dk_28 (dk_at dksX0_member_7 19 rfl rfl)
theorem dX0_member_202 : decode cX0_member 202 = .ok (.bipush 6, 2) := dk_16 6 (dk_at dksX0_member_7 20 rfl rfl)
theorem dX0_member_204 : decode cX0_member 204 = .ok (.isub, 1) := dk_100 (dk_at dksX0_member_7 22 rfl rfl)
theorem dX0_member_205 : decode cX0_member 205 = .ok (.aaload, 1) := dk_50 (dk_at dksX0_member_7 23 rfl rfl)
theorem dX0_member_206 : decode cX0_member 206 = .ok (.invokevirtual 428, 3) := dk_182 1 172 (dk_at dksX0_member_8 0 rfl rfl)
theorem dX0_member_209 : decode cX0_member 209 = .ok (.goto 4, 3) := dk_167 0 4 (dk_at dksX0_member_8 3 rfl rfl)
theorem dX0_member_212 : decode cX0_member 212 = .ok (.iconst (-1), 1) := dk_2 (dk_at dksX0_member_8 6 rfl rfl)
theorem dX0_member_213 : decode cX0_member 213 = .ok (.ireturn, 1) := dk_172 (dk_at dksX0_member_8 7 rfl rfl)
abbrev cX0_declared : ByteArray := prog_1_method_50_code
def yX0_declared : MethodName := ⟨RX0, "declared", "(II)I"⟩
def dkwX0_declared_2 : List UInt8 := [166, 0, 13, 29, 154, 0, 6, 21, 4, 172, 132, 3, 255, 132, 4, 1, 167, 255, 215, 2, 172]
abbrev dktX0_declared_2 : List UInt8 := dkwX0_declared_2 ++ []
def dkwX0_declared_1 : List UInt8 := [180, 0, 17, 162, 0, 38, 42, 180, 0, 20, 21, 4, 50, 180, 0, 24, 42, 180, 0, 7, 27, 50]
abbrev dktX0_declared_1 : List UInt8 := dkwX0_declared_1 ++ dktX0_declared_2
def dkwX0_declared_0 : List UInt8 := [42, 27, 182, 1, 173, 153, 0, 7, 28, 156, 0, 5, 2, 172, 28, 62, 3, 54, 4, 21, 4, 42]
abbrev dktX0_declared_0 : List UInt8 := dkwX0_declared_0 ++ dktX0_declared_1
theorem dksX0_declared_0 : cX0_declared.data.toList.drop 0 = dktX0_declared_0 := by decide +kernel
theorem dksX0_declared_1 : cX0_declared.data.toList.drop 22 = dktX0_declared_1 := dk_seg dksX0_declared_0 22 rfl rfl
theorem dksX0_declared_2 : cX0_declared.data.toList.drop 44 = dktX0_declared_2 := dk_seg dksX0_declared_1 22 rfl rfl
theorem dX0_declared_0 : decode cX0_declared 0 = .ok (.aload_n 0, 1) := dk_42 (dk_at dksX0_declared_0 0 rfl rfl)
theorem dX0_declared_1 : decode cX0_declared 1 = .ok (.iload_n 1, 1) := dk_27 (dk_at dksX0_declared_0 1 rfl rfl)
theorem dX0_declared_2 : decode cX0_declared 2 = .ok (.invokevirtual 429, 3) := dk_182 1 173 (dk_at dksX0_declared_0 2 rfl rfl)
theorem dX0_declared_5 : decode cX0_declared 5 = .ok (.ifCond .eq 7, 3) := dk_153 0 7 (dk_at dksX0_declared_0 5 rfl rfl)
theorem dX0_declared_8 : decode cX0_declared 8 = .ok (.iload_n 2, 1) := dk_28 (dk_at dksX0_declared_0 8 rfl rfl)
theorem dX0_declared_9 : decode cX0_declared 9 = .ok (.ifCond .ge 5, 3) := dk_156 0 5 (dk_at dksX0_declared_0 9 rfl rfl)
theorem dX0_declared_12 : decode cX0_declared 12 = .ok (.iconst (-1), 1) := dk_2 (dk_at dksX0_declared_0 12 rfl rfl)
theorem dX0_declared_13 : decode cX0_declared 13 = .ok (.ireturn, 1) := dk_172 (dk_at dksX0_declared_0 13 rfl rfl)
theorem dX0_declared_14 : decode cX0_declared 14 = .ok (.iload_n 2, 1) := dk_28 (dk_at dksX0_declared_0 14 rfl rfl)
theorem dX0_declared_15 : decode cX0_declared 15 = .ok (.istore_n 3, 1) := dk_62 (dk_at dksX0_declared_0 15 rfl rfl)
theorem dX0_declared_16 : decode cX0_declared 16 = .ok (.iconst 0, 1) := dk_3 (dk_at dksX0_declared_0 16 rfl rfl)
theorem dX0_declared_17 : decode cX0_declared 17 = .ok (.istore 4, 2) := dk_54 4 (dk_at dksX0_declared_0 17 rfl rfl)
theorem dX0_declared_19 : decode cX0_declared 19 = .ok (.iload 4, 2) := dk_21 4 (dk_at dksX0_declared_0 19 rfl rfl)
theorem dX0_declared_21 : decode cX0_declared 21 = .ok (.aload_n 0, 1) := dk_42 (dk_at dksX0_declared_0 21 rfl rfl)
theorem dX0_declared_22 : decode cX0_declared 22 = .ok (.getfield 17, 3) := dk_180 0 17 (dk_at dksX0_declared_1 0 rfl rfl)
theorem dX0_declared_25 : decode cX0_declared 25 = .ok (.if_icmp .ge 38, 3) := dk_162 0 38 (dk_at dksX0_declared_1 3 rfl rfl)
theorem dX0_declared_28 : decode cX0_declared 28 = .ok (.aload_n 0, 1) := dk_42 (dk_at dksX0_declared_1 6 rfl rfl)
theorem dX0_declared_29 : decode cX0_declared 29 = .ok (.getfield 20, 3) := dk_180 0 20 (dk_at dksX0_declared_1 7 rfl rfl)
theorem dX0_declared_32 : decode cX0_declared 32 = .ok (.iload 4, 2) := dk_21 4 (dk_at dksX0_declared_1 10 rfl rfl)
theorem dX0_declared_34 : decode cX0_declared 34 = .ok (.aaload, 1) := dk_50 (dk_at dksX0_declared_1 12 rfl rfl)
theorem dX0_declared_35 : decode cX0_declared 35 = .ok (.getfield 24, 3) := dk_180 0 24 (dk_at dksX0_declared_1 13 rfl rfl)
theorem dX0_declared_38 : decode cX0_declared 38 = .ok (.aload_n 0, 1) := dk_42 (dk_at dksX0_declared_1 16 rfl rfl)
theorem dX0_declared_39 : decode cX0_declared 39 = .ok (.getfield 7, 3) := dk_180 0 7 (dk_at dksX0_declared_1 17 rfl rfl)
theorem dX0_declared_42 : decode cX0_declared 42 = .ok (.iload_n 1, 1) := dk_27 (dk_at dksX0_declared_1 20 rfl rfl)
theorem dX0_declared_43 : decode cX0_declared 43 = .ok (.aaload, 1) := dk_50 (dk_at dksX0_declared_1 21 rfl rfl)
theorem dX0_declared_44 : decode cX0_declared 44 = .ok (.if_acmp .ne 13, 3) := dk_166 0 13 (dk_at dksX0_declared_2 0 rfl rfl)
theorem dX0_declared_47 : decode cX0_declared 47 = .ok (.iload_n 3, 1) := dk_29 (dk_at dksX0_declared_2 3 rfl rfl)
theorem dX0_declared_48 : decode cX0_declared 48 = .ok (.ifCond .ne 6, 3) := dk_154 0 6 (dk_at dksX0_declared_2 4 rfl rfl)
theorem dX0_declared_51 : decode cX0_declared 51 = .ok (.iload 4, 2) := dk_21 4 (dk_at dksX0_declared_2 7 rfl rfl)
theorem dX0_declared_53 : decode cX0_declared 53 = .ok (.ireturn, 1) := dk_172 (dk_at dksX0_declared_2 9 rfl rfl)
theorem dX0_declared_54 : decode cX0_declared 54 = .ok (.iinc 3 (-1), 3) := dk_132 3 255 (dk_at dksX0_declared_2 10 rfl rfl)
theorem dX0_declared_57 : decode cX0_declared 57 = .ok (.iinc 4 1, 3) := dk_132 4 1 (dk_at dksX0_declared_2 13 rfl rfl)
theorem dX0_declared_60 : decode cX0_declared 60 = .ok (.goto (-41), 3) := dk_167 255 215 (dk_at dksX0_declared_2 16 rfl rfl)
theorem dX0_declared_63 : decode cX0_declared 63 = .ok (.iconst (-1), 1) := dk_2 (dk_at dksX0_declared_2 19 rfl rfl)
theorem dX0_declared_64 : decode cX0_declared 64 = .ok (.ireturn, 1) := dk_172 (dk_at dksX0_declared_2 20 rfl rfl)
abbrev cX0_findField : ByteArray := prog_1_method_52_code
def yX0_findField : MethodName := ⟨RX0, "findField", "(III)I"⟩
def dkwX0_findField_2 : List UInt8 := [180, 0, 7, 27, 50, 182, 2, 63, 184, 2, 64, 172]
abbrev dktX0_findField_2 : List UInt8 := dkwX0_findField_2 ++ []
def dkwX0_findField_1 : List UInt8 := [20, 2, 56, 184, 1, 163, 154, 0, 6, 16, 254, 172, 187, 2, 58, 89, 42, 29, 28, 183, 2, 60, 42]
abbrev dktX0_findField_1 : List UInt8 := dkwX0_findField_1 ++ dktX0_findField_2
def dkwX0_findField_0 : List UInt8 := [42, 27, 182, 1, 173, 153, 0, 27, 28, 133, 9, 20, 1, 223, 184, 1, 163, 153, 0, 15, 29, 133, 9]
abbrev dktX0_findField_0 : List UInt8 := dkwX0_findField_0 ++ dktX0_findField_1
theorem dksX0_findField_0 : cX0_findField.data.toList.drop 0 = dktX0_findField_0 := by decide +kernel
theorem dksX0_findField_1 : cX0_findField.data.toList.drop 23 = dktX0_findField_1 := dk_seg dksX0_findField_0 23 rfl rfl
theorem dksX0_findField_2 : cX0_findField.data.toList.drop 46 = dktX0_findField_2 := dk_seg dksX0_findField_1 23 rfl rfl
theorem dX0_findField_0 : decode cX0_findField 0 = .ok (.aload_n 0, 1) := dk_42 (dk_at dksX0_findField_0 0 rfl rfl)
theorem dX0_findField_1 : decode cX0_findField 1 = .ok (.iload_n 1, 1) := dk_27 (dk_at dksX0_findField_0 1 rfl rfl)
theorem dX0_findField_2 : decode cX0_findField 2 = .ok (.invokevirtual 429, 3) := dk_182 1 173 (dk_at dksX0_findField_0 2 rfl rfl)
theorem dX0_findField_5 : decode cX0_findField 5 = .ok (.ifCond .eq 27, 3) := dk_153 0 27 (dk_at dksX0_findField_0 5 rfl rfl)
theorem dX0_findField_8 : decode cX0_findField 8 = .ok (.iload_n 2, 1) := dk_28 (dk_at dksX0_findField_0 8 rfl rfl)
theorem dX0_findField_9 : decode cX0_findField 9 = .ok (.i2l, 1) := dk_133 (dk_at dksX0_findField_0 9 rfl rfl)
theorem dX0_findField_10 : decode cX0_findField 10 = .ok (.lconst 0, 1) := dk_9 (dk_at dksX0_findField_0 10 rfl rfl)
theorem dX0_findField_11 : decode cX0_findField 11 = .ok (.ldc2_w 479, 3) := dk_20 1 223 (dk_at dksX0_findField_0 11 rfl rfl)
theorem dX0_findField_14 : decode cX0_findField 14 = .ok (.invokestatic 419, 3) := dk_184 1 163 (dk_at dksX0_findField_0 14 rfl rfl)
theorem dX0_findField_17 : decode cX0_findField 17 = .ok (.ifCond .eq 15, 3) := dk_153 0 15 (dk_at dksX0_findField_0 17 rfl rfl)
theorem dX0_findField_20 : decode cX0_findField 20 = .ok (.iload_n 3, 1) := dk_29 (dk_at dksX0_findField_0 20 rfl rfl)
theorem dX0_findField_21 : decode cX0_findField 21 = .ok (.i2l, 1) := dk_133 (dk_at dksX0_findField_0 21 rfl rfl)
theorem dX0_findField_22 : decode cX0_findField 22 = .ok (.lconst 0, 1) := dk_9 (dk_at dksX0_findField_0 22 rfl rfl)
theorem dX0_findField_23 : decode cX0_findField 23 = .ok (.ldc2_w 568, 3) := dk_20 2 56 (dk_at dksX0_findField_1 0 rfl rfl)
theorem dX0_findField_26 : decode cX0_findField 26 = .ok (.invokestatic 419, 3) := dk_184 1 163 (dk_at dksX0_findField_1 3 rfl rfl)
theorem dX0_findField_29 : decode cX0_findField 29 = .ok (.ifCond .ne 6, 3) := dk_154 0 6 (dk_at dksX0_findField_1 6 rfl rfl)
theorem dX0_findField_32 : decode cX0_findField 32 = .ok (.bipush (-2), 2) := dk_16 254 (dk_at dksX0_findField_1 9 rfl rfl)
theorem dX0_findField_34 : decode cX0_findField 34 = .ok (.ireturn, 1) := dk_172 (dk_at dksX0_findField_1 11 rfl rfl)
theorem dX0_findField_35 : decode cX0_findField 35 = .ok (.new 570, 3) := dk_187 2 58 (dk_at dksX0_findField_1 12 rfl rfl)
theorem dX0_findField_38 : decode cX0_findField 38 = .ok (.dup, 1) := dk_89 (dk_at dksX0_findField_1 15 rfl rfl)
theorem dX0_findField_39 : decode cX0_findField 39 = .ok (.aload_n 0, 1) := dk_42 (dk_at dksX0_findField_1 16 rfl rfl)
theorem dX0_findField_40 : decode cX0_findField 40 = .ok (.iload_n 3, 1) := dk_29 (dk_at dksX0_findField_1 17 rfl rfl)
theorem dX0_findField_41 : decode cX0_findField 41 = .ok (.iload_n 2, 1) := dk_28 (dk_at dksX0_findField_1 18 rfl rfl)
theorem dX0_findField_42 : decode cX0_findField 42 = .ok (.invokespecial 572, 3) := dk_183 2 60 (dk_at dksX0_findField_1 19 rfl rfl)
theorem dX0_findField_45 : decode cX0_findField 45 = .ok (.aload_n 0, 1) := dk_42 (dk_at dksX0_findField_1 22 rfl rfl)
theorem dX0_findField_46 : decode cX0_findField 46 = .ok (.getfield 7, 3) := dk_180 0 7 (dk_at dksX0_findField_2 0 rfl rfl)
theorem dX0_findField_49 : decode cX0_findField 49 = .ok (.iload_n 1, 1) := dk_27 (dk_at dksX0_findField_2 3 rfl rfl)
theorem dX0_findField_50 : decode cX0_findField 50 = .ok (.aaload, 1) := dk_50 (dk_at dksX0_findField_2 4 rfl rfl)
theorem dX0_findField_51 : decode cX0_findField 51 = .ok (.invokevirtual 575, 3) := dk_182 2 63 (dk_at dksX0_findField_2 5 rfl rfl)
theorem dX0_findField_54 : decode cX0_findField 54 = .ok (.invokestatic 576, 3) := dk_184 2 64 (dk_at dksX0_findField_2 8 rfl rfl)
theorem dX0_findField_57 : decode cX0_findField 57 = .ok (.ireturn, 1) := dk_172 (dk_at dksX0_findField_2 11 rfl rfl)
abbrev cX0_told : ByteArray := prog_1_method_51_code
def yX0_told : MethodName := ⟨RX0, "told", "(LReflectMirror$Member;)I"⟩
def dkwX0_told_0 : List UInt8 := [42, 199, 0, 7, 2, 167, 0, 7, 42, 182, 1, 237, 172]
abbrev dktX0_told_0 : List UInt8 := dkwX0_told_0 ++ []
theorem dksX0_told_0 : cX0_told.data.toList.drop 0 = dktX0_told_0 := by decide +kernel
theorem dX0_told_0 : decode cX0_told 0 = .ok (.aload_n 0, 1) := dk_42 (dk_at dksX0_told_0 0 rfl rfl)
theorem dX0_told_1 : decode cX0_told 1 = .ok (.ifnonnull 7, 3) := dk_199 0 7 (dk_at dksX0_told_0 1 rfl rfl)
theorem dX0_told_4 : decode cX0_told 4 = .ok (.iconst (-1), 1) := dk_2 (dk_at dksX0_told_0 4 rfl rfl)
theorem dX0_told_5 : decode cX0_told 5 = .ok (.goto 7, 3) := dk_167 0 7 (dk_at dksX0_told_0 5 rfl rfl)
theorem dX0_told_8 : decode cX0_told 8 = .ok (.aload_n 0, 1) := dk_42 (dk_at dksX0_told_0 8 rfl rfl)
theorem dX0_told_9 : decode cX0_told 9 = .ok (.invokevirtual 493, 3) := dk_182 1 237 (dk_at dksX0_told_0 9 rfl rfl)
theorem dX0_told_12 : decode cX0_told 12 = .ok (.ireturn, 1) := dk_172 (dk_at dksX0_told_0 12 rfl rfl)
abbrev cX0_findMethod : ByteArray := prog_1_method_53_code
def yX0_findMethod : MethodName := ⟨RX0, "findMethod", "(III)I"⟩
def dkwX0_findMethod_2 : List UInt8 := [180, 0, 7, 27, 50, 183, 2, 23, 42, 180, 0, 7, 27, 50, 182, 2, 26, 184, 2, 64, 172]
abbrev dktX0_findMethod_2 : List UInt8 := dkwX0_findMethod_2 ++ []
def dkwX0_findMethod_1 : List UInt8 := [184, 1, 163, 154, 0, 6, 16, 254, 172, 187, 2, 21, 89, 42, 29, 42, 180, 0, 20, 28, 50, 42]
abbrev dktX0_findMethod_1 : List UInt8 := dkwX0_findMethod_1 ++ dktX0_findMethod_2
def dkwX0_findMethod_0 : List UInt8 := [42, 27, 182, 1, 173, 153, 0, 23, 42, 28, 182, 2, 34, 153, 0, 15, 29, 133, 9, 20, 2, 56]
abbrev dktX0_findMethod_0 : List UInt8 := dkwX0_findMethod_0 ++ dktX0_findMethod_1
theorem dksX0_findMethod_0 : cX0_findMethod.data.toList.drop 0 = dktX0_findMethod_0 := by decide +kernel
theorem dksX0_findMethod_1 : cX0_findMethod.data.toList.drop 22 = dktX0_findMethod_1 := dk_seg dksX0_findMethod_0 22 rfl rfl
theorem dksX0_findMethod_2 : cX0_findMethod.data.toList.drop 44 = dktX0_findMethod_2 := dk_seg dksX0_findMethod_1 22 rfl rfl
theorem dX0_findMethod_0 : decode cX0_findMethod 0 = .ok (.aload_n 0, 1) := dk_42 (dk_at dksX0_findMethod_0 0 rfl rfl)
theorem dX0_findMethod_1 : decode cX0_findMethod 1 = .ok (.iload_n 1, 1) := dk_27 (dk_at dksX0_findMethod_0 1 rfl rfl)
theorem dX0_findMethod_2 : decode cX0_findMethod 2 = .ok (.invokevirtual 429, 3) := dk_182 1 173 (dk_at dksX0_findMethod_0 2 rfl rfl)
theorem dX0_findMethod_5 : decode cX0_findMethod 5 = .ok (.ifCond .eq 23, 3) := dk_153 0 23 (dk_at dksX0_findMethod_0 5 rfl rfl)
theorem dX0_findMethod_8 : decode cX0_findMethod 8 = .ok (.aload_n 0, 1) := dk_42 (dk_at dksX0_findMethod_0 8 rfl rfl)
theorem dX0_findMethod_9 : decode cX0_findMethod 9 = .ok (.iload_n 2, 1) := dk_28 (dk_at dksX0_findMethod_0 9 rfl rfl)
theorem dX0_findMethod_10 : decode cX0_findMethod 10 = .ok (.invokevirtual 546, 3) := dk_182 2 34 (dk_at dksX0_findMethod_0 10 rfl rfl)
theorem dX0_findMethod_13 : decode cX0_findMethod 13 = .ok (.ifCond .eq 15, 3) := dk_153 0 15 (dk_at dksX0_findMethod_0 13 rfl rfl)
theorem dX0_findMethod_16 : decode cX0_findMethod 16 = .ok (.iload_n 3, 1) := dk_29 (dk_at dksX0_findMethod_0 16 rfl rfl)
theorem dX0_findMethod_17 : decode cX0_findMethod 17 = .ok (.i2l, 1) := dk_133 (dk_at dksX0_findMethod_0 17 rfl rfl)
theorem dX0_findMethod_18 : decode cX0_findMethod 18 = .ok (.lconst 0, 1) := dk_9 (dk_at dksX0_findMethod_0 18 rfl rfl)
theorem dX0_findMethod_19 : decode cX0_findMethod 19 = .ok (.ldc2_w 568, 3) := dk_20 2 56 (dk_at dksX0_findMethod_0 19 rfl rfl)
theorem dX0_findMethod_22 : decode cX0_findMethod 22 = .ok (.invokestatic 419, 3) := dk_184 1 163 (dk_at dksX0_findMethod_1 0 rfl rfl)
theorem dX0_findMethod_25 : decode cX0_findMethod 25 = .ok (.ifCond .ne 6, 3) := dk_154 0 6 (dk_at dksX0_findMethod_1 3 rfl rfl)
theorem dX0_findMethod_28 : decode cX0_findMethod 28 = .ok (.bipush (-2), 2) := dk_16 254 (dk_at dksX0_findMethod_1 6 rfl rfl)
theorem dX0_findMethod_30 : decode cX0_findMethod 30 = .ok (.ireturn, 1) := dk_172 (dk_at dksX0_findMethod_1 8 rfl rfl)
theorem dX0_findMethod_31 : decode cX0_findMethod 31 = .ok (.new 533, 3) := dk_187 2 21 (dk_at dksX0_findMethod_1 9 rfl rfl)
theorem dX0_findMethod_34 : decode cX0_findMethod 34 = .ok (.dup, 1) := dk_89 (dk_at dksX0_findMethod_1 12 rfl rfl)
theorem dX0_findMethod_35 : decode cX0_findMethod 35 = .ok (.aload_n 0, 1) := dk_42 (dk_at dksX0_findMethod_1 13 rfl rfl)
theorem dX0_findMethod_36 : decode cX0_findMethod 36 = .ok (.iload_n 3, 1) := dk_29 (dk_at dksX0_findMethod_1 14 rfl rfl)
theorem dX0_findMethod_37 : decode cX0_findMethod 37 = .ok (.aload_n 0, 1) := dk_42 (dk_at dksX0_findMethod_1 15 rfl rfl)
theorem dX0_findMethod_38 : decode cX0_findMethod 38 = .ok (.getfield 20, 3) := dk_180 0 20 (dk_at dksX0_findMethod_1 16 rfl rfl)
theorem dX0_findMethod_41 : decode cX0_findMethod 41 = .ok (.iload_n 2, 1) := dk_28 (dk_at dksX0_findMethod_1 19 rfl rfl)
theorem dX0_findMethod_42 : decode cX0_findMethod 42 = .ok (.aaload, 1) := dk_50 (dk_at dksX0_findMethod_1 20 rfl rfl)
theorem dX0_findMethod_43 : decode cX0_findMethod 43 = .ok (.aload_n 0, 1) := dk_42 (dk_at dksX0_findMethod_1 21 rfl rfl)
theorem dX0_findMethod_44 : decode cX0_findMethod 44 = .ok (.getfield 7, 3) := dk_180 0 7 (dk_at dksX0_findMethod_2 0 rfl rfl)
theorem dX0_findMethod_47 : decode cX0_findMethod 47 = .ok (.iload_n 1, 1) := dk_27 (dk_at dksX0_findMethod_2 3 rfl rfl)
theorem dX0_findMethod_48 : decode cX0_findMethod 48 = .ok (.aaload, 1) := dk_50 (dk_at dksX0_findMethod_2 4 rfl rfl)
theorem dX0_findMethod_49 : decode cX0_findMethod 49 = .ok (.invokespecial 535, 3) := dk_183 2 23 (dk_at dksX0_findMethod_2 5 rfl rfl)
theorem dX0_findMethod_52 : decode cX0_findMethod 52 = .ok (.aload_n 0, 1) := dk_42 (dk_at dksX0_findMethod_2 8 rfl rfl)
theorem dX0_findMethod_53 : decode cX0_findMethod 53 = .ok (.getfield 7, 3) := dk_180 0 7 (dk_at dksX0_findMethod_2 9 rfl rfl)
theorem dX0_findMethod_56 : decode cX0_findMethod 56 = .ok (.iload_n 1, 1) := dk_27 (dk_at dksX0_findMethod_2 12 rfl rfl)
theorem dX0_findMethod_57 : decode cX0_findMethod 57 = .ok (.aaload, 1) := dk_50 (dk_at dksX0_findMethod_2 13 rfl rfl)
theorem dX0_findMethod_58 : decode cX0_findMethod 58 = .ok (.invokevirtual 538, 3) := dk_182 2 26 (dk_at dksX0_findMethod_2 14 rfl rfl)
theorem dX0_findMethod_61 : decode cX0_findMethod 61 = .ok (.invokestatic 576, 3) := dk_184 2 64 (dk_at dksX0_findMethod_2 17 rfl rfl)
theorem dX0_findMethod_64 : decode cX0_findMethod 64 = .ok (.ireturn, 1) := dk_172 (dk_at dksX0_findMethod_2 20 rfl rfl)
abbrev cX0_overrides : ByteArray := prog_1_method_54_code
def yX0_overrides : MethodName := ⟨RX0, "overrides", "(II)I"⟩
def dkwX0_overrides_5 : List UInt8 := [167, 0, 4, 3, 172]
abbrev dktX0_overrides_5 : List UInt8 := dkwX0_overrides_5 ++ []
def dkwX0_overrides_4 : List UInt8 := [182, 0, 184, 153, 0, 7, 4, 167, 0, 4, 3, 172, 45, 25, 4, 182, 0, 49, 153, 0, 7, 4]
abbrev dktX0_overrides_4 : List UInt8 := dkwX0_overrides_4 ++ dktX0_overrides_5
def dkwX0_overrides_3 : List UInt8 := [160, 0, 34, 45, 180, 0, 24, 25, 4, 180, 0, 24, 165, 0, 22, 45, 180, 0, 24, 25, 4, 180, 0, 24]
abbrev dktX0_overrides_3 : List UInt8 := dkwX0_overrides_3 ++ dktX0_overrides_4
def dkwX0_overrides_2 : List UInt8 := [42, 180, 0, 20, 28, 50, 58, 4, 45, 180, 0, 30, 153, 0, 48, 45, 180, 0, 34, 25, 4, 180, 0, 34]
abbrev dktX0_overrides_2 : List UInt8 := dkwX0_overrides_2 ++ dktX0_overrides_3
def dkwX0_overrides_1 : List UInt8 := [180, 0, 30, 42, 180, 0, 20, 28, 50, 180, 0, 30, 159, 0, 5, 2, 172, 42, 180, 0, 20, 27, 50, 78]
abbrev dktX0_overrides_1 : List UInt8 := dkwX0_overrides_1 ++ dktX0_overrides_2
def dkwX0_overrides_0 : List UInt8 := [42, 27, 182, 1, 169, 153, 0, 32, 42, 28, 182, 1, 169, 153, 0, 24, 42, 180, 0, 20, 27, 50]
abbrev dktX0_overrides_0 : List UInt8 := dkwX0_overrides_0 ++ dktX0_overrides_1
theorem dksX0_overrides_0 : cX0_overrides.data.toList.drop 0 = dktX0_overrides_0 := by decide +kernel
theorem dksX0_overrides_1 : cX0_overrides.data.toList.drop 22 = dktX0_overrides_1 := dk_seg dksX0_overrides_0 22 rfl rfl
theorem dksX0_overrides_2 : cX0_overrides.data.toList.drop 46 = dktX0_overrides_2 := dk_seg dksX0_overrides_1 24 rfl rfl
theorem dksX0_overrides_3 : cX0_overrides.data.toList.drop 70 = dktX0_overrides_3 := dk_seg dksX0_overrides_2 24 rfl rfl
theorem dksX0_overrides_4 : cX0_overrides.data.toList.drop 94 = dktX0_overrides_4 := dk_seg dksX0_overrides_3 24 rfl rfl
theorem dksX0_overrides_5 : cX0_overrides.data.toList.drop 116 = dktX0_overrides_5 := dk_seg dksX0_overrides_4 22 rfl rfl
theorem dX0_overrides_0 : decode cX0_overrides 0 = .ok (.aload_n 0, 1) := dk_42 (dk_at dksX0_overrides_0 0 rfl rfl)
theorem dX0_overrides_1 : decode cX0_overrides 1 = .ok (.iload_n 1, 1) := dk_27 (dk_at dksX0_overrides_0 1 rfl rfl)
theorem dX0_overrides_2 : decode cX0_overrides 2 = .ok (.invokevirtual 425, 3) := dk_182 1 169 (dk_at dksX0_overrides_0 2 rfl rfl)
theorem dX0_overrides_5 : decode cX0_overrides 5 = .ok (.ifCond .eq 32, 3) := dk_153 0 32 (dk_at dksX0_overrides_0 5 rfl rfl)
theorem dX0_overrides_8 : decode cX0_overrides 8 = .ok (.aload_n 0, 1) := dk_42 (dk_at dksX0_overrides_0 8 rfl rfl)
theorem dX0_overrides_9 : decode cX0_overrides 9 = .ok (.iload_n 2, 1) := dk_28 (dk_at dksX0_overrides_0 9 rfl rfl)
theorem dX0_overrides_10 : decode cX0_overrides 10 = .ok (.invokevirtual 425, 3) := dk_182 1 169 (dk_at dksX0_overrides_0 10 rfl rfl)
theorem dX0_overrides_13 : decode cX0_overrides 13 = .ok (.ifCond .eq 24, 3) := dk_153 0 24 (dk_at dksX0_overrides_0 13 rfl rfl)
theorem dX0_overrides_16 : decode cX0_overrides 16 = .ok (.aload_n 0, 1) := dk_42 (dk_at dksX0_overrides_0 16 rfl rfl)
theorem dX0_overrides_17 : decode cX0_overrides 17 = .ok (.getfield 20, 3) := dk_180 0 20 (dk_at dksX0_overrides_0 17 rfl rfl)
theorem dX0_overrides_20 : decode cX0_overrides 20 = .ok (.iload_n 1, 1) := dk_27 (dk_at dksX0_overrides_0 20 rfl rfl)
theorem dX0_overrides_21 : decode cX0_overrides 21 = .ok (.aaload, 1) := dk_50 (dk_at dksX0_overrides_0 21 rfl rfl)
theorem dX0_overrides_22 : decode cX0_overrides 22 = .ok (.getfield 30, 3) := dk_180 0 30 (dk_at dksX0_overrides_1 0 rfl rfl)
theorem dX0_overrides_25 : decode cX0_overrides 25 = .ok (.aload_n 0, 1) := dk_42 (dk_at dksX0_overrides_1 3 rfl rfl)
theorem dX0_overrides_26 : decode cX0_overrides 26 = .ok (.getfield 20, 3) := dk_180 0 20 (dk_at dksX0_overrides_1 4 rfl rfl)
theorem dX0_overrides_29 : decode cX0_overrides 29 = .ok (.iload_n 2, 1) := dk_28 (dk_at dksX0_overrides_1 7 rfl rfl)
theorem dX0_overrides_30 : decode cX0_overrides 30 = .ok (.aaload, 1) := dk_50 (dk_at dksX0_overrides_1 8 rfl rfl)
theorem dX0_overrides_31 : decode cX0_overrides 31 = .ok (.getfield 30, 3) := dk_180 0 30 (dk_at dksX0_overrides_1 9 rfl rfl)
theorem dX0_overrides_34 : decode cX0_overrides 34 = .ok (.if_icmp .eq 5, 3) := dk_159 0 5 (dk_at dksX0_overrides_1 12 rfl rfl)
theorem dX0_overrides_37 : decode cX0_overrides 37 = .ok (.iconst (-1), 1) := dk_2 (dk_at dksX0_overrides_1 15 rfl rfl)
theorem dX0_overrides_38 : decode cX0_overrides 38 = .ok (.ireturn, 1) := dk_172 (dk_at dksX0_overrides_1 16 rfl rfl)
theorem dX0_overrides_39 : decode cX0_overrides 39 = .ok (.aload_n 0, 1) := dk_42 (dk_at dksX0_overrides_1 17 rfl rfl)
theorem dX0_overrides_40 : decode cX0_overrides 40 = .ok (.getfield 20, 3) := dk_180 0 20 (dk_at dksX0_overrides_1 18 rfl rfl)
theorem dX0_overrides_43 : decode cX0_overrides 43 = .ok (.iload_n 1, 1) := dk_27 (dk_at dksX0_overrides_1 21 rfl rfl)
theorem dX0_overrides_44 : decode cX0_overrides 44 = .ok (.aaload, 1) := dk_50 (dk_at dksX0_overrides_1 22 rfl rfl)
theorem dX0_overrides_45 : decode cX0_overrides 45 = .ok (.astore_n 3, 1) := dk_78 (dk_at dksX0_overrides_1 23 rfl rfl)
theorem dX0_overrides_46 : decode cX0_overrides 46 = .ok (.aload_n 0, 1) := dk_42 (dk_at dksX0_overrides_2 0 rfl rfl)
theorem dX0_overrides_47 : decode cX0_overrides 47 = .ok (.getfield 20, 3) := dk_180 0 20 (dk_at dksX0_overrides_2 1 rfl rfl)
theorem dX0_overrides_50 : decode cX0_overrides 50 = .ok (.iload_n 2, 1) := dk_28 (dk_at dksX0_overrides_2 4 rfl rfl)
theorem dX0_overrides_51 : decode cX0_overrides 51 = .ok (.aaload, 1) := dk_50 (dk_at dksX0_overrides_2 5 rfl rfl)
theorem dX0_overrides_52 : decode cX0_overrides 52 = .ok (.astore 4, 2) := dk_58 4 (dk_at dksX0_overrides_2 6 rfl rfl)
theorem dX0_overrides_54 : decode cX0_overrides 54 = .ok (.aload_n 3, 1) := dk_45 (dk_at dksX0_overrides_2 8 rfl rfl)
theorem dX0_overrides_55 : decode cX0_overrides 55 = .ok (.getfield 30, 3) := dk_180 0 30 (dk_at dksX0_overrides_2 9 rfl rfl)
theorem dX0_overrides_58 : decode cX0_overrides 58 = .ok (.ifCond .eq 48, 3) := dk_153 0 48 (dk_at dksX0_overrides_2 12 rfl rfl)
theorem dX0_overrides_61 : decode cX0_overrides 61 = .ok (.aload_n 3, 1) := dk_45 (dk_at dksX0_overrides_2 15 rfl rfl)
theorem dX0_overrides_62 : decode cX0_overrides 62 = .ok (.getfield 34, 3) := dk_180 0 34 (dk_at dksX0_overrides_2 16 rfl rfl)
theorem dX0_overrides_65 : decode cX0_overrides 65 = .ok (.aload 4, 2) := dk_25 4 (dk_at dksX0_overrides_2 19 rfl rfl)
theorem dX0_overrides_67 : decode cX0_overrides 67 = .ok (.getfield 34, 3) := dk_180 0 34 (dk_at dksX0_overrides_2 21 rfl rfl)
theorem dX0_overrides_70 : decode cX0_overrides 70 = .ok (.if_icmp .ne 34, 3) := dk_160 0 34 (dk_at dksX0_overrides_3 0 rfl rfl)
theorem dX0_overrides_73 : decode cX0_overrides 73 = .ok (.aload_n 3, 1) := dk_45 (dk_at dksX0_overrides_3 3 rfl rfl)
theorem dX0_overrides_74 : decode cX0_overrides 74 = .ok (.getfield 24, 3) := dk_180 0 24 (dk_at dksX0_overrides_3 4 rfl rfl)
theorem dX0_overrides_77 : decode cX0_overrides 77 = .ok (.aload 4, 2) := dk_25 4 (dk_at dksX0_overrides_3 7 rfl rfl)
theorem dX0_overrides_79 : decode cX0_overrides 79 = .ok (.getfield 24, 3) := dk_180 0 24 (dk_at dksX0_overrides_3 9 rfl rfl)
theorem dX0_overrides_82 : decode cX0_overrides 82 = .ok (.if_acmp .eq 22, 3) := dk_165 0 22 (dk_at dksX0_overrides_3 12 rfl rfl)
theorem dX0_overrides_85 : decode cX0_overrides 85 = .ok (.aload_n 3, 1) := dk_45 (dk_at dksX0_overrides_3 15 rfl rfl)
theorem dX0_overrides_86 : decode cX0_overrides 86 = .ok (.getfield 24, 3) := dk_180 0 24 (dk_at dksX0_overrides_3 16 rfl rfl)
theorem dX0_overrides_89 : decode cX0_overrides 89 = .ok (.aload 4, 2) := dk_25 4 (dk_at dksX0_overrides_3 19 rfl rfl)
theorem dX0_overrides_91 : decode cX0_overrides 91 = .ok (.getfield 24, 3) := dk_180 0 24 (dk_at dksX0_overrides_3 21 rfl rfl)
theorem dX0_overrides_94 : decode cX0_overrides 94 = .ok (.invokevirtual 184, 3) := dk_182 0 184 (dk_at dksX0_overrides_4 0 rfl rfl)
theorem dX0_overrides_97 : decode cX0_overrides 97 = .ok (.ifCond .eq 7, 3) := dk_153 0 7 (dk_at dksX0_overrides_4 3 rfl rfl)
theorem dX0_overrides_100 : decode cX0_overrides 100 = .ok (.iconst 1, 1) := dk_4 (dk_at dksX0_overrides_4 6 rfl rfl)
theorem dX0_overrides_101 : decode cX0_overrides 101 = .ok (.goto 4, 3) := dk_167 0 4 (dk_at dksX0_overrides_4 7 rfl rfl)
theorem dX0_overrides_104 : decode cX0_overrides 104 = .ok (.iconst 0, 1) := dk_3 (dk_at dksX0_overrides_4 10 rfl rfl)
theorem dX0_overrides_105 : decode cX0_overrides 105 = .ok (.ireturn, 1) := dk_172 (dk_at dksX0_overrides_4 11 rfl rfl)
theorem dX0_overrides_106 : decode cX0_overrides 106 = .ok (.aload_n 3, 1) := dk_45 (dk_at dksX0_overrides_4 12 rfl rfl)
theorem dX0_overrides_107 : decode cX0_overrides 107 = .ok (.aload 4, 2) := dk_25 4 (dk_at dksX0_overrides_4 13 rfl rfl)
theorem dX0_overrides_109 : decode cX0_overrides 109 = .ok (.invokevirtual 49, 3) := dk_182 0 49 (dk_at dksX0_overrides_4 15 rfl rfl)
theorem dX0_overrides_112 : decode cX0_overrides 112 = .ok (.ifCond .eq 7, 3) := dk_153 0 7 (dk_at dksX0_overrides_4 18 rfl rfl)
theorem dX0_overrides_115 : decode cX0_overrides 115 = .ok (.iconst 1, 1) := dk_4 (dk_at dksX0_overrides_4 21 rfl rfl)
theorem dX0_overrides_116 : decode cX0_overrides 116 = .ok (.goto 4, 3) := dk_167 0 4 (dk_at dksX0_overrides_5 0 rfl rfl)
theorem dX0_overrides_119 : decode cX0_overrides 119 = .ok (.iconst 0, 1) := dk_3 (dk_at dksX0_overrides_5 3 rfl rfl)
theorem dX0_overrides_120 : decode cX0_overrides 120 = .ok (.ireturn, 1) := dk_172 (dk_at dksX0_overrides_5 4 rfl rfl)
abbrev cX0_inForce : ByteArray := prog_1_method_55_code
def yX0_inForce : MethodName := ⟨RX0, "inForce", "(II)I"⟩
def dkwX0_inForce_3 : List UInt8 := [50, 42, 180, 0, 20, 28, 50, 182, 1, 36, 184, 2, 64, 172]
abbrev dktX0_inForce_3 : List UInt8 := dkwX0_inForce_3 ++ []
def dkwX0_inForce_2 : List UInt8 := [42, 180, 0, 20, 28, 50, 180, 0, 24, 182, 0, 184, 154, 0, 6, 16, 254, 172, 42, 42, 180, 0, 7, 27]
abbrev dktX0_inForce_2 : List UInt8 := dkwX0_inForce_2 ++ dktX0_inForce_3
def dkwX0_inForce_1 : List UInt8 := [182, 2, 34, 153, 0, 36, 42, 180, 0, 20, 28, 50, 182, 1, 32, 153, 0, 24, 42, 180, 0, 7, 27, 50]
abbrev dktX0_inForce_1 : List UInt8 := dkwX0_inForce_1 ++ dktX0_inForce_2
def dkwX0_inForce_0 : List UInt8 := [42, 27, 182, 1, 173, 153, 0, 56, 42, 180, 0, 7, 27, 50, 182, 1, 176, 153, 0, 44, 42, 28]
abbrev dktX0_inForce_0 : List UInt8 := dkwX0_inForce_0 ++ dktX0_inForce_1
theorem dksX0_inForce_0 : cX0_inForce.data.toList.drop 0 = dktX0_inForce_0 := by decide +kernel
theorem dksX0_inForce_1 : cX0_inForce.data.toList.drop 22 = dktX0_inForce_1 := dk_seg dksX0_inForce_0 22 rfl rfl
theorem dksX0_inForce_2 : cX0_inForce.data.toList.drop 46 = dktX0_inForce_2 := dk_seg dksX0_inForce_1 24 rfl rfl
theorem dksX0_inForce_3 : cX0_inForce.data.toList.drop 70 = dktX0_inForce_3 := dk_seg dksX0_inForce_2 24 rfl rfl
theorem dX0_inForce_0 : decode cX0_inForce 0 = .ok (.aload_n 0, 1) := dk_42 (dk_at dksX0_inForce_0 0 rfl rfl)
theorem dX0_inForce_1 : decode cX0_inForce 1 = .ok (.iload_n 1, 1) := dk_27 (dk_at dksX0_inForce_0 1 rfl rfl)
theorem dX0_inForce_2 : decode cX0_inForce 2 = .ok (.invokevirtual 429, 3) := dk_182 1 173 (dk_at dksX0_inForce_0 2 rfl rfl)
theorem dX0_inForce_5 : decode cX0_inForce 5 = .ok (.ifCond .eq 56, 3) := dk_153 0 56 (dk_at dksX0_inForce_0 5 rfl rfl)
theorem dX0_inForce_8 : decode cX0_inForce 8 = .ok (.aload_n 0, 1) := dk_42 (dk_at dksX0_inForce_0 8 rfl rfl)
theorem dX0_inForce_9 : decode cX0_inForce 9 = .ok (.getfield 7, 3) := dk_180 0 7 (dk_at dksX0_inForce_0 9 rfl rfl)
theorem dX0_inForce_12 : decode cX0_inForce 12 = .ok (.iload_n 1, 1) := dk_27 (dk_at dksX0_inForce_0 12 rfl rfl)
theorem dX0_inForce_13 : decode cX0_inForce 13 = .ok (.aaload, 1) := dk_50 (dk_at dksX0_inForce_0 13 rfl rfl)
theorem dX0_inForce_14 : decode cX0_inForce 14 = .ok (.invokevirtual 432, 3) := dk_182 1 176 (dk_at dksX0_inForce_0 14 rfl rfl)
theorem dX0_inForce_17 : decode cX0_inForce 17 = .ok (.ifCond .eq 44, 3) := dk_153 0 44 (dk_at dksX0_inForce_0 17 rfl rfl)
theorem dX0_inForce_20 : decode cX0_inForce 20 = .ok (.aload_n 0, 1) := dk_42 (dk_at dksX0_inForce_0 20 rfl rfl)
theorem dX0_inForce_21 : decode cX0_inForce 21 = .ok (.iload_n 2, 1) := dk_28 (dk_at dksX0_inForce_0 21 rfl rfl)
theorem dX0_inForce_22 : decode cX0_inForce 22 = .ok (.invokevirtual 546, 3) := dk_182 2 34 (dk_at dksX0_inForce_1 0 rfl rfl)
theorem dX0_inForce_25 : decode cX0_inForce 25 = .ok (.ifCond .eq 36, 3) := dk_153 0 36 (dk_at dksX0_inForce_1 3 rfl rfl)
theorem dX0_inForce_28 : decode cX0_inForce 28 = .ok (.aload_n 0, 1) := dk_42 (dk_at dksX0_inForce_1 6 rfl rfl)
theorem dX0_inForce_29 : decode cX0_inForce 29 = .ok (.getfield 20, 3) := dk_180 0 20 (dk_at dksX0_inForce_1 7 rfl rfl)
theorem dX0_inForce_32 : decode cX0_inForce 32 = .ok (.iload_n 2, 1) := dk_28 (dk_at dksX0_inForce_1 10 rfl rfl)
theorem dX0_inForce_33 : decode cX0_inForce 33 = .ok (.aaload, 1) := dk_50 (dk_at dksX0_inForce_1 11 rfl rfl)
theorem dX0_inForce_34 : decode cX0_inForce 34 = .ok (.invokevirtual 288, 3) := dk_182 1 32 (dk_at dksX0_inForce_1 12 rfl rfl)
theorem dX0_inForce_37 : decode cX0_inForce 37 = .ok (.ifCond .eq 24, 3) := dk_153 0 24 (dk_at dksX0_inForce_1 15 rfl rfl)
theorem dX0_inForce_40 : decode cX0_inForce 40 = .ok (.aload_n 0, 1) := dk_42 (dk_at dksX0_inForce_1 18 rfl rfl)
theorem dX0_inForce_41 : decode cX0_inForce 41 = .ok (.getfield 7, 3) := dk_180 0 7 (dk_at dksX0_inForce_1 19 rfl rfl)
theorem dX0_inForce_44 : decode cX0_inForce 44 = .ok (.iload_n 1, 1) := dk_27 (dk_at dksX0_inForce_1 22 rfl rfl)
theorem dX0_inForce_45 : decode cX0_inForce 45 = .ok (.aaload, 1) := dk_50 (dk_at dksX0_inForce_1 23 rfl rfl)
theorem dX0_inForce_46 : decode cX0_inForce 46 = .ok (.aload_n 0, 1) := dk_42 (dk_at dksX0_inForce_2 0 rfl rfl)
theorem dX0_inForce_47 : decode cX0_inForce 47 = .ok (.getfield 20, 3) := dk_180 0 20 (dk_at dksX0_inForce_2 1 rfl rfl)
theorem dX0_inForce_50 : decode cX0_inForce 50 = .ok (.iload_n 2, 1) := dk_28 (dk_at dksX0_inForce_2 4 rfl rfl)
theorem dX0_inForce_51 : decode cX0_inForce 51 = .ok (.aaload, 1) := dk_50 (dk_at dksX0_inForce_2 5 rfl rfl)
theorem dX0_inForce_52 : decode cX0_inForce 52 = .ok (.getfield 24, 3) := dk_180 0 24 (dk_at dksX0_inForce_2 6 rfl rfl)
theorem dX0_inForce_55 : decode cX0_inForce 55 = .ok (.invokevirtual 184, 3) := dk_182 0 184 (dk_at dksX0_inForce_2 9 rfl rfl)
theorem dX0_inForce_58 : decode cX0_inForce 58 = .ok (.ifCond .ne 6, 3) := dk_154 0 6 (dk_at dksX0_inForce_2 12 rfl rfl)
theorem dX0_inForce_61 : decode cX0_inForce 61 = .ok (.bipush (-2), 2) := dk_16 254 (dk_at dksX0_inForce_2 15 rfl rfl)
theorem dX0_inForce_63 : decode cX0_inForce 63 = .ok (.ireturn, 1) := dk_172 (dk_at dksX0_inForce_2 17 rfl rfl)
theorem dX0_inForce_64 : decode cX0_inForce 64 = .ok (.aload_n 0, 1) := dk_42 (dk_at dksX0_inForce_2 18 rfl rfl)
theorem dX0_inForce_65 : decode cX0_inForce 65 = .ok (.aload_n 0, 1) := dk_42 (dk_at dksX0_inForce_2 19 rfl rfl)
theorem dX0_inForce_66 : decode cX0_inForce 66 = .ok (.getfield 7, 3) := dk_180 0 7 (dk_at dksX0_inForce_2 20 rfl rfl)
theorem dX0_inForce_69 : decode cX0_inForce 69 = .ok (.iload_n 1, 1) := dk_27 (dk_at dksX0_inForce_2 23 rfl rfl)
theorem dX0_inForce_70 : decode cX0_inForce 70 = .ok (.aaload, 1) := dk_50 (dk_at dksX0_inForce_3 0 rfl rfl)
theorem dX0_inForce_71 : decode cX0_inForce 71 = .ok (.aload_n 0, 1) := dk_42 (dk_at dksX0_inForce_3 1 rfl rfl)
theorem dX0_inForce_72 : decode cX0_inForce 72 = .ok (.getfield 20, 3) := dk_180 0 20 (dk_at dksX0_inForce_3 2 rfl rfl)
theorem dX0_inForce_75 : decode cX0_inForce 75 = .ok (.iload_n 2, 1) := dk_28 (dk_at dksX0_inForce_3 5 rfl rfl)
theorem dX0_inForce_76 : decode cX0_inForce 76 = .ok (.aaload, 1) := dk_50 (dk_at dksX0_inForce_3 6 rfl rfl)
theorem dX0_inForce_77 : decode cX0_inForce 77 = .ok (.invokevirtual 292, 3) := dk_182 1 36 (dk_at dksX0_inForce_3 7 rfl rfl)
theorem dX0_inForce_80 : decode cX0_inForce 80 = .ok (.invokestatic 576, 3) := dk_184 2 64 (dk_at dksX0_inForce_3 10 rfl rfl)
theorem dX0_inForce_83 : decode cX0_inForce 83 = .ok (.ireturn, 1) := dk_172 (dk_at dksX0_inForce_3 13 rfl rfl)
abbrev cX0_inForce_2 : ByteArray := prog_1_method_5_code
def yX0_inForce_2 : MethodName := ⟨RX0, "inForce", "(LReflectMirror$Type;LReflectMirror$Member;)LReflectMirror$Member;"⟩
def dkwX0_inForce_2_9 : List UInt8 := [132, 5, 1, 167, 255, 180, 1, 176]
abbrev dktX0_inForce_2_9 : List UInt8 := dkwX0_inForce_2_9 ++ []
def dkwX0_inForce_2_8 : List UInt8 := [182, 0, 55, 154, 0, 21, 25, 7, 44, 165, 0, 12, 25, 7, 44, 182, 0, 49, 153, 0, 6, 25, 7, 176]
abbrev dktX0_inForce_2_8 : List UInt8 := dkwX0_inForce_2_8 ++ dktX0_inForce_2_9
def dkwX0_inForce_2_7 : List UInt8 := [42, 25, 6, 44, 182, 0, 45, 167, 0, 4, 1, 58, 7, 25, 7, 198, 0, 31, 25, 7, 16, 16]
abbrev dktX0_inForce_2_7 : List UInt8 := dkwX0_inForce_2_7 ++ dktX0_inForce_2_8
def dkwX0_inForce_2_6 : List UInt8 := [180, 0, 63, 162, 0, 73, 43, 180, 0, 66, 21, 5, 50, 58, 6, 25, 6, 182, 0, 41, 6, 160, 0, 13]
abbrev dktX0_inForce_2_6 : List UInt8 := dkwX0_inForce_2_6 ++ dktX0_inForce_2_7
def dkwX0_inForce_2_5 : List UInt8 := [198, 0, 16, 25, 4, 16, 16, 182, 0, 55, 154, 0, 6, 25, 4, 176, 3, 54, 5, 21, 5, 43]
abbrev dktX0_inForce_2_5 : List UInt8 := dkwX0_inForce_2_5 ++ dktX0_inForce_2_6
def dkwX0_inForce_2_4 : List UInt8 := [153, 0, 8, 25, 6, 167, 0, 4, 1, 58, 4, 25, 5, 182, 0, 59, 58, 5, 167, 255, 168, 25, 4]
abbrev dktX0_inForce_2_4 : List UInt8 := dkwX0_inForce_2_4 ++ dktX0_inForce_2_5
def dkwX0_inForce_2_3 : List UInt8 := [4, 160, 0, 16, 25, 6, 7, 182, 0, 55, 154, 0, 7, 4, 167, 0, 4, 3, 54, 7, 21, 7]
abbrev dktX0_inForce_2_3 : List UInt8 := dkwX0_inForce_2_3 ++ dktX0_inForce_2_4
def dkwX0_inForce_2_2 : List UInt8 := [25, 6, 44, 165, 0, 34, 25, 6, 44, 182, 0, 49, 154, 0, 25, 29, 153, 0, 25, 25, 6, 182, 0, 52]
abbrev dktX0_inForce_2_2 : List UInt8 := dkwX0_inForce_2_2 ++ dktX0_inForce_2_3
def dkwX0_inForce_2_1 : List UInt8 := [25, 5, 198, 0, 89, 25, 4, 199, 0, 84, 42, 25, 5, 44, 182, 0, 45, 58, 6, 25, 6, 198, 0, 44]
abbrev dktX0_inForce_2_1 : List UInt8 := dkwX0_inForce_2_1 ++ dktX0_inForce_2_2
def dkwX0_inForce_2_0 : List UInt8 := [44, 180, 0, 24, 182, 0, 41, 6, 160, 0, 7, 4, 167, 0, 4, 3, 62, 1, 58, 4, 43, 58, 5]
abbrev dktX0_inForce_2_0 : List UInt8 := dkwX0_inForce_2_0 ++ dktX0_inForce_2_1
theorem dksX0_inForce_2_0 : cX0_inForce_2.data.toList.drop 0 = dktX0_inForce_2_0 := by decide +kernel
theorem dksX0_inForce_2_1 : cX0_inForce_2.data.toList.drop 23 = dktX0_inForce_2_1 := dk_seg dksX0_inForce_2_0 23 rfl rfl
theorem dksX0_inForce_2_2 : cX0_inForce_2.data.toList.drop 47 = dktX0_inForce_2_2 := dk_seg dksX0_inForce_2_1 24 rfl rfl
theorem dksX0_inForce_2_3 : cX0_inForce_2.data.toList.drop 71 = dktX0_inForce_2_3 := dk_seg dksX0_inForce_2_2 24 rfl rfl
theorem dksX0_inForce_2_4 : cX0_inForce_2.data.toList.drop 93 = dktX0_inForce_2_4 := dk_seg dksX0_inForce_2_3 22 rfl rfl
theorem dksX0_inForce_2_5 : cX0_inForce_2.data.toList.drop 116 = dktX0_inForce_2_5 := dk_seg dksX0_inForce_2_4 23 rfl rfl
theorem dksX0_inForce_2_6 : cX0_inForce_2.data.toList.drop 138 = dktX0_inForce_2_6 := dk_seg dksX0_inForce_2_5 22 rfl rfl
theorem dksX0_inForce_2_7 : cX0_inForce_2.data.toList.drop 162 = dktX0_inForce_2_7 := dk_seg dksX0_inForce_2_6 24 rfl rfl
theorem dksX0_inForce_2_8 : cX0_inForce_2.data.toList.drop 184 = dktX0_inForce_2_8 := dk_seg dksX0_inForce_2_7 22 rfl rfl
theorem dksX0_inForce_2_9 : cX0_inForce_2.data.toList.drop 208 = dktX0_inForce_2_9 := dk_seg dksX0_inForce_2_8 24 rfl rfl
theorem dX0_inForce_2_0 : decode cX0_inForce_2 0 = .ok (.aload_n 2, 1) := dk_44 (dk_at dksX0_inForce_2_0 0 rfl rfl)
theorem dX0_inForce_2_1 : decode cX0_inForce_2 1 = .ok (.getfield 24, 3) := dk_180 0 24 (dk_at dksX0_inForce_2_0 1 rfl rfl)
theorem dX0_inForce_2_4 : decode cX0_inForce_2 4 = .ok (.invokevirtual 41, 3) := dk_182 0 41 (dk_at dksX0_inForce_2_0 4 rfl rfl)
theorem dX0_inForce_2_7 : decode cX0_inForce_2 7 = .ok (.iconst 3, 1) := dk_6 (dk_at dksX0_inForce_2_0 7 rfl rfl)
theorem dX0_inForce_2_8 : decode cX0_inForce_2 8 = .ok (.if_icmp .ne 7, 3) := dk_160 0 7 (dk_at dksX0_inForce_2_0 8 rfl rfl)
theorem dX0_inForce_2_11 : decode cX0_inForce_2 11 = .ok (.iconst 1, 1) := dk_4 (dk_at dksX0_inForce_2_0 11 rfl rfl)
theorem dX0_inForce_2_12 : decode cX0_inForce_2 12 = .ok (.goto 4, 3) := dk_167 0 4 (dk_at dksX0_inForce_2_0 12 rfl rfl)
theorem dX0_inForce_2_15 : decode cX0_inForce_2 15 = .ok (.iconst 0, 1) := dk_3 (dk_at dksX0_inForce_2_0 15 rfl rfl)
theorem dX0_inForce_2_16 : decode cX0_inForce_2 16 = .ok (.istore_n 3, 1) := dk_62 (dk_at dksX0_inForce_2_0 16 rfl rfl)
theorem dX0_inForce_2_17 : decode cX0_inForce_2 17 = .ok (.aconst_null, 1) := dk_1 (dk_at dksX0_inForce_2_0 17 rfl rfl)
theorem dX0_inForce_2_18 : decode cX0_inForce_2 18 = .ok (.astore 4, 2) := dk_58 4 (dk_at dksX0_inForce_2_0 18 rfl rfl)
theorem dX0_inForce_2_20 : decode cX0_inForce_2 20 = .ok (.aload_n 1, 1) := dk_43 (dk_at dksX0_inForce_2_0 20 rfl rfl)
theorem dX0_inForce_2_21 : decode cX0_inForce_2 21 = .ok (.astore 5, 2) := dk_58 5 (dk_at dksX0_inForce_2_0 21 rfl rfl)
theorem dX0_inForce_2_23 : decode cX0_inForce_2 23 = .ok (.aload 5, 2) := dk_25 5 (dk_at dksX0_inForce_2_1 0 rfl rfl)
theorem dX0_inForce_2_25 : decode cX0_inForce_2 25 = .ok (.ifnull 89, 3) := dk_198 0 89 (dk_at dksX0_inForce_2_1 2 rfl rfl)
theorem dX0_inForce_2_28 : decode cX0_inForce_2 28 = .ok (.aload 4, 2) := dk_25 4 (dk_at dksX0_inForce_2_1 5 rfl rfl)
theorem dX0_inForce_2_30 : decode cX0_inForce_2 30 = .ok (.ifnonnull 84, 3) := dk_199 0 84 (dk_at dksX0_inForce_2_1 7 rfl rfl)
theorem dX0_inForce_2_33 : decode cX0_inForce_2 33 = .ok (.aload_n 0, 1) := dk_42 (dk_at dksX0_inForce_2_1 10 rfl rfl)
theorem dX0_inForce_2_34 : decode cX0_inForce_2 34 = .ok (.aload 5, 2) := dk_25 5 (dk_at dksX0_inForce_2_1 11 rfl rfl)
theorem dX0_inForce_2_36 : decode cX0_inForce_2 36 = .ok (.aload_n 2, 1) := dk_44 (dk_at dksX0_inForce_2_1 13 rfl rfl)
theorem dX0_inForce_2_37 : decode cX0_inForce_2 37 = .ok (.invokevirtual 45, 3) := dk_182 0 45 (dk_at dksX0_inForce_2_1 14 rfl rfl)
theorem dX0_inForce_2_40 : decode cX0_inForce_2 40 = .ok (.astore 6, 2) := dk_58 6 (dk_at dksX0_inForce_2_1 17 rfl rfl)
theorem dX0_inForce_2_42 : decode cX0_inForce_2 42 = .ok (.aload 6, 2) := dk_25 6 (dk_at dksX0_inForce_2_1 19 rfl rfl)
theorem dX0_inForce_2_44 : decode cX0_inForce_2 44 = .ok (.ifnull 44, 3) := dk_198 0 44 (dk_at dksX0_inForce_2_1 21 rfl rfl)
theorem dX0_inForce_2_47 : decode cX0_inForce_2 47 = .ok (.aload 6, 2) := dk_25 6 (dk_at dksX0_inForce_2_2 0 rfl rfl)
theorem dX0_inForce_2_49 : decode cX0_inForce_2 49 = .ok (.aload_n 2, 1) := dk_44 (dk_at dksX0_inForce_2_2 2 rfl rfl)
theorem dX0_inForce_2_50 : decode cX0_inForce_2 50 = .ok (.if_acmp .eq 34, 3) := dk_165 0 34 (dk_at dksX0_inForce_2_2 3 rfl rfl)
theorem dX0_inForce_2_53 : decode cX0_inForce_2 53 = .ok (.aload 6, 2) := dk_25 6 (dk_at dksX0_inForce_2_2 6 rfl rfl)
theorem dX0_inForce_2_55 : decode cX0_inForce_2 55 = .ok (.aload_n 2, 1) := dk_44 (dk_at dksX0_inForce_2_2 8 rfl rfl)
theorem dX0_inForce_2_56 : decode cX0_inForce_2 56 = .ok (.invokevirtual 49, 3) := dk_182 0 49 (dk_at dksX0_inForce_2_2 9 rfl rfl)
theorem dX0_inForce_2_59 : decode cX0_inForce_2 59 = .ok (.ifCond .ne 25, 3) := dk_154 0 25 (dk_at dksX0_inForce_2_2 12 rfl rfl)
theorem dX0_inForce_2_62 : decode cX0_inForce_2 62 = .ok (.iload_n 3, 1) := dk_29 (dk_at dksX0_inForce_2_2 15 rfl rfl)
theorem dX0_inForce_2_63 : decode cX0_inForce_2 63 = .ok (.ifCond .eq 25, 3) := dk_153 0 25 (dk_at dksX0_inForce_2_2 16 rfl rfl)
theorem dX0_inForce_2_66 : decode cX0_inForce_2 66 = .ok (.aload 6, 2) := dk_25 6 (dk_at dksX0_inForce_2_2 19 rfl rfl)
theorem dX0_inForce_2_68 : decode cX0_inForce_2 68 = .ok (.invokevirtual 52, 3) := dk_182 0 52 (dk_at dksX0_inForce_2_2 21 rfl rfl)
theorem dX0_inForce_2_71 : decode cX0_inForce_2 71 = .ok (.iconst 1, 1) := dk_4 (dk_at dksX0_inForce_2_3 0 rfl rfl)
theorem dX0_inForce_2_72 : decode cX0_inForce_2 72 = .ok (.if_icmp .ne 16, 3) := dk_160 0 16 (dk_at dksX0_inForce_2_3 1 rfl rfl)
theorem dX0_inForce_2_75 : decode cX0_inForce_2 75 = .ok (.aload 6, 2) := dk_25 6 (dk_at dksX0_inForce_2_3 4 rfl rfl)
theorem dX0_inForce_2_77 : decode cX0_inForce_2 77 = .ok (.iconst 4, 1) := dk_7 (dk_at dksX0_inForce_2_3 6 rfl rfl)
theorem dX0_inForce_2_78 : decode cX0_inForce_2 78 = .ok (.invokevirtual 55, 3) := dk_182 0 55 (dk_at dksX0_inForce_2_3 7 rfl rfl)
theorem dX0_inForce_2_81 : decode cX0_inForce_2 81 = .ok (.ifCond .ne 7, 3) := dk_154 0 7 (dk_at dksX0_inForce_2_3 10 rfl rfl)
theorem dX0_inForce_2_84 : decode cX0_inForce_2 84 = .ok (.iconst 1, 1) := dk_4 (dk_at dksX0_inForce_2_3 13 rfl rfl)
theorem dX0_inForce_2_85 : decode cX0_inForce_2 85 = .ok (.goto 4, 3) := dk_167 0 4 (dk_at dksX0_inForce_2_3 14 rfl rfl)
theorem dX0_inForce_2_88 : decode cX0_inForce_2 88 = .ok (.iconst 0, 1) := dk_3 (dk_at dksX0_inForce_2_3 17 rfl rfl)
theorem dX0_inForce_2_89 : decode cX0_inForce_2 89 = .ok (.istore 7, 2) := dk_54 7 (dk_at dksX0_inForce_2_3 18 rfl rfl)
theorem dX0_inForce_2_91 : decode cX0_inForce_2 91 = .ok (.iload 7, 2) := dk_21 7 (dk_at dksX0_inForce_2_3 20 rfl rfl)
theorem dX0_inForce_2_93 : decode cX0_inForce_2 93 = .ok (.ifCond .eq 8, 3) := dk_153 0 8 (dk_at dksX0_inForce_2_4 0 rfl rfl)
theorem dX0_inForce_2_96 : decode cX0_inForce_2 96 = .ok (.aload 6, 2) := dk_25 6 (dk_at dksX0_inForce_2_4 3 rfl rfl)
theorem dX0_inForce_2_98 : decode cX0_inForce_2 98 = .ok (.goto 4, 3) := dk_167 0 4 (dk_at dksX0_inForce_2_4 5 rfl rfl)
theorem dX0_inForce_2_101 : decode cX0_inForce_2 101 = .ok (.aconst_null, 1) := dk_1 (dk_at dksX0_inForce_2_4 8 rfl rfl)
theorem dX0_inForce_2_102 : decode cX0_inForce_2 102 = .ok (.astore 4, 2) := dk_58 4 (dk_at dksX0_inForce_2_4 9 rfl rfl)
theorem dX0_inForce_2_104 : decode cX0_inForce_2 104 = .ok (.aload 5, 2) := dk_25 5 (dk_at dksX0_inForce_2_4 11 rfl rfl)
theorem dX0_inForce_2_106 : decode cX0_inForce_2 106 = .ok (.invokevirtual 59, 3) := dk_182 0 59 (dk_at dksX0_inForce_2_4 13 rfl rfl)
theorem dX0_inForce_2_109 : decode cX0_inForce_2 109 = .ok (.astore 5, 2) := dk_58 5 (dk_at dksX0_inForce_2_4 16 rfl rfl)
theorem dX0_inForce_2_111 : decode cX0_inForce_2 111 = .ok (.goto (-88), 3) := dk_167 255 168 (dk_at dksX0_inForce_2_4 18 rfl rfl)
theorem dX0_inForce_2_114 : decode cX0_inForce_2 114 = .ok (.aload 4, 2) := dk_25 4 (dk_at dksX0_inForce_2_4 21 rfl rfl)
theorem dX0_inForce_2_116 : decode cX0_inForce_2 116 = .ok (.ifnull 16, 3) := dk_198 0 16 (dk_at dksX0_inForce_2_5 0 rfl rfl)
theorem dX0_inForce_2_119 : decode cX0_inForce_2 119 = .ok (.aload 4, 2) := dk_25 4 (dk_at dksX0_inForce_2_5 3 rfl rfl)
theorem dX0_inForce_2_121 : decode cX0_inForce_2 121 = .ok (.bipush 16, 2) := dk_16 16 (dk_at dksX0_inForce_2_5 5 rfl rfl)
theorem dX0_inForce_2_123 : decode cX0_inForce_2 123 = .ok (.invokevirtual 55, 3) := dk_182 0 55 (dk_at dksX0_inForce_2_5 7 rfl rfl)
theorem dX0_inForce_2_126 : decode cX0_inForce_2 126 = .ok (.ifCond .ne 6, 3) := dk_154 0 6 (dk_at dksX0_inForce_2_5 10 rfl rfl)
theorem dX0_inForce_2_129 : decode cX0_inForce_2 129 = .ok (.aload 4, 2) := dk_25 4 (dk_at dksX0_inForce_2_5 13 rfl rfl)
theorem dX0_inForce_2_131 : decode cX0_inForce_2 131 = .ok (.areturn, 1) := dk_176 (dk_at dksX0_inForce_2_5 15 rfl rfl)
theorem dX0_inForce_2_132 : decode cX0_inForce_2 132 = .ok (.iconst 0, 1) := dk_3 (dk_at dksX0_inForce_2_5 16 rfl rfl)
theorem dX0_inForce_2_133 : decode cX0_inForce_2 133 = .ok (.istore 5, 2) := dk_54 5 (dk_at dksX0_inForce_2_5 17 rfl rfl)
theorem dX0_inForce_2_135 : decode cX0_inForce_2 135 = .ok (.iload 5, 2) := dk_21 5 (dk_at dksX0_inForce_2_5 19 rfl rfl)
theorem dX0_inForce_2_137 : decode cX0_inForce_2 137 = .ok (.aload_n 1, 1) := dk_43 (dk_at dksX0_inForce_2_5 21 rfl rfl)
theorem dX0_inForce_2_138 : decode cX0_inForce_2 138 = .ok (.getfield 63, 3) := dk_180 0 63 (dk_at dksX0_inForce_2_6 0 rfl rfl)
theorem dX0_inForce_2_141 : decode cX0_inForce_2 141 = .ok (.if_icmp .ge 73, 3) := dk_162 0 73 (dk_at dksX0_inForce_2_6 3 rfl rfl)
theorem dX0_inForce_2_144 : decode cX0_inForce_2 144 = .ok (.aload_n 1, 1) := dk_43 (dk_at dksX0_inForce_2_6 6 rfl rfl)
theorem dX0_inForce_2_145 : decode cX0_inForce_2 145 = .ok (.getfield 66, 3) := dk_180 0 66 (dk_at dksX0_inForce_2_6 7 rfl rfl)
theorem dX0_inForce_2_148 : decode cX0_inForce_2 148 = .ok (.iload 5, 2) := dk_21 5 (dk_at dksX0_inForce_2_6 10 rfl rfl)
theorem dX0_inForce_2_150 : decode cX0_inForce_2 150 = .ok (.aaload, 1) := dk_50 (dk_at dksX0_inForce_2_6 12 rfl rfl)
theorem dX0_inForce_2_151 : decode cX0_inForce_2 151 = .ok (.astore 6, 2) := dk_58 6 (dk_at dksX0_inForce_2_6 13 rfl rfl)
theorem dX0_inForce_2_153 : decode cX0_inForce_2 153 = .ok (.aload 6, 2) := dk_25 6 (dk_at dksX0_inForce_2_6 15 rfl rfl)
theorem dX0_inForce_2_155 : decode cX0_inForce_2 155 = .ok (.invokevirtual 41, 3) := dk_182 0 41 (dk_at dksX0_inForce_2_6 17 rfl rfl)
theorem dX0_inForce_2_158 : decode cX0_inForce_2 158 = .ok (.iconst 3, 1) := dk_6 (dk_at dksX0_inForce_2_6 20 rfl rfl)
theorem dX0_inForce_2_159 : decode cX0_inForce_2 159 = .ok (.if_icmp .ne 13, 3) := dk_160 0 13 (dk_at dksX0_inForce_2_6 21 rfl rfl)
theorem dX0_inForce_2_162 : decode cX0_inForce_2 162 = .ok (.aload_n 0, 1) := dk_42 (dk_at dksX0_inForce_2_7 0 rfl rfl)
theorem dX0_inForce_2_163 : decode cX0_inForce_2 163 = .ok (.aload 6, 2) := dk_25 6 (dk_at dksX0_inForce_2_7 1 rfl rfl)
theorem dX0_inForce_2_165 : decode cX0_inForce_2 165 = .ok (.aload_n 2, 1) := dk_44 (dk_at dksX0_inForce_2_7 3 rfl rfl)
theorem dX0_inForce_2_166 : decode cX0_inForce_2 166 = .ok (.invokevirtual 45, 3) := dk_182 0 45 (dk_at dksX0_inForce_2_7 4 rfl rfl)
theorem dX0_inForce_2_169 : decode cX0_inForce_2 169 = .ok (.goto 4, 3) := dk_167 0 4 (dk_at dksX0_inForce_2_7 7 rfl rfl)
theorem dX0_inForce_2_172 : decode cX0_inForce_2 172 = .ok (.aconst_null, 1) := dk_1 (dk_at dksX0_inForce_2_7 10 rfl rfl)
theorem dX0_inForce_2_173 : decode cX0_inForce_2 173 = .ok (.astore 7, 2) := dk_58 7 (dk_at dksX0_inForce_2_7 11 rfl rfl)
theorem dX0_inForce_2_175 : decode cX0_inForce_2 175 = .ok (.aload 7, 2) := dk_25 7 (dk_at dksX0_inForce_2_7 13 rfl rfl)
theorem dX0_inForce_2_177 : decode cX0_inForce_2 177 = .ok (.ifnull 31, 3) := dk_198 0 31 (dk_at dksX0_inForce_2_7 15 rfl rfl)
theorem dX0_inForce_2_180 : decode cX0_inForce_2 180 = .ok (.aload 7, 2) := dk_25 7 (dk_at dksX0_inForce_2_7 18 rfl rfl)
theorem dX0_inForce_2_182 : decode cX0_inForce_2 182 = .ok (.bipush 16, 2) := dk_16 16 (dk_at dksX0_inForce_2_7 20 rfl rfl)
theorem dX0_inForce_2_184 : decode cX0_inForce_2 184 = .ok (.invokevirtual 55, 3) := dk_182 0 55 (dk_at dksX0_inForce_2_8 0 rfl rfl)
theorem dX0_inForce_2_187 : decode cX0_inForce_2 187 = .ok (.ifCond .ne 21, 3) := dk_154 0 21 (dk_at dksX0_inForce_2_8 3 rfl rfl)
theorem dX0_inForce_2_190 : decode cX0_inForce_2 190 = .ok (.aload 7, 2) := dk_25 7 (dk_at dksX0_inForce_2_8 6 rfl rfl)
theorem dX0_inForce_2_192 : decode cX0_inForce_2 192 = .ok (.aload_n 2, 1) := dk_44 (dk_at dksX0_inForce_2_8 8 rfl rfl)
theorem dX0_inForce_2_193 : decode cX0_inForce_2 193 = .ok (.if_acmp .eq 12, 3) := dk_165 0 12 (dk_at dksX0_inForce_2_8 9 rfl rfl)
theorem dX0_inForce_2_196 : decode cX0_inForce_2 196 = .ok (.aload 7, 2) := dk_25 7 (dk_at dksX0_inForce_2_8 12 rfl rfl)
theorem dX0_inForce_2_198 : decode cX0_inForce_2 198 = .ok (.aload_n 2, 1) := dk_44 (dk_at dksX0_inForce_2_8 14 rfl rfl)
theorem dX0_inForce_2_199 : decode cX0_inForce_2 199 = .ok (.invokevirtual 49, 3) := dk_182 0 49 (dk_at dksX0_inForce_2_8 15 rfl rfl)
theorem dX0_inForce_2_202 : decode cX0_inForce_2 202 = .ok (.ifCond .eq 6, 3) := dk_153 0 6 (dk_at dksX0_inForce_2_8 18 rfl rfl)
theorem dX0_inForce_2_205 : decode cX0_inForce_2 205 = .ok (.aload 7, 2) := dk_25 7 (dk_at dksX0_inForce_2_8 21 rfl rfl)
theorem dX0_inForce_2_207 : decode cX0_inForce_2 207 = .ok (.areturn, 1) := dk_176 (dk_at dksX0_inForce_2_8 23 rfl rfl)
theorem dX0_inForce_2_208 : decode cX0_inForce_2 208 = .ok (.iinc 5 1, 3) := dk_132 5 1 (dk_at dksX0_inForce_2_9 0 rfl rfl)
theorem dX0_inForce_2_211 : decode cX0_inForce_2 211 = .ok (.goto (-76), 3) := dk_167 255 180 (dk_at dksX0_inForce_2_9 3 rfl rfl)
theorem dX0_inForce_2_214 : decode cX0_inForce_2 214 = .ok (.aconst_null, 1) := dk_1 (dk_at dksX0_inForce_2_9 6 rfl rfl)
theorem dX0_inForce_2_215 : decode cX0_inForce_2 215 = .ok (.areturn, 1) := dk_176 (dk_at dksX0_inForce_2_9 7 rfl rfl)
abbrev cX0_open : ByteArray := prog_1_method_56_code
def yX0_open : MethodName := ⟨RX0, "open", "(IZ)I"⟩
def dkwX0_open_1 : List UInt8 := [167, 0, 4, 3, 62, 42, 180, 0, 20, 27, 50, 28, 181, 0, 195, 29, 172]
abbrev dktX0_open_1 : List UInt8 := dkwX0_open_1 ++ []
def dkwX0_open_0 : List UInt8 := [42, 27, 182, 1, 169, 154, 0, 5, 2, 172, 42, 180, 0, 20, 27, 50, 180, 0, 195, 153, 0, 7, 4]
abbrev dktX0_open_0 : List UInt8 := dkwX0_open_0 ++ dktX0_open_1
theorem dksX0_open_0 : cX0_open.data.toList.drop 0 = dktX0_open_0 := by decide +kernel
theorem dksX0_open_1 : cX0_open.data.toList.drop 23 = dktX0_open_1 := dk_seg dksX0_open_0 23 rfl rfl
theorem dX0_open_0 : decode cX0_open 0 = .ok (.aload_n 0, 1) := dk_42 (dk_at dksX0_open_0 0 rfl rfl)
theorem dX0_open_1 : decode cX0_open 1 = .ok (.iload_n 1, 1) := dk_27 (dk_at dksX0_open_0 1 rfl rfl)
theorem dX0_open_2 : decode cX0_open 2 = .ok (.invokevirtual 425, 3) := dk_182 1 169 (dk_at dksX0_open_0 2 rfl rfl)
theorem dX0_open_5 : decode cX0_open 5 = .ok (.ifCond .ne 5, 3) := dk_154 0 5 (dk_at dksX0_open_0 5 rfl rfl)
theorem dX0_open_8 : decode cX0_open 8 = .ok (.iconst (-1), 1) := dk_2 (dk_at dksX0_open_0 8 rfl rfl)
theorem dX0_open_9 : decode cX0_open 9 = .ok (.ireturn, 1) := dk_172 (dk_at dksX0_open_0 9 rfl rfl)
theorem dX0_open_10 : decode cX0_open 10 = .ok (.aload_n 0, 1) := dk_42 (dk_at dksX0_open_0 10 rfl rfl)
theorem dX0_open_11 : decode cX0_open 11 = .ok (.getfield 20, 3) := dk_180 0 20 (dk_at dksX0_open_0 11 rfl rfl)
theorem dX0_open_14 : decode cX0_open 14 = .ok (.iload_n 1, 1) := dk_27 (dk_at dksX0_open_0 14 rfl rfl)
theorem dX0_open_15 : decode cX0_open 15 = .ok (.aaload, 1) := dk_50 (dk_at dksX0_open_0 15 rfl rfl)
theorem dX0_open_16 : decode cX0_open 16 = .ok (.getfield 195, 3) := dk_180 0 195 (dk_at dksX0_open_0 16 rfl rfl)
theorem dX0_open_19 : decode cX0_open 19 = .ok (.ifCond .eq 7, 3) := dk_153 0 7 (dk_at dksX0_open_0 19 rfl rfl)
theorem dX0_open_22 : decode cX0_open 22 = .ok (.iconst 1, 1) := dk_4 (dk_at dksX0_open_0 22 rfl rfl)
theorem dX0_open_23 : decode cX0_open 23 = .ok (.goto 4, 3) := dk_167 0 4 (dk_at dksX0_open_1 0 rfl rfl)
theorem dX0_open_26 : decode cX0_open 26 = .ok (.iconst 0, 1) := dk_3 (dk_at dksX0_open_1 3 rfl rfl)
theorem dX0_open_27 : decode cX0_open 27 = .ok (.istore_n 3, 1) := dk_62 (dk_at dksX0_open_1 4 rfl rfl)
theorem dX0_open_28 : decode cX0_open 28 = .ok (.aload_n 0, 1) := dk_42 (dk_at dksX0_open_1 5 rfl rfl)
theorem dX0_open_29 : decode cX0_open 29 = .ok (.getfield 20, 3) := dk_180 0 20 (dk_at dksX0_open_1 6 rfl rfl)
theorem dX0_open_32 : decode cX0_open 32 = .ok (.iload_n 1, 1) := dk_27 (dk_at dksX0_open_1 9 rfl rfl)
theorem dX0_open_33 : decode cX0_open 33 = .ok (.aaload, 1) := dk_50 (dk_at dksX0_open_1 10 rfl rfl)
theorem dX0_open_34 : decode cX0_open 34 = .ok (.iload_n 2, 1) := dk_28 (dk_at dksX0_open_1 11 rfl rfl)
theorem dX0_open_35 : decode cX0_open 35 = .ok (.putfield 195, 3) := dk_181 0 195 (dk_at dksX0_open_1 12 rfl rfl)
theorem dX0_open_38 : decode cX0_open 38 = .ok (.iload_n 3, 1) := dk_29 (dk_at dksX0_open_1 15 rfl rfl)
theorem dX0_open_39 : decode cX0_open 39 = .ok (.ireturn, 1) := dk_172 (dk_at dksX0_open_1 16 rfl rfl)
abbrev cX0_caller : ByteArray := prog_1_method_57_code
def yX0_caller : MethodName := ⟨RX0, "caller", "(I)I"⟩
def dkwX0_caller_2 : List UInt8 := [50, 181, 0, 198, 28, 172]
abbrev dktX0_caller_2 : List UInt8 := dkwX0_caller_2 ++ []
def dkwX0_caller_1 : List UInt8 := [27, 50, 182, 1, 8, 198, 0, 5, 2, 172, 42, 180, 0, 198, 182, 1, 172, 61, 42, 42, 180, 0, 7, 27]
abbrev dktX0_caller_1 : List UInt8 := dkwX0_caller_1 ++ dktX0_caller_2
def dkwX0_caller_0 : List UInt8 := [42, 27, 182, 1, 173, 153, 0, 27, 42, 180, 0, 7, 27, 50, 182, 0, 188, 153, 0, 15, 42, 180, 0, 7]
abbrev dktX0_caller_0 : List UInt8 := dkwX0_caller_0 ++ dktX0_caller_1
theorem dksX0_caller_0 : cX0_caller.data.toList.drop 0 = dktX0_caller_0 := by decide +kernel
theorem dksX0_caller_1 : cX0_caller.data.toList.drop 24 = dktX0_caller_1 := dk_seg dksX0_caller_0 24 rfl rfl
theorem dksX0_caller_2 : cX0_caller.data.toList.drop 48 = dktX0_caller_2 := dk_seg dksX0_caller_1 24 rfl rfl
theorem dX0_caller_0 : decode cX0_caller 0 = .ok (.aload_n 0, 1) := dk_42 (dk_at dksX0_caller_0 0 rfl rfl)
theorem dX0_caller_1 : decode cX0_caller 1 = .ok (.iload_n 1, 1) := dk_27 (dk_at dksX0_caller_0 1 rfl rfl)
theorem dX0_caller_2 : decode cX0_caller 2 = .ok (.invokevirtual 429, 3) := dk_182 1 173 (dk_at dksX0_caller_0 2 rfl rfl)
theorem dX0_caller_5 : decode cX0_caller 5 = .ok (.ifCond .eq 27, 3) := dk_153 0 27 (dk_at dksX0_caller_0 5 rfl rfl)
theorem dX0_caller_8 : decode cX0_caller 8 = .ok (.aload_n 0, 1) := dk_42 (dk_at dksX0_caller_0 8 rfl rfl)
theorem dX0_caller_9 : decode cX0_caller 9 = .ok (.getfield 7, 3) := dk_180 0 7 (dk_at dksX0_caller_0 9 rfl rfl)
theorem dX0_caller_12 : decode cX0_caller 12 = .ok (.iload_n 1, 1) := dk_27 (dk_at dksX0_caller_0 12 rfl rfl)
theorem dX0_caller_13 : decode cX0_caller 13 = .ok (.aaload, 1) := dk_50 (dk_at dksX0_caller_0 13 rfl rfl)
theorem dX0_caller_14 : decode cX0_caller 14 = .ok (.invokevirtual 188, 3) := dk_182 0 188 (dk_at dksX0_caller_0 14 rfl rfl)
theorem dX0_caller_17 : decode cX0_caller 17 = .ok (.ifCond .eq 15, 3) := dk_153 0 15 (dk_at dksX0_caller_0 17 rfl rfl)
theorem dX0_caller_20 : decode cX0_caller 20 = .ok (.aload_n 0, 1) := dk_42 (dk_at dksX0_caller_0 20 rfl rfl)
theorem dX0_caller_21 : decode cX0_caller 21 = .ok (.getfield 7, 3) := dk_180 0 7 (dk_at dksX0_caller_0 21 rfl rfl)
theorem dX0_caller_24 : decode cX0_caller 24 = .ok (.iload_n 1, 1) := dk_27 (dk_at dksX0_caller_1 0 rfl rfl)
theorem dX0_caller_25 : decode cX0_caller 25 = .ok (.aaload, 1) := dk_50 (dk_at dksX0_caller_1 1 rfl rfl)
theorem dX0_caller_26 : decode cX0_caller 26 = .ok (.invokevirtual 264, 3) := dk_182 1 8 (dk_at dksX0_caller_1 2 rfl rfl)
theorem dX0_caller_29 : decode cX0_caller 29 = .ok (.ifnull 5, 3) := dk_198 0 5 (dk_at dksX0_caller_1 5 rfl rfl)
theorem dX0_caller_32 : decode cX0_caller 32 = .ok (.iconst (-1), 1) := dk_2 (dk_at dksX0_caller_1 8 rfl rfl)
theorem dX0_caller_33 : decode cX0_caller 33 = .ok (.ireturn, 1) := dk_172 (dk_at dksX0_caller_1 9 rfl rfl)
theorem dX0_caller_34 : decode cX0_caller 34 = .ok (.aload_n 0, 1) := dk_42 (dk_at dksX0_caller_1 10 rfl rfl)
theorem dX0_caller_35 : decode cX0_caller 35 = .ok (.getfield 198, 3) := dk_180 0 198 (dk_at dksX0_caller_1 11 rfl rfl)
theorem dX0_caller_38 : decode cX0_caller 38 = .ok (.invokevirtual 428, 3) := dk_182 1 172 (dk_at dksX0_caller_1 14 rfl rfl)
theorem dX0_caller_41 : decode cX0_caller 41 = .ok (.istore_n 2, 1) := dk_61 (dk_at dksX0_caller_1 17 rfl rfl)
theorem dX0_caller_42 : decode cX0_caller 42 = .ok (.aload_n 0, 1) := dk_42 (dk_at dksX0_caller_1 18 rfl rfl)
theorem dX0_caller_43 : decode cX0_caller 43 = .ok (.aload_n 0, 1) := dk_42 (dk_at dksX0_caller_1 19 rfl rfl)
theorem dX0_caller_44 : decode cX0_caller 44 = .ok (.getfield 7, 3) := dk_180 0 7 (dk_at dksX0_caller_1 20 rfl rfl)
theorem dX0_caller_47 : decode cX0_caller 47 = .ok (.iload_n 1, 1) := dk_27 (dk_at dksX0_caller_1 23 rfl rfl)
theorem dX0_caller_48 : decode cX0_caller 48 = .ok (.aaload, 1) := dk_50 (dk_at dksX0_caller_2 0 rfl rfl)
theorem dX0_caller_49 : decode cX0_caller 49 = .ok (.putfield 198, 3) := dk_181 0 198 (dk_at dksX0_caller_2 1 rfl rfl)
theorem dX0_caller_52 : decode cX0_caller 52 = .ok (.iload_n 2, 1) := dk_28 (dk_at dksX0_caller_2 4 rfl rfl)
theorem dX0_caller_53 : decode cX0_caller 53 = .ok (.ireturn, 1) := dk_172 (dk_at dksX0_caller_2 5 rfl rfl)
abbrev cX0_may : ByteArray := prog_1_method_58_code
def yX0_may : MethodName := ⟨RX0, "may", "(II)I"⟩
def dkwX0_may_1 : List UInt8 := [180, 0, 20, 27, 50, 42, 28, 182, 1, 91, 182, 0, 225, 153, 0, 7, 4, 167, 0, 4, 3, 172]
abbrev dktX0_may_1 : List UInt8 := dkwX0_may_1 ++ []
def dkwX0_may_0 : List UInt8 := [42, 27, 182, 1, 169, 153, 0, 11, 42, 28, 182, 2, 68, 154, 0, 7, 2, 167, 0, 26, 42, 42]
abbrev dktX0_may_0 : List UInt8 := dkwX0_may_0 ++ dktX0_may_1
theorem dksX0_may_0 : cX0_may.data.toList.drop 0 = dktX0_may_0 := by decide +kernel
theorem dksX0_may_1 : cX0_may.data.toList.drop 22 = dktX0_may_1 := dk_seg dksX0_may_0 22 rfl rfl
theorem dX0_may_0 : decode cX0_may 0 = .ok (.aload_n 0, 1) := dk_42 (dk_at dksX0_may_0 0 rfl rfl)
theorem dX0_may_1 : decode cX0_may 1 = .ok (.iload_n 1, 1) := dk_27 (dk_at dksX0_may_0 1 rfl rfl)
theorem dX0_may_2 : decode cX0_may 2 = .ok (.invokevirtual 425, 3) := dk_182 1 169 (dk_at dksX0_may_0 2 rfl rfl)
theorem dX0_may_5 : decode cX0_may 5 = .ok (.ifCond .eq 11, 3) := dk_153 0 11 (dk_at dksX0_may_0 5 rfl rfl)
theorem dX0_may_8 : decode cX0_may 8 = .ok (.aload_n 0, 1) := dk_42 (dk_at dksX0_may_0 8 rfl rfl)
theorem dX0_may_9 : decode cX0_may 9 = .ok (.iload_n 2, 1) := dk_28 (dk_at dksX0_may_0 9 rfl rfl)
theorem dX0_may_10 : decode cX0_may 10 = .ok (.invokevirtual 580, 3) := dk_182 2 68 (dk_at dksX0_may_0 10 rfl rfl)
theorem dX0_may_13 : decode cX0_may 13 = .ok (.ifCond .ne 7, 3) := dk_154 0 7 (dk_at dksX0_may_0 13 rfl rfl)
theorem dX0_may_16 : decode cX0_may 16 = .ok (.iconst (-1), 1) := dk_2 (dk_at dksX0_may_0 16 rfl rfl)
theorem dX0_may_17 : decode cX0_may 17 = .ok (.goto 26, 3) := dk_167 0 26 (dk_at dksX0_may_0 17 rfl rfl)
theorem dX0_may_20 : decode cX0_may 20 = .ok (.aload_n 0, 1) := dk_42 (dk_at dksX0_may_0 20 rfl rfl)
theorem dX0_may_21 : decode cX0_may 21 = .ok (.aload_n 0, 1) := dk_42 (dk_at dksX0_may_0 21 rfl rfl)
theorem dX0_may_22 : decode cX0_may 22 = .ok (.getfield 20, 3) := dk_180 0 20 (dk_at dksX0_may_1 0 rfl rfl)
theorem dX0_may_25 : decode cX0_may 25 = .ok (.iload_n 1, 1) := dk_27 (dk_at dksX0_may_1 3 rfl rfl)
theorem dX0_may_26 : decode cX0_may 26 = .ok (.aaload, 1) := dk_50 (dk_at dksX0_may_1 4 rfl rfl)
theorem dX0_may_27 : decode cX0_may 27 = .ok (.aload_n 0, 1) := dk_42 (dk_at dksX0_may_1 5 rfl rfl)
theorem dX0_may_28 : decode cX0_may 28 = .ok (.iload_n 2, 1) := dk_28 (dk_at dksX0_may_1 6 rfl rfl)
theorem dX0_may_29 : decode cX0_may 29 = .ok (.invokevirtual 347, 3) := dk_182 1 91 (dk_at dksX0_may_1 7 rfl rfl)
theorem dX0_may_32 : decode cX0_may 32 = .ok (.invokevirtual 225, 3) := dk_182 0 225 (dk_at dksX0_may_1 10 rfl rfl)
theorem dX0_may_35 : decode cX0_may 35 = .ok (.ifCond .eq 7, 3) := dk_153 0 7 (dk_at dksX0_may_1 13 rfl rfl)
theorem dX0_may_38 : decode cX0_may 38 = .ok (.iconst 1, 1) := dk_4 (dk_at dksX0_may_1 16 rfl rfl)
theorem dX0_may_39 : decode cX0_may 39 = .ok (.goto 4, 3) := dk_167 0 4 (dk_at dksX0_may_1 17 rfl rfl)
theorem dX0_may_42 : decode cX0_may 42 = .ok (.iconst 0, 1) := dk_3 (dk_at dksX0_may_1 20 rfl rfl)
theorem dX0_may_43 : decode cX0_may 43 = .ok (.ireturn, 1) := dk_172 (dk_at dksX0_may_1 21 rfl rfl)
abbrev cX0_isThing : ByteArray := prog_1_method_29_code
def yX0_isThing : MethodName := ⟨RX0, "isThing", "(I)Z"⟩
def dkwX0_isThing_0 : List UInt8 := [27, 133, 20, 1, 167, 42, 180, 1, 120, 4, 100, 133, 184, 1, 163, 172]
abbrev dktX0_isThing_0 : List UInt8 := dkwX0_isThing_0 ++ []
theorem dksX0_isThing_0 : cX0_isThing.data.toList.drop 0 = dktX0_isThing_0 := by decide +kernel
theorem dX0_isThing_0 : decode cX0_isThing 0 = .ok (.iload_n 1, 1) := dk_27 (dk_at dksX0_isThing_0 0 rfl rfl)
theorem dX0_isThing_1 : decode cX0_isThing 1 = .ok (.i2l, 1) := dk_133 (dk_at dksX0_isThing_0 1 rfl rfl)
theorem dX0_isThing_2 : decode cX0_isThing 2 = .ok (.ldc2_w 423, 3) := dk_20 1 167 (dk_at dksX0_isThing_0 2 rfl rfl)
theorem dX0_isThing_5 : decode cX0_isThing 5 = .ok (.aload_n 0, 1) := dk_42 (dk_at dksX0_isThing_0 5 rfl rfl)
theorem dX0_isThing_6 : decode cX0_isThing 6 = .ok (.getfield 376, 3) := dk_180 1 120 (dk_at dksX0_isThing_0 6 rfl rfl)
theorem dX0_isThing_9 : decode cX0_isThing 9 = .ok (.iconst 1, 1) := dk_4 (dk_at dksX0_isThing_0 9 rfl rfl)
theorem dX0_isThing_10 : decode cX0_isThing 10 = .ok (.isub, 1) := dk_100 (dk_at dksX0_isThing_0 10 rfl rfl)
theorem dX0_isThing_11 : decode cX0_isThing 11 = .ok (.i2l, 1) := dk_133 (dk_at dksX0_isThing_0 11 rfl rfl)
theorem dX0_isThing_12 : decode cX0_isThing 12 = .ok (.invokestatic 419, 3) := dk_184 1 163 (dk_at dksX0_isThing_0 12 rfl rfl)
theorem dX0_isThing_15 : decode cX0_isThing 15 = .ok (.ireturn, 1) := dk_172 (dk_at dksX0_isThing_0 15 rfl rfl)
abbrev cX0_thingAt : ByteArray := prog_1_method_25_code
def yX0_thingAt : MethodName := ⟨RX0, "thingAt", "(I)LReflectMirror$Thing;"⟩
def dkwX0_thingAt_0 : List UInt8 := [27, 2, 160, 0, 7, 1, 167, 0, 9, 42, 180, 1, 144, 27, 50, 176]
abbrev dktX0_thingAt_0 : List UInt8 := dkwX0_thingAt_0 ++ []
theorem dksX0_thingAt_0 : cX0_thingAt.data.toList.drop 0 = dktX0_thingAt_0 := by decide +kernel
theorem dX0_thingAt_0 : decode cX0_thingAt 0 = .ok (.iload_n 1, 1) := dk_27 (dk_at dksX0_thingAt_0 0 rfl rfl)
theorem dX0_thingAt_1 : decode cX0_thingAt 1 = .ok (.iconst (-1), 1) := dk_2 (dk_at dksX0_thingAt_0 1 rfl rfl)
theorem dX0_thingAt_2 : decode cX0_thingAt 2 = .ok (.if_icmp .ne 7, 3) := dk_160 0 7 (dk_at dksX0_thingAt_0 2 rfl rfl)
theorem dX0_thingAt_5 : decode cX0_thingAt 5 = .ok (.aconst_null, 1) := dk_1 (dk_at dksX0_thingAt_0 5 rfl rfl)
theorem dX0_thingAt_6 : decode cX0_thingAt 6 = .ok (.goto 9, 3) := dk_167 0 9 (dk_at dksX0_thingAt_0 6 rfl rfl)
theorem dX0_thingAt_9 : decode cX0_thingAt 9 = .ok (.aload_n 0, 1) := dk_42 (dk_at dksX0_thingAt_0 9 rfl rfl)
theorem dX0_thingAt_10 : decode cX0_thingAt 10 = .ok (.getfield 400, 3) := dk_180 1 144 (dk_at dksX0_thingAt_0 10 rfl rfl)
theorem dX0_thingAt_13 : decode cX0_thingAt 13 = .ok (.iload_n 1, 1) := dk_27 (dk_at dksX0_thingAt_0 13 rfl rfl)
theorem dX0_thingAt_14 : decode cX0_thingAt 14 = .ok (.aaload, 1) := dk_50 (dk_at dksX0_thingAt_0 14 rfl rfl)
theorem dX0_thingAt_15 : decode cX0_thingAt 15 = .ok (.areturn, 1) := dk_176 (dk_at dksX0_thingAt_0 15 rfl rfl)
abbrev cX0_mayBe : ByteArray := prog_1_method_10_code
def yX0_mayBe : MethodName := ⟨RX0, "mayBe", "(LReflectMirror$Member;LReflectMirror$Thing;)Z"⟩
def dkwX0_mayBe_5 : List UInt8 := [172]
abbrev dktX0_mayBe_5 : List UInt8 := dkwX0_mayBe_5 ++ []
def dkwX0_mayBe_4 : List UInt8 := [160, 0, 23, 42, 180, 0, 198, 45, 182, 0, 184, 153, 0, 12, 21, 4, 153, 0, 7, 4, 167, 0, 4, 3]
abbrev dktX0_mayBe_4 : List UInt8 := dkwX0_mayBe_4 ++ dktX0_mayBe_5
def dkwX0_mayBe_3 : List UInt8 := [3, 54, 4, 42, 180, 0, 198, 180, 0, 206, 45, 180, 0, 206, 159, 0, 27, 43, 182, 0, 52, 6]
abbrev dktX0_mayBe_3 : List UInt8 := dkwX0_mayBe_3 ++ dktX0_mayBe_4
def dkwX0_mayBe_2 : List UInt8 := [193, 0, 204, 153, 0, 21, 44, 180, 0, 192, 42, 180, 0, 198, 182, 0, 184, 153, 0, 7, 4, 167, 0, 4]
abbrev dktX0_mayBe_2 : List UInt8 := dkwX0_mayBe_2 ++ dktX0_mayBe_3
def dkwX0_mayBe_1 : List UInt8 := [45, 166, 0, 5, 4, 172, 43, 182, 0, 201, 153, 0, 5, 3, 172, 43, 7, 182, 0, 55, 154, 0, 24, 44]
abbrev dktX0_mayBe_1 : List UInt8 := dkwX0_mayBe_1 ++ dktX0_mayBe_2
def dkwX0_mayBe_0 : List UInt8 := [43, 180, 0, 24, 78, 43, 180, 0, 195, 154, 0, 19, 43, 182, 0, 52, 4, 159, 0, 11, 42, 180, 0, 198]
abbrev dktX0_mayBe_0 : List UInt8 := dkwX0_mayBe_0 ++ dktX0_mayBe_1
theorem dksX0_mayBe_0 : cX0_mayBe.data.toList.drop 0 = dktX0_mayBe_0 := by decide +kernel
theorem dksX0_mayBe_1 : cX0_mayBe.data.toList.drop 24 = dktX0_mayBe_1 := dk_seg dksX0_mayBe_0 24 rfl rfl
theorem dksX0_mayBe_2 : cX0_mayBe.data.toList.drop 48 = dktX0_mayBe_2 := dk_seg dksX0_mayBe_1 24 rfl rfl
theorem dksX0_mayBe_3 : cX0_mayBe.data.toList.drop 72 = dktX0_mayBe_3 := dk_seg dksX0_mayBe_2 24 rfl rfl
theorem dksX0_mayBe_4 : cX0_mayBe.data.toList.drop 94 = dktX0_mayBe_4 := dk_seg dksX0_mayBe_3 22 rfl rfl
theorem dksX0_mayBe_5 : cX0_mayBe.data.toList.drop 118 = dktX0_mayBe_5 := dk_seg dksX0_mayBe_4 24 rfl rfl
theorem dX0_mayBe_0 : decode cX0_mayBe 0 = .ok (.aload_n 1, 1) := dk_43 (dk_at dksX0_mayBe_0 0 rfl rfl)
theorem dX0_mayBe_1 : decode cX0_mayBe 1 = .ok (.getfield 24, 3) := dk_180 0 24 (dk_at dksX0_mayBe_0 1 rfl rfl)
theorem dX0_mayBe_4 : decode cX0_mayBe 4 = .ok (.astore_n 3, 1) := dk_78 (dk_at dksX0_mayBe_0 4 rfl rfl)
theorem dX0_mayBe_5 : decode cX0_mayBe 5 = .ok (.aload_n 1, 1) := dk_43 (dk_at dksX0_mayBe_0 5 rfl rfl)
theorem dX0_mayBe_6 : decode cX0_mayBe 6 = .ok (.getfield 195, 3) := dk_180 0 195 (dk_at dksX0_mayBe_0 6 rfl rfl)
theorem dX0_mayBe_9 : decode cX0_mayBe 9 = .ok (.ifCond .ne 19, 3) := dk_154 0 19 (dk_at dksX0_mayBe_0 9 rfl rfl)
theorem dX0_mayBe_12 : decode cX0_mayBe 12 = .ok (.aload_n 1, 1) := dk_43 (dk_at dksX0_mayBe_0 12 rfl rfl)
theorem dX0_mayBe_13 : decode cX0_mayBe 13 = .ok (.invokevirtual 52, 3) := dk_182 0 52 (dk_at dksX0_mayBe_0 13 rfl rfl)
theorem dX0_mayBe_16 : decode cX0_mayBe 16 = .ok (.iconst 1, 1) := dk_4 (dk_at dksX0_mayBe_0 16 rfl rfl)
theorem dX0_mayBe_17 : decode cX0_mayBe 17 = .ok (.if_icmp .eq 11, 3) := dk_159 0 11 (dk_at dksX0_mayBe_0 17 rfl rfl)
theorem dX0_mayBe_20 : decode cX0_mayBe 20 = .ok (.aload_n 0, 1) := dk_42 (dk_at dksX0_mayBe_0 20 rfl rfl)
theorem dX0_mayBe_21 : decode cX0_mayBe 21 = .ok (.getfield 198, 3) := dk_180 0 198 (dk_at dksX0_mayBe_0 21 rfl rfl)
theorem dX0_mayBe_24 : decode cX0_mayBe 24 = .ok (.aload_n 3, 1) := dk_45 (dk_at dksX0_mayBe_1 0 rfl rfl)
theorem dX0_mayBe_25 : decode cX0_mayBe 25 = .ok (.if_acmp .ne 5, 3) := dk_166 0 5 (dk_at dksX0_mayBe_1 1 rfl rfl)
theorem dX0_mayBe_28 : decode cX0_mayBe 28 = .ok (.iconst 1, 1) := dk_4 (dk_at dksX0_mayBe_1 4 rfl rfl)
theorem dX0_mayBe_29 : decode cX0_mayBe 29 = .ok (.ireturn, 1) := dk_172 (dk_at dksX0_mayBe_1 5 rfl rfl)
theorem dX0_mayBe_30 : decode cX0_mayBe 30 = .ok (.aload_n 1, 1) := dk_43 (dk_at dksX0_mayBe_1 6 rfl rfl)
theorem dX0_mayBe_31 : decode cX0_mayBe 31 = .ok (.invokevirtual 201, 3) := dk_182 0 201 (dk_at dksX0_mayBe_1 7 rfl rfl)
theorem dX0_mayBe_34 : decode cX0_mayBe 34 = .ok (.ifCond .eq 5, 3) := dk_153 0 5 (dk_at dksX0_mayBe_1 10 rfl rfl)
theorem dX0_mayBe_37 : decode cX0_mayBe 37 = .ok (.iconst 0, 1) := dk_3 (dk_at dksX0_mayBe_1 13 rfl rfl)
theorem dX0_mayBe_38 : decode cX0_mayBe 38 = .ok (.ireturn, 1) := dk_172 (dk_at dksX0_mayBe_1 14 rfl rfl)
theorem dX0_mayBe_39 : decode cX0_mayBe 39 = .ok (.aload_n 1, 1) := dk_43 (dk_at dksX0_mayBe_1 15 rfl rfl)
theorem dX0_mayBe_40 : decode cX0_mayBe 40 = .ok (.iconst 4, 1) := dk_7 (dk_at dksX0_mayBe_1 16 rfl rfl)
theorem dX0_mayBe_41 : decode cX0_mayBe 41 = .ok (.invokevirtual 55, 3) := dk_182 0 55 (dk_at dksX0_mayBe_1 17 rfl rfl)
theorem dX0_mayBe_44 : decode cX0_mayBe 44 = .ok (.ifCond .ne 24, 3) := dk_154 0 24 (dk_at dksX0_mayBe_1 20 rfl rfl)
theorem dX0_mayBe_47 : decode cX0_mayBe 47 = .ok (.aload_n 2, 1) := dk_44 (dk_at dksX0_mayBe_1 23 rfl rfl)
theorem dX0_mayBe_48 : decode cX0_mayBe 48 = .ok (.instanceof 204, 3) := dk_193 0 204 (dk_at dksX0_mayBe_2 0 rfl rfl)
theorem dX0_mayBe_51 : decode cX0_mayBe 51 = .ok (.ifCond .eq 21, 3) := dk_153 0 21 (dk_at dksX0_mayBe_2 3 rfl rfl)
theorem dX0_mayBe_54 : decode cX0_mayBe 54 = .ok (.aload_n 2, 1) := dk_44 (dk_at dksX0_mayBe_2 6 rfl rfl)
theorem dX0_mayBe_55 : decode cX0_mayBe 55 = .ok (.getfield 192, 3) := dk_180 0 192 (dk_at dksX0_mayBe_2 7 rfl rfl)
theorem dX0_mayBe_58 : decode cX0_mayBe 58 = .ok (.aload_n 0, 1) := dk_42 (dk_at dksX0_mayBe_2 10 rfl rfl)
theorem dX0_mayBe_59 : decode cX0_mayBe 59 = .ok (.getfield 198, 3) := dk_180 0 198 (dk_at dksX0_mayBe_2 11 rfl rfl)
theorem dX0_mayBe_62 : decode cX0_mayBe 62 = .ok (.invokevirtual 184, 3) := dk_182 0 184 (dk_at dksX0_mayBe_2 14 rfl rfl)
theorem dX0_mayBe_65 : decode cX0_mayBe 65 = .ok (.ifCond .eq 7, 3) := dk_153 0 7 (dk_at dksX0_mayBe_2 17 rfl rfl)
theorem dX0_mayBe_68 : decode cX0_mayBe 68 = .ok (.iconst 1, 1) := dk_4 (dk_at dksX0_mayBe_2 20 rfl rfl)
theorem dX0_mayBe_69 : decode cX0_mayBe 69 = .ok (.goto 4, 3) := dk_167 0 4 (dk_at dksX0_mayBe_2 21 rfl rfl)
theorem dX0_mayBe_72 : decode cX0_mayBe 72 = .ok (.iconst 0, 1) := dk_3 (dk_at dksX0_mayBe_3 0 rfl rfl)
theorem dX0_mayBe_73 : decode cX0_mayBe 73 = .ok (.istore 4, 2) := dk_54 4 (dk_at dksX0_mayBe_3 1 rfl rfl)
theorem dX0_mayBe_75 : decode cX0_mayBe 75 = .ok (.aload_n 0, 1) := dk_42 (dk_at dksX0_mayBe_3 3 rfl rfl)
theorem dX0_mayBe_76 : decode cX0_mayBe 76 = .ok (.getfield 198, 3) := dk_180 0 198 (dk_at dksX0_mayBe_3 4 rfl rfl)
theorem dX0_mayBe_79 : decode cX0_mayBe 79 = .ok (.getfield 206, 3) := dk_180 0 206 (dk_at dksX0_mayBe_3 7 rfl rfl)
theorem dX0_mayBe_82 : decode cX0_mayBe 82 = .ok (.aload_n 3, 1) := dk_45 (dk_at dksX0_mayBe_3 10 rfl rfl)
theorem dX0_mayBe_83 : decode cX0_mayBe 83 = .ok (.getfield 206, 3) := dk_180 0 206 (dk_at dksX0_mayBe_3 11 rfl rfl)
theorem dX0_mayBe_86 : decode cX0_mayBe 86 = .ok (.if_icmp .eq 27, 3) := dk_159 0 27 (dk_at dksX0_mayBe_3 14 rfl rfl)
theorem dX0_mayBe_89 : decode cX0_mayBe 89 = .ok (.aload_n 1, 1) := dk_43 (dk_at dksX0_mayBe_3 17 rfl rfl)
theorem dX0_mayBe_90 : decode cX0_mayBe 90 = .ok (.invokevirtual 52, 3) := dk_182 0 52 (dk_at dksX0_mayBe_3 18 rfl rfl)
theorem dX0_mayBe_93 : decode cX0_mayBe 93 = .ok (.iconst 3, 1) := dk_6 (dk_at dksX0_mayBe_3 21 rfl rfl)
theorem dX0_mayBe_94 : decode cX0_mayBe 94 = .ok (.if_icmp .ne 23, 3) := dk_160 0 23 (dk_at dksX0_mayBe_4 0 rfl rfl)
theorem dX0_mayBe_97 : decode cX0_mayBe 97 = .ok (.aload_n 0, 1) := dk_42 (dk_at dksX0_mayBe_4 3 rfl rfl)
theorem dX0_mayBe_98 : decode cX0_mayBe 98 = .ok (.getfield 198, 3) := dk_180 0 198 (dk_at dksX0_mayBe_4 4 rfl rfl)
theorem dX0_mayBe_101 : decode cX0_mayBe 101 = .ok (.aload_n 3, 1) := dk_45 (dk_at dksX0_mayBe_4 7 rfl rfl)
theorem dX0_mayBe_102 : decode cX0_mayBe 102 = .ok (.invokevirtual 184, 3) := dk_182 0 184 (dk_at dksX0_mayBe_4 8 rfl rfl)
theorem dX0_mayBe_105 : decode cX0_mayBe 105 = .ok (.ifCond .eq 12, 3) := dk_153 0 12 (dk_at dksX0_mayBe_4 11 rfl rfl)
theorem dX0_mayBe_108 : decode cX0_mayBe 108 = .ok (.iload 4, 2) := dk_21 4 (dk_at dksX0_mayBe_4 14 rfl rfl)
theorem dX0_mayBe_110 : decode cX0_mayBe 110 = .ok (.ifCond .eq 7, 3) := dk_153 0 7 (dk_at dksX0_mayBe_4 16 rfl rfl)
theorem dX0_mayBe_113 : decode cX0_mayBe 113 = .ok (.iconst 1, 1) := dk_4 (dk_at dksX0_mayBe_4 19 rfl rfl)
theorem dX0_mayBe_114 : decode cX0_mayBe 114 = .ok (.goto 4, 3) := dk_167 0 4 (dk_at dksX0_mayBe_4 20 rfl rfl)
theorem dX0_mayBe_117 : decode cX0_mayBe 117 = .ok (.iconst 0, 1) := dk_3 (dk_at dksX0_mayBe_4 23 rfl rfl)
theorem dX0_mayBe_118 : decode cX0_mayBe 118 = .ok (.ireturn, 1) := dk_172 (dk_at dksX0_mayBe_5 0 rfl rfl)
abbrev cX0_object : ByteArray := prog_1_method_59_code
def yX0_object : MethodName := ⟨RX0, "object", "(I)I"⟩
def dkwX0_object_6 : List UInt8 := [182, 1, 129, 172]
abbrev dktX0_object_6 : List UInt8 := dkwX0_object_6 ++ []
def dkwX0_object_5 : List UInt8 := [44, 180, 0, 218, 29, 25, 4, 180, 0, 246, 4, 182, 1, 123, 83, 132, 3, 1, 167, 255, 190, 42, 44]
abbrev dktX0_object_5 : List UInt8 := dkwX0_object_5 ++ dktX0_object_6
def dkwX0_object_4 : List UInt8 := [25, 4, 7, 182, 0, 55, 154, 0, 33, 44, 180, 1, 35, 25, 4, 180, 0, 24, 182, 0, 184, 153, 0, 18]
abbrev dktX0_object_4 : List UInt8 := dkwX0_object_4 ++ dktX0_object_5
def dkwX0_object_3 : List UInt8 := [42, 180, 0, 17, 162, 0, 64, 42, 180, 0, 20, 29, 50, 58, 4, 25, 4, 180, 0, 30, 153, 0, 42]
abbrev dktX0_object_3 : List UInt8 := dkwX0_object_3 ++ dktX0_object_4
def dkwX0_object_2 : List UInt8 := [16, 239, 172, 187, 0, 204, 89, 42, 180, 1, 120, 42, 180, 0, 7, 27, 50, 183, 2, 71, 77, 3, 62, 29]
abbrev dktX0_object_2 : List UInt8 := dkwX0_object_2 ++ dktX0_object_3
def dkwX0_object_1 : List UInt8 := [180, 1, 120, 16, 80, 160, 0, 6, 16, 253, 172, 42, 180, 0, 7, 27, 50, 182, 0, 41, 5, 160, 0, 6]
abbrev dktX0_object_1 : List UInt8 := dkwX0_object_1 ++ dktX0_object_2
def dkwX0_object_0 : List UInt8 := [42, 27, 182, 1, 173, 153, 0, 15, 42, 180, 0, 7, 27, 50, 182, 1, 176, 154, 0, 5, 2, 172, 42]
abbrev dktX0_object_0 : List UInt8 := dkwX0_object_0 ++ dktX0_object_1
theorem dksX0_object_0 : cX0_object.data.toList.drop 0 = dktX0_object_0 := by decide +kernel
theorem dksX0_object_1 : cX0_object.data.toList.drop 23 = dktX0_object_1 := dk_seg dksX0_object_0 23 rfl rfl
theorem dksX0_object_2 : cX0_object.data.toList.drop 47 = dktX0_object_2 := dk_seg dksX0_object_1 24 rfl rfl
theorem dksX0_object_3 : cX0_object.data.toList.drop 71 = dktX0_object_3 := dk_seg dksX0_object_2 24 rfl rfl
theorem dksX0_object_4 : cX0_object.data.toList.drop 94 = dktX0_object_4 := dk_seg dksX0_object_3 23 rfl rfl
theorem dksX0_object_5 : cX0_object.data.toList.drop 118 = dktX0_object_5 := dk_seg dksX0_object_4 24 rfl rfl
theorem dksX0_object_6 : cX0_object.data.toList.drop 141 = dktX0_object_6 := dk_seg dksX0_object_5 23 rfl rfl
theorem dX0_object_0 : decode cX0_object 0 = .ok (.aload_n 0, 1) := dk_42 (dk_at dksX0_object_0 0 rfl rfl)
theorem dX0_object_1 : decode cX0_object 1 = .ok (.iload_n 1, 1) := dk_27 (dk_at dksX0_object_0 1 rfl rfl)
theorem dX0_object_2 : decode cX0_object 2 = .ok (.invokevirtual 429, 3) := dk_182 1 173 (dk_at dksX0_object_0 2 rfl rfl)
theorem dX0_object_5 : decode cX0_object 5 = .ok (.ifCond .eq 15, 3) := dk_153 0 15 (dk_at dksX0_object_0 5 rfl rfl)
theorem dX0_object_8 : decode cX0_object 8 = .ok (.aload_n 0, 1) := dk_42 (dk_at dksX0_object_0 8 rfl rfl)
theorem dX0_object_9 : decode cX0_object 9 = .ok (.getfield 7, 3) := dk_180 0 7 (dk_at dksX0_object_0 9 rfl rfl)
theorem dX0_object_12 : decode cX0_object 12 = .ok (.iload_n 1, 1) := dk_27 (dk_at dksX0_object_0 12 rfl rfl)
theorem dX0_object_13 : decode cX0_object 13 = .ok (.aaload, 1) := dk_50 (dk_at dksX0_object_0 13 rfl rfl)
theorem dX0_object_14 : decode cX0_object 14 = .ok (.invokevirtual 432, 3) := dk_182 1 176 (dk_at dksX0_object_0 14 rfl rfl)
theorem dX0_object_17 : decode cX0_object 17 = .ok (.ifCond .ne 5, 3) := dk_154 0 5 (dk_at dksX0_object_0 17 rfl rfl)
theorem dX0_object_20 : decode cX0_object 20 = .ok (.iconst (-1), 1) := dk_2 (dk_at dksX0_object_0 20 rfl rfl)
theorem dX0_object_21 : decode cX0_object 21 = .ok (.ireturn, 1) := dk_172 (dk_at dksX0_object_0 21 rfl rfl)
theorem dX0_object_22 : decode cX0_object 22 = .ok (.aload_n 0, 1) := dk_42 (dk_at dksX0_object_0 22 rfl rfl)
theorem dX0_object_23 : decode cX0_object 23 = .ok (.getfield 376, 3) := dk_180 1 120 (dk_at dksX0_object_1 0 rfl rfl)
theorem dX0_object_26 : decode cX0_object 26 = .ok (.bipush 80, 2) := dk_16 80 (dk_at dksX0_object_1 3 rfl rfl)
theorem dX0_object_28 : decode cX0_object 28 = .ok (.if_icmp .ne 6, 3) := dk_160 0 6 (dk_at dksX0_object_1 5 rfl rfl)
theorem dX0_object_31 : decode cX0_object 31 = .ok (.bipush (-3), 2) := dk_16 253 (dk_at dksX0_object_1 8 rfl rfl)
theorem dX0_object_33 : decode cX0_object 33 = .ok (.ireturn, 1) := dk_172 (dk_at dksX0_object_1 10 rfl rfl)
theorem dX0_object_34 : decode cX0_object 34 = .ok (.aload_n 0, 1) := dk_42 (dk_at dksX0_object_1 11 rfl rfl)
theorem dX0_object_35 : decode cX0_object 35 = .ok (.getfield 7, 3) := dk_180 0 7 (dk_at dksX0_object_1 12 rfl rfl)
theorem dX0_object_38 : decode cX0_object 38 = .ok (.iload_n 1, 1) := dk_27 (dk_at dksX0_object_1 15 rfl rfl)
theorem dX0_object_39 : decode cX0_object 39 = .ok (.aaload, 1) := dk_50 (dk_at dksX0_object_1 16 rfl rfl)
theorem dX0_object_40 : decode cX0_object 40 = .ok (.invokevirtual 41, 3) := dk_182 0 41 (dk_at dksX0_object_1 17 rfl rfl)
theorem dX0_object_43 : decode cX0_object 43 = .ok (.iconst 2, 1) := dk_5 (dk_at dksX0_object_1 20 rfl rfl)
theorem dX0_object_44 : decode cX0_object 44 = .ok (.if_icmp .ne 6, 3) := dk_160 0 6 (dk_at dksX0_object_1 21 rfl rfl)
theorem dX0_object_47 : decode cX0_object 47 = .ok (.bipush (-17), 2) := dk_16 239 (dk_at dksX0_object_2 0 rfl rfl)
theorem dX0_object_49 : decode cX0_object 49 = .ok (.ireturn, 1) := dk_172 (dk_at dksX0_object_2 2 rfl rfl)
theorem dX0_object_50 : decode cX0_object 50 = .ok (.new 204, 3) := dk_187 0 204 (dk_at dksX0_object_2 3 rfl rfl)
theorem dX0_object_53 : decode cX0_object 53 = .ok (.dup, 1) := dk_89 (dk_at dksX0_object_2 6 rfl rfl)
theorem dX0_object_54 : decode cX0_object 54 = .ok (.aload_n 0, 1) := dk_42 (dk_at dksX0_object_2 7 rfl rfl)
theorem dX0_object_55 : decode cX0_object 55 = .ok (.getfield 376, 3) := dk_180 1 120 (dk_at dksX0_object_2 8 rfl rfl)
theorem dX0_object_58 : decode cX0_object 58 = .ok (.aload_n 0, 1) := dk_42 (dk_at dksX0_object_2 11 rfl rfl)
theorem dX0_object_59 : decode cX0_object 59 = .ok (.getfield 7, 3) := dk_180 0 7 (dk_at dksX0_object_2 12 rfl rfl)
theorem dX0_object_62 : decode cX0_object 62 = .ok (.iload_n 1, 1) := dk_27 (dk_at dksX0_object_2 15 rfl rfl)
theorem dX0_object_63 : decode cX0_object 63 = .ok (.aaload, 1) := dk_50 (dk_at dksX0_object_2 16 rfl rfl)
theorem dX0_object_64 : decode cX0_object 64 = .ok (.invokespecial 583, 3) := dk_183 2 71 (dk_at dksX0_object_2 17 rfl rfl)
theorem dX0_object_67 : decode cX0_object 67 = .ok (.astore_n 2, 1) := dk_77 (dk_at dksX0_object_2 20 rfl rfl)
theorem dX0_object_68 : decode cX0_object 68 = .ok (.iconst 0, 1) := dk_3 (dk_at dksX0_object_2 21 rfl rfl)
theorem dX0_object_69 : decode cX0_object 69 = .ok (.istore_n 3, 1) := dk_62 (dk_at dksX0_object_2 22 rfl rfl)
theorem dX0_object_70 : decode cX0_object 70 = .ok (.iload_n 3, 1) := dk_29 (dk_at dksX0_object_2 23 rfl rfl)
theorem dX0_object_71 : decode cX0_object 71 = .ok (.aload_n 0, 1) := dk_42 (dk_at dksX0_object_3 0 rfl rfl)
theorem dX0_object_72 : decode cX0_object 72 = .ok (.getfield 17, 3) := dk_180 0 17 (dk_at dksX0_object_3 1 rfl rfl)
theorem dX0_object_75 : decode cX0_object 75 = .ok (.if_icmp .ge 64, 3) := dk_162 0 64 (dk_at dksX0_object_3 4 rfl rfl)
theorem dX0_object_78 : decode cX0_object 78 = .ok (.aload_n 0, 1) := dk_42 (dk_at dksX0_object_3 7 rfl rfl)
theorem dX0_object_79 : decode cX0_object 79 = .ok (.getfield 20, 3) := dk_180 0 20 (dk_at dksX0_object_3 8 rfl rfl)
theorem dX0_object_82 : decode cX0_object 82 = .ok (.iload_n 3, 1) := dk_29 (dk_at dksX0_object_3 11 rfl rfl)
theorem dX0_object_83 : decode cX0_object 83 = .ok (.aaload, 1) := dk_50 (dk_at dksX0_object_3 12 rfl rfl)
theorem dX0_object_84 : decode cX0_object 84 = .ok (.astore 4, 2) := dk_58 4 (dk_at dksX0_object_3 13 rfl rfl)
theorem dX0_object_86 : decode cX0_object 86 = .ok (.aload 4, 2) := dk_25 4 (dk_at dksX0_object_3 15 rfl rfl)
theorem dX0_object_88 : decode cX0_object 88 = .ok (.getfield 30, 3) := dk_180 0 30 (dk_at dksX0_object_3 17 rfl rfl)
theorem dX0_object_91 : decode cX0_object 91 = .ok (.ifCond .eq 42, 3) := dk_153 0 42 (dk_at dksX0_object_3 20 rfl rfl)
theorem dX0_object_94 : decode cX0_object 94 = .ok (.aload 4, 2) := dk_25 4 (dk_at dksX0_object_4 0 rfl rfl)
theorem dX0_object_96 : decode cX0_object 96 = .ok (.iconst 4, 1) := dk_7 (dk_at dksX0_object_4 2 rfl rfl)
theorem dX0_object_97 : decode cX0_object 97 = .ok (.invokevirtual 55, 3) := dk_182 0 55 (dk_at dksX0_object_4 3 rfl rfl)
theorem dX0_object_100 : decode cX0_object 100 = .ok (.ifCond .ne 33, 3) := dk_154 0 33 (dk_at dksX0_object_4 6 rfl rfl)
theorem dX0_object_103 : decode cX0_object 103 = .ok (.aload_n 2, 1) := dk_44 (dk_at dksX0_object_4 9 rfl rfl)
theorem dX0_object_104 : decode cX0_object 104 = .ok (.getfield 291, 3) := dk_180 1 35 (dk_at dksX0_object_4 10 rfl rfl)
theorem dX0_object_107 : decode cX0_object 107 = .ok (.aload 4, 2) := dk_25 4 (dk_at dksX0_object_4 13 rfl rfl)
theorem dX0_object_109 : decode cX0_object 109 = .ok (.getfield 24, 3) := dk_180 0 24 (dk_at dksX0_object_4 15 rfl rfl)
theorem dX0_object_112 : decode cX0_object 112 = .ok (.invokevirtual 184, 3) := dk_182 0 184 (dk_at dksX0_object_4 18 rfl rfl)
theorem dX0_object_115 : decode cX0_object 115 = .ok (.ifCond .eq 18, 3) := dk_153 0 18 (dk_at dksX0_object_4 21 rfl rfl)
theorem dX0_object_118 : decode cX0_object 118 = .ok (.aload_n 2, 1) := dk_44 (dk_at dksX0_object_5 0 rfl rfl)
theorem dX0_object_119 : decode cX0_object 119 = .ok (.getfield 218, 3) := dk_180 0 218 (dk_at dksX0_object_5 1 rfl rfl)
theorem dX0_object_122 : decode cX0_object 122 = .ok (.iload_n 3, 1) := dk_29 (dk_at dksX0_object_5 4 rfl rfl)
theorem dX0_object_123 : decode cX0_object 123 = .ok (.aload 4, 2) := dk_25 4 (dk_at dksX0_object_5 5 rfl rfl)
theorem dX0_object_125 : decode cX0_object 125 = .ok (.getfield 246, 3) := dk_180 0 246 (dk_at dksX0_object_5 7 rfl rfl)
theorem dX0_object_128 : decode cX0_object 128 = .ok (.iconst 1, 1) := dk_4 (dk_at dksX0_object_5 10 rfl rfl)
theorem dX0_object_129 : decode cX0_object 129 = .ok (.invokevirtual 379, 3) := dk_182 1 123 (dk_at dksX0_object_5 11 rfl rfl)
theorem dX0_object_132 : decode cX0_object 132 = .ok (.aastore, 1) := dk_83 (dk_at dksX0_object_5 14 rfl rfl)
theorem dX0_object_133 : decode cX0_object 133 = .ok (.iinc 3 1, 3) := dk_132 3 1 (dk_at dksX0_object_5 15 rfl rfl)
theorem dX0_object_136 : decode cX0_object 136 = .ok (.goto (-66), 3) := dk_167 255 190 (dk_at dksX0_object_5 18 rfl rfl)
theorem dX0_object_139 : decode cX0_object 139 = .ok (.aload_n 0, 1) := dk_42 (dk_at dksX0_object_5 21 rfl rfl)
theorem dX0_object_140 : decode cX0_object 140 = .ok (.aload_n 2, 1) := dk_44 (dk_at dksX0_object_5 22 rfl rfl)
theorem dX0_object_141 : decode cX0_object 141 = .ok (.invokevirtual 385, 3) := dk_182 1 129 (dk_at dksX0_object_6 0 rfl rfl)
theorem dX0_object_144 : decode cX0_object 144 = .ok (.ireturn, 1) := dk_172 (dk_at dksX0_object_6 3 rfl rfl)
abbrev cX0_add_2 : ByteArray := prog_1_method_26_code
def yX0_add_2 : MethodName := ⟨RX0, "add", "(LReflectMirror$Thing;)I"⟩
def dkwX0_add_2_1 : List UInt8 := [172]
abbrev dktX0_add_2_1 : List UInt8 := dkwX0_add_2_1 ++ []
def dkwX0_add_2_0 : List UInt8 := [42, 180, 1, 144, 42, 180, 1, 120, 43, 83, 42, 89, 180, 1, 120, 4, 96, 181, 1, 120, 43, 182, 1, 147]
abbrev dktX0_add_2_0 : List UInt8 := dkwX0_add_2_0 ++ dktX0_add_2_1
theorem dksX0_add_2_0 : cX0_add_2.data.toList.drop 0 = dktX0_add_2_0 := by decide +kernel
theorem dksX0_add_2_1 : cX0_add_2.data.toList.drop 24 = dktX0_add_2_1 := dk_seg dksX0_add_2_0 24 rfl rfl
theorem dX0_add_2_0 : decode cX0_add_2 0 = .ok (.aload_n 0, 1) := dk_42 (dk_at dksX0_add_2_0 0 rfl rfl)
theorem dX0_add_2_1 : decode cX0_add_2 1 = .ok (.getfield 400, 3) := dk_180 1 144 (dk_at dksX0_add_2_0 1 rfl rfl)
theorem dX0_add_2_4 : decode cX0_add_2 4 = .ok (.aload_n 0, 1) := dk_42 (dk_at dksX0_add_2_0 4 rfl rfl)
theorem dX0_add_2_5 : decode cX0_add_2 5 = .ok (.getfield 376, 3) := dk_180 1 120 (dk_at dksX0_add_2_0 5 rfl rfl)
theorem dX0_add_2_8 : decode cX0_add_2 8 = .ok (.aload_n 1, 1) := dk_43 (dk_at dksX0_add_2_0 8 rfl rfl)
theorem dX0_add_2_9 : decode cX0_add_2 9 = .ok (.aastore, 1) := dk_83 (dk_at dksX0_add_2_0 9 rfl rfl)
theorem dX0_add_2_10 : decode cX0_add_2 10 = .ok (.aload_n 0, 1) := dk_42 (dk_at dksX0_add_2_0 10 rfl rfl)
theorem dX0_add_2_11 : decode cX0_add_2 11 = .ok (.dup, 1) := dk_89 (dk_at dksX0_add_2_0 11 rfl rfl)
theorem dX0_add_2_12 : decode cX0_add_2 12 = .ok (.getfield 376, 3) := dk_180 1 120 (dk_at dksX0_add_2_0 12 rfl rfl)
theorem dX0_add_2_15 : decode cX0_add_2 15 = .ok (.iconst 1, 1) := dk_4 (dk_at dksX0_add_2_0 15 rfl rfl)
theorem dX0_add_2_16 : decode cX0_add_2 16 = .ok (.iadd, 1) := dk_96 (dk_at dksX0_add_2_0 16 rfl rfl)
theorem dX0_add_2_17 : decode cX0_add_2 17 = .ok (.putfield 376, 3) := dk_181 1 120 (dk_at dksX0_add_2_0 17 rfl rfl)
theorem dX0_add_2_20 : decode cX0_add_2 20 = .ok (.aload_n 1, 1) := dk_43 (dk_at dksX0_add_2_0 20 rfl rfl)
theorem dX0_add_2_21 : decode cX0_add_2 21 = .ok (.invokevirtual 403, 3) := dk_182 1 147 (dk_at dksX0_add_2_0 21 rfl rfl)
theorem dX0_add_2_24 : decode cX0_add_2 24 = .ok (.ireturn, 1) := dk_172 (dk_at dksX0_add_2_1 0 rfl rfl)
abbrev cX0_row : ByteArray := prog_1_method_60_code
def yX0_row : MethodName := ⟨RX0, "row", "(II)I"⟩
def dkwX0_row_2 : List UInt8 := [3, 3, 3, 182, 2, 74, 172]
abbrev dktX0_row_2 : List UInt8 := dkwX0_row_2 ++ []
def dkwX0_row_1 : List UInt8 := [164, 0, 5, 2, 172, 42, 180, 1, 120, 16, 80, 160, 0, 8, 16, 253, 167, 0, 14, 42, 16, 7, 27, 28]
abbrev dktX0_row_1 : List UInt8 := dkwX0_row_1 ++ dktX0_row_2
def dkwX0_row_0 : List UInt8 := [42, 27, 182, 1, 173, 153, 0, 21, 42, 180, 0, 7, 27, 50, 182, 1, 8, 198, 0, 9, 28, 16, 20]
abbrev dktX0_row_0 : List UInt8 := dkwX0_row_0 ++ dktX0_row_1
theorem dksX0_row_0 : cX0_row.data.toList.drop 0 = dktX0_row_0 := by decide +kernel
theorem dksX0_row_1 : cX0_row.data.toList.drop 23 = dktX0_row_1 := dk_seg dksX0_row_0 23 rfl rfl
theorem dksX0_row_2 : cX0_row.data.toList.drop 47 = dktX0_row_2 := dk_seg dksX0_row_1 24 rfl rfl
theorem dX0_row_0 : decode cX0_row 0 = .ok (.aload_n 0, 1) := dk_42 (dk_at dksX0_row_0 0 rfl rfl)
theorem dX0_row_1 : decode cX0_row 1 = .ok (.iload_n 1, 1) := dk_27 (dk_at dksX0_row_0 1 rfl rfl)
theorem dX0_row_2 : decode cX0_row 2 = .ok (.invokevirtual 429, 3) := dk_182 1 173 (dk_at dksX0_row_0 2 rfl rfl)
theorem dX0_row_5 : decode cX0_row 5 = .ok (.ifCond .eq 21, 3) := dk_153 0 21 (dk_at dksX0_row_0 5 rfl rfl)
theorem dX0_row_8 : decode cX0_row 8 = .ok (.aload_n 0, 1) := dk_42 (dk_at dksX0_row_0 8 rfl rfl)
theorem dX0_row_9 : decode cX0_row 9 = .ok (.getfield 7, 3) := dk_180 0 7 (dk_at dksX0_row_0 9 rfl rfl)
theorem dX0_row_12 : decode cX0_row 12 = .ok (.iload_n 1, 1) := dk_27 (dk_at dksX0_row_0 12 rfl rfl)
theorem dX0_row_13 : decode cX0_row 13 = .ok (.aaload, 1) := dk_50 (dk_at dksX0_row_0 13 rfl rfl)
theorem dX0_row_14 : decode cX0_row 14 = .ok (.invokevirtual 264, 3) := dk_182 1 8 (dk_at dksX0_row_0 14 rfl rfl)
theorem dX0_row_17 : decode cX0_row 17 = .ok (.ifnull 9, 3) := dk_198 0 9 (dk_at dksX0_row_0 17 rfl rfl)
theorem dX0_row_20 : decode cX0_row 20 = .ok (.iload_n 2, 1) := dk_28 (dk_at dksX0_row_0 20 rfl rfl)
theorem dX0_row_21 : decode cX0_row 21 = .ok (.bipush 20, 2) := dk_16 20 (dk_at dksX0_row_0 21 rfl rfl)
theorem dX0_row_23 : decode cX0_row 23 = .ok (.if_icmp .le 5, 3) := dk_164 0 5 (dk_at dksX0_row_1 0 rfl rfl)
theorem dX0_row_26 : decode cX0_row 26 = .ok (.iconst (-1), 1) := dk_2 (dk_at dksX0_row_1 3 rfl rfl)
theorem dX0_row_27 : decode cX0_row 27 = .ok (.ireturn, 1) := dk_172 (dk_at dksX0_row_1 4 rfl rfl)
theorem dX0_row_28 : decode cX0_row 28 = .ok (.aload_n 0, 1) := dk_42 (dk_at dksX0_row_1 5 rfl rfl)
theorem dX0_row_29 : decode cX0_row 29 = .ok (.getfield 376, 3) := dk_180 1 120 (dk_at dksX0_row_1 6 rfl rfl)
theorem dX0_row_32 : decode cX0_row 32 = .ok (.bipush 80, 2) := dk_16 80 (dk_at dksX0_row_1 9 rfl rfl)
theorem dX0_row_34 : decode cX0_row 34 = .ok (.if_icmp .ne 8, 3) := dk_160 0 8 (dk_at dksX0_row_1 11 rfl rfl)
theorem dX0_row_37 : decode cX0_row 37 = .ok (.bipush (-3), 2) := dk_16 253 (dk_at dksX0_row_1 14 rfl rfl)
theorem dX0_row_39 : decode cX0_row 39 = .ok (.goto 14, 3) := dk_167 0 14 (dk_at dksX0_row_1 16 rfl rfl)
theorem dX0_row_42 : decode cX0_row 42 = .ok (.aload_n 0, 1) := dk_42 (dk_at dksX0_row_1 19 rfl rfl)
theorem dX0_row_43 : decode cX0_row 43 = .ok (.bipush 7, 2) := dk_16 7 (dk_at dksX0_row_1 20 rfl rfl)
theorem dX0_row_45 : decode cX0_row 45 = .ok (.iload_n 1, 1) := dk_27 (dk_at dksX0_row_1 22 rfl rfl)
theorem dX0_row_46 : decode cX0_row 46 = .ok (.iload_n 2, 1) := dk_28 (dk_at dksX0_row_1 23 rfl rfl)
theorem dX0_row_47 : decode cX0_row 47 = .ok (.iconst 0, 1) := dk_3 (dk_at dksX0_row_2 0 rfl rfl)
theorem dX0_row_48 : decode cX0_row 48 = .ok (.iconst 0, 1) := dk_3 (dk_at dksX0_row_2 1 rfl rfl)
theorem dX0_row_49 : decode cX0_row 49 = .ok (.iconst 0, 1) := dk_3 (dk_at dksX0_row_2 2 rfl rfl)
theorem dX0_row_50 : decode cX0_row 50 = .ok (.invokevirtual 586, 3) := dk_182 2 74 (dk_at dksX0_row_2 3 rfl rfl)
theorem dX0_row_53 : decode cX0_row 53 = .ok (.ireturn, 1) := dk_172 (dk_at dksX0_row_2 6 rfl rfl)
abbrev cX0_act : ByteArray := prog_1_method_24_code
def yX0_act : MethodName := ⟨RX0, "act", "(IIIIII)I"⟩
def dkwX0_act_3 : List UInt8 := [16, 241, 172, 58, 7, 16, 238, 172]
abbrev dktX0_act_3 : List UInt8 := dkwX0_act_3 ++ []
def dkwX0_act_2 : List UInt8 := [172, 58, 7, 16, 245, 172, 58, 7, 16, 244, 172, 58, 7, 16, 243, 172, 58, 7, 16, 242, 172, 58, 7]
abbrev dktX0_act_2 : List UInt8 := dkwX0_act_2 ++ dktX0_act_3
def dkwX0_act_1 : List UInt8 := [160, 0, 13, 42, 180, 1, 137, 182, 1, 43, 167, 0, 4, 3, 54, 8, 16, 246, 25, 7, 180, 1, 72, 100]
abbrev dktX0_act_1 : List UInt8 := dkwX0_act_1 ++ dktX0_act_2
def dkwX0_act_0 : List UInt8 := [42, 27, 28, 29, 21, 4, 21, 5, 21, 6, 182, 1, 133, 172, 58, 7, 25, 7, 180, 1, 72, 16, 9]
abbrev dktX0_act_0 : List UInt8 := dkwX0_act_0 ++ dktX0_act_1
theorem dksX0_act_0 : cX0_act.data.toList.drop 0 = dktX0_act_0 := by decide +kernel
theorem dksX0_act_1 : cX0_act.data.toList.drop 23 = dktX0_act_1 := dk_seg dksX0_act_0 23 rfl rfl
theorem dksX0_act_2 : cX0_act.data.toList.drop 47 = dktX0_act_2 := dk_seg dksX0_act_1 24 rfl rfl
theorem dksX0_act_3 : cX0_act.data.toList.drop 70 = dktX0_act_3 := dk_seg dksX0_act_2 23 rfl rfl
theorem dX0_act_0 : decode cX0_act 0 = .ok (.aload_n 0, 1) := dk_42 (dk_at dksX0_act_0 0 rfl rfl)
theorem dX0_act_1 : decode cX0_act 1 = .ok (.iload_n 1, 1) := dk_27 (dk_at dksX0_act_0 1 rfl rfl)
theorem dX0_act_2 : decode cX0_act 2 = .ok (.iload_n 2, 1) := dk_28 (dk_at dksX0_act_0 2 rfl rfl)
theorem dX0_act_3 : decode cX0_act 3 = .ok (.iload_n 3, 1) := dk_29 (dk_at dksX0_act_0 3 rfl rfl)
theorem dX0_act_4 : decode cX0_act 4 = .ok (.iload 4, 2) := dk_21 4 (dk_at dksX0_act_0 4 rfl rfl)
theorem dX0_act_6 : decode cX0_act 6 = .ok (.iload 5, 2) := dk_21 5 (dk_at dksX0_act_0 6 rfl rfl)
theorem dX0_act_8 : decode cX0_act 8 = .ok (.iload 6, 2) := dk_21 6 (dk_at dksX0_act_0 8 rfl rfl)
theorem dX0_act_10 : decode cX0_act 10 = .ok (.invokevirtual 389, 3) := dk_182 1 133 (dk_at dksX0_act_0 10 rfl rfl)
theorem dX0_act_13 : decode cX0_act 13 = .ok (.ireturn, 1) := dk_172 (dk_at dksX0_act_0 13 rfl rfl)
theorem dX0_act_14 : decode cX0_act 14 = .ok (.astore 7, 2) := dk_58 7 (dk_at dksX0_act_0 14 rfl rfl)
theorem dX0_act_16 : decode cX0_act 16 = .ok (.aload 7, 2) := dk_25 7 (dk_at dksX0_act_0 16 rfl rfl)
theorem dX0_act_18 : decode cX0_act 18 = .ok (.getfield 328, 3) := dk_180 1 72 (dk_at dksX0_act_0 18 rfl rfl)
theorem dX0_act_21 : decode cX0_act 21 = .ok (.bipush 9, 2) := dk_16 9 (dk_at dksX0_act_0 21 rfl rfl)
theorem dX0_act_23 : decode cX0_act 23 = .ok (.if_icmp .ne 13, 3) := dk_160 0 13 (dk_at dksX0_act_1 0 rfl rfl)
theorem dX0_act_26 : decode cX0_act 26 = .ok (.aload_n 0, 1) := dk_42 (dk_at dksX0_act_1 3 rfl rfl)
theorem dX0_act_27 : decode cX0_act 27 = .ok (.getfield 393, 3) := dk_180 1 137 (dk_at dksX0_act_1 4 rfl rfl)
theorem dX0_act_30 : decode cX0_act 30 = .ok (.invokevirtual 299, 3) := dk_182 1 43 (dk_at dksX0_act_1 7 rfl rfl)
theorem dX0_act_33 : decode cX0_act 33 = .ok (.goto 4, 3) := dk_167 0 4 (dk_at dksX0_act_1 10 rfl rfl)
theorem dX0_act_36 : decode cX0_act 36 = .ok (.iconst 0, 1) := dk_3 (dk_at dksX0_act_1 13 rfl rfl)
theorem dX0_act_37 : decode cX0_act 37 = .ok (.istore 8, 2) := dk_54 8 (dk_at dksX0_act_1 14 rfl rfl)
theorem dX0_act_39 : decode cX0_act 39 = .ok (.bipush (-10), 2) := dk_16 246 (dk_at dksX0_act_1 16 rfl rfl)
theorem dX0_act_41 : decode cX0_act 41 = .ok (.aload 7, 2) := dk_25 7 (dk_at dksX0_act_1 18 rfl rfl)
theorem dX0_act_43 : decode cX0_act 43 = .ok (.getfield 328, 3) := dk_180 1 72 (dk_at dksX0_act_1 20 rfl rfl)
theorem dX0_act_46 : decode cX0_act 46 = .ok (.isub, 1) := dk_100 (dk_at dksX0_act_1 23 rfl rfl)
theorem dX0_act_47 : decode cX0_act 47 = .ok (.ireturn, 1) := dk_172 (dk_at dksX0_act_2 0 rfl rfl)
theorem dX0_act_48 : decode cX0_act 48 = .ok (.astore 7, 2) := dk_58 7 (dk_at dksX0_act_2 1 rfl rfl)
theorem dX0_act_50 : decode cX0_act 50 = .ok (.bipush (-11), 2) := dk_16 245 (dk_at dksX0_act_2 3 rfl rfl)
theorem dX0_act_52 : decode cX0_act 52 = .ok (.ireturn, 1) := dk_172 (dk_at dksX0_act_2 5 rfl rfl)
theorem dX0_act_53 : decode cX0_act 53 = .ok (.astore 7, 2) := dk_58 7 (dk_at dksX0_act_2 6 rfl rfl)
theorem dX0_act_55 : decode cX0_act 55 = .ok (.bipush (-12), 2) := dk_16 244 (dk_at dksX0_act_2 8 rfl rfl)
theorem dX0_act_57 : decode cX0_act 57 = .ok (.ireturn, 1) := dk_172 (dk_at dksX0_act_2 10 rfl rfl)
theorem dX0_act_58 : decode cX0_act 58 = .ok (.astore 7, 2) := dk_58 7 (dk_at dksX0_act_2 11 rfl rfl)
theorem dX0_act_60 : decode cX0_act 60 = .ok (.bipush (-13), 2) := dk_16 243 (dk_at dksX0_act_2 13 rfl rfl)
theorem dX0_act_62 : decode cX0_act 62 = .ok (.ireturn, 1) := dk_172 (dk_at dksX0_act_2 15 rfl rfl)
theorem dX0_act_63 : decode cX0_act 63 = .ok (.astore 7, 2) := dk_58 7 (dk_at dksX0_act_2 16 rfl rfl)
theorem dX0_act_65 : decode cX0_act 65 = .ok (.bipush (-14), 2) := dk_16 242 (dk_at dksX0_act_2 18 rfl rfl)
theorem dX0_act_67 : decode cX0_act 67 = .ok (.ireturn, 1) := dk_172 (dk_at dksX0_act_2 20 rfl rfl)
theorem dX0_act_68 : decode cX0_act 68 = .ok (.astore 7, 2) := dk_58 7 (dk_at dksX0_act_2 21 rfl rfl)
theorem dX0_act_70 : decode cX0_act 70 = .ok (.bipush (-15), 2) := dk_16 241 (dk_at dksX0_act_3 0 rfl rfl)
theorem dX0_act_72 : decode cX0_act 72 = .ok (.ireturn, 1) := dk_172 (dk_at dksX0_act_3 2 rfl rfl)
theorem dX0_act_73 : decode cX0_act 73 = .ok (.astore 7, 2) := dk_58 7 (dk_at dksX0_act_3 3 rfl rfl)
theorem dX0_act_75 : decode cX0_act 75 = .ok (.bipush (-18), 2) := dk_16 238 (dk_at dksX0_act_3 5 rfl rfl)
theorem dX0_act_77 : decode cX0_act 77 = .ok (.ireturn, 1) := dk_172 (dk_at dksX0_act_3 7 rfl rfl)
abbrev cX0_does : ByteArray := prog_1_method_23_code
def yX0_does : MethodName := ⟨RX0, "does", "(IIIIII)I"⟩
def dkwX0_does_10 : List UInt8 := [172]
abbrev dktX0_does_10 : List UInt8 := dkwX0_does_10 ++ []
def dkwX0_does_9 : List UInt8 := [180, 0, 7, 28, 50, 42, 180, 0, 7, 28, 50, 182, 1, 8, 29, 182, 1, 123, 183, 1, 126, 182, 1, 129]
abbrev dktX0_does_9 : List UInt8 := dkwX0_does_9 ++ dktX0_does_10
def dkwX0_does_8 : List UInt8 := [21, 4, 42, 180, 1, 83, 21, 5, 50, 182, 1, 117, 4, 172, 42, 187, 1, 1, 89, 42, 180, 1, 120, 42]
abbrev dktX0_does_8 : List UInt8 := dkwX0_does_8 ++ dktX0_does_9
def dkwX0_does_7 : List UInt8 := [182, 1, 91, 21, 5, 21, 6, 182, 1, 113, 4, 172, 42, 42, 180, 0, 20, 28, 50, 42, 29, 182, 1, 91]
abbrev dktX0_does_7 : List UInt8 := dkwX0_does_7 ++ dktX0_does_8
def dkwX0_does_6 : List UInt8 := [29, 42, 180, 1, 83, 21, 4, 50, 182, 1, 110, 4, 172, 42, 42, 28, 182, 1, 91, 29, 42, 21, 4]
abbrev dktX0_does_6 : List UInt8 := dkwX0_does_6 ++ dktX0_does_7
def dkwX0_does_5 : List UInt8 := [42, 28, 182, 1, 91, 29, 42, 180, 1, 83, 21, 4, 50, 182, 1, 106, 4, 172, 42, 42, 28, 182, 1, 91]
abbrev dktX0_does_5 : List UInt8 := dkwX0_does_5 ++ dktX0_does_6
def dkwX0_does_4 : List UInt8 := [4, 172, 42, 42, 28, 182, 1, 91, 29, 21, 4, 42, 180, 1, 83, 21, 5, 50, 182, 1, 102, 4, 172, 42]
abbrev dktX0_does_4 : List UInt8 := dkwX0_does_4 ++ dktX0_does_5
def dkwX0_does_3 : List UInt8 := [4, 172, 42, 42, 180, 0, 20, 28, 50, 42, 29, 182, 1, 91, 42, 180, 1, 83, 21, 4, 50, 182, 1, 99]
abbrev dktX0_does_3 : List UInt8 := dkwX0_does_3 ++ dktX0_does_4
def dkwX0_does_2 : List UInt8 := [42, 42, 180, 0, 20, 28, 50, 42, 29, 182, 1, 91, 21, 4, 42, 180, 1, 83, 21, 5, 50, 182, 1, 95]
abbrev dktX0_does_2 : List UInt8 := dkwX0_does_2 ++ dktX0_does_3
def dkwX0_does_1 : List UInt8 := [170, 0, 0, 0, 0, 0, 200, 0, 0, 0, 0, 0, 0, 0, 6, 0, 0, 0, 43, 0, 0, 0, 69, 0, 0, 0, 93, 0, 0, 0, 114, 0, 0, 0, 133, 0, 0, 0, 152, 0, 0, 0, 174]
abbrev dktX0_does_1 : List UInt8 := dkwX0_does_1 ++ dktX0_does_2
def dkwX0_does_0 : List UInt8 := [27]
abbrev dktX0_does_0 : List UInt8 := dkwX0_does_0 ++ dktX0_does_1
theorem dksX0_does_0 : cX0_does.data.toList.drop 0 = dktX0_does_0 := by decide +kernel
theorem dksX0_does_1 : cX0_does.data.toList.drop 1 = dktX0_does_1 := dk_seg dksX0_does_0 1 rfl rfl
theorem dksX0_does_2 : cX0_does.data.toList.drop 44 = dktX0_does_2 := dk_seg dksX0_does_1 43 rfl rfl
theorem dksX0_does_3 : cX0_does.data.toList.drop 68 = dktX0_does_3 := dk_seg dksX0_does_2 24 rfl rfl
theorem dksX0_does_4 : cX0_does.data.toList.drop 92 = dktX0_does_4 := dk_seg dksX0_does_3 24 rfl rfl
theorem dksX0_does_5 : cX0_does.data.toList.drop 116 = dktX0_does_5 := dk_seg dksX0_does_4 24 rfl rfl
theorem dksX0_does_6 : cX0_does.data.toList.drop 140 = dktX0_does_6 := dk_seg dksX0_does_5 24 rfl rfl
theorem dksX0_does_7 : cX0_does.data.toList.drop 163 = dktX0_does_7 := dk_seg dksX0_does_6 23 rfl rfl
theorem dksX0_does_8 : cX0_does.data.toList.drop 187 = dktX0_does_8 := dk_seg dksX0_does_7 24 rfl rfl
theorem dksX0_does_9 : cX0_does.data.toList.drop 211 = dktX0_does_9 := dk_seg dksX0_does_8 24 rfl rfl
theorem dksX0_does_10 : cX0_does.data.toList.drop 235 = dktX0_does_10 := dk_seg dksX0_does_9 24 rfl rfl
theorem dX0_does_0 : decode cX0_does 0 = .ok (.iload_n 1, 1) := dk_27 (dk_at dksX0_does_0 0 rfl rfl)
theorem dX0_does_1 : decode cX0_does 1 = .ok (.tableswitch 200 0 6 #[43, 69, 93, 114, 133, 152, 174], 43) := by decide +kernel
theorem dX0_does_44 : decode cX0_does 44 = .ok (.aload_n 0, 1) := dk_42 (dk_at dksX0_does_2 0 rfl rfl)
theorem dX0_does_45 : decode cX0_does 45 = .ok (.aload_n 0, 1) := dk_42 (dk_at dksX0_does_2 1 rfl rfl)
theorem dX0_does_46 : decode cX0_does 46 = .ok (.getfield 20, 3) := dk_180 0 20 (dk_at dksX0_does_2 2 rfl rfl)
theorem dX0_does_49 : decode cX0_does 49 = .ok (.iload_n 2, 1) := dk_28 (dk_at dksX0_does_2 5 rfl rfl)
theorem dX0_does_50 : decode cX0_does 50 = .ok (.aaload, 1) := dk_50 (dk_at dksX0_does_2 6 rfl rfl)
theorem dX0_does_51 : decode cX0_does 51 = .ok (.aload_n 0, 1) := dk_42 (dk_at dksX0_does_2 7 rfl rfl)
theorem dX0_does_52 : decode cX0_does 52 = .ok (.iload_n 3, 1) := dk_29 (dk_at dksX0_does_2 8 rfl rfl)
theorem dX0_does_53 : decode cX0_does 53 = .ok (.invokevirtual 347, 3) := dk_182 1 91 (dk_at dksX0_does_2 9 rfl rfl)
theorem dX0_does_56 : decode cX0_does 56 = .ok (.iload 4, 2) := dk_21 4 (dk_at dksX0_does_2 12 rfl rfl)
theorem dX0_does_58 : decode cX0_does 58 = .ok (.aload_n 0, 1) := dk_42 (dk_at dksX0_does_2 14 rfl rfl)
theorem dX0_does_59 : decode cX0_does 59 = .ok (.getfield 339, 3) := dk_180 1 83 (dk_at dksX0_does_2 15 rfl rfl)
theorem dX0_does_62 : decode cX0_does 62 = .ok (.iload 5, 2) := dk_21 5 (dk_at dksX0_does_2 18 rfl rfl)
theorem dX0_does_64 : decode cX0_does 64 = .ok (.aaload, 1) := dk_50 (dk_at dksX0_does_2 20 rfl rfl)
theorem dX0_does_65 : decode cX0_does 65 = .ok (.invokevirtual 351, 3) := dk_182 1 95 (dk_at dksX0_does_2 21 rfl rfl)
theorem dX0_does_68 : decode cX0_does 68 = .ok (.iconst 1, 1) := dk_4 (dk_at dksX0_does_3 0 rfl rfl)
theorem dX0_does_69 : decode cX0_does 69 = .ok (.ireturn, 1) := dk_172 (dk_at dksX0_does_3 1 rfl rfl)
theorem dX0_does_70 : decode cX0_does 70 = .ok (.aload_n 0, 1) := dk_42 (dk_at dksX0_does_3 2 rfl rfl)
theorem dX0_does_71 : decode cX0_does 71 = .ok (.aload_n 0, 1) := dk_42 (dk_at dksX0_does_3 3 rfl rfl)
theorem dX0_does_72 : decode cX0_does 72 = .ok (.getfield 20, 3) := dk_180 0 20 (dk_at dksX0_does_3 4 rfl rfl)
theorem dX0_does_75 : decode cX0_does 75 = .ok (.iload_n 2, 1) := dk_28 (dk_at dksX0_does_3 7 rfl rfl)
theorem dX0_does_76 : decode cX0_does 76 = .ok (.aaload, 1) := dk_50 (dk_at dksX0_does_3 8 rfl rfl)
theorem dX0_does_77 : decode cX0_does 77 = .ok (.aload_n 0, 1) := dk_42 (dk_at dksX0_does_3 9 rfl rfl)
theorem dX0_does_78 : decode cX0_does 78 = .ok (.iload_n 3, 1) := dk_29 (dk_at dksX0_does_3 10 rfl rfl)
theorem dX0_does_79 : decode cX0_does 79 = .ok (.invokevirtual 347, 3) := dk_182 1 91 (dk_at dksX0_does_3 11 rfl rfl)
theorem dX0_does_82 : decode cX0_does 82 = .ok (.aload_n 0, 1) := dk_42 (dk_at dksX0_does_3 14 rfl rfl)
theorem dX0_does_83 : decode cX0_does 83 = .ok (.getfield 339, 3) := dk_180 1 83 (dk_at dksX0_does_3 15 rfl rfl)
theorem dX0_does_86 : decode cX0_does 86 = .ok (.iload 4, 2) := dk_21 4 (dk_at dksX0_does_3 18 rfl rfl)
theorem dX0_does_88 : decode cX0_does 88 = .ok (.aaload, 1) := dk_50 (dk_at dksX0_does_3 20 rfl rfl)
theorem dX0_does_89 : decode cX0_does 89 = .ok (.invokevirtual 355, 3) := dk_182 1 99 (dk_at dksX0_does_3 21 rfl rfl)
theorem dX0_does_92 : decode cX0_does 92 = .ok (.iconst 1, 1) := dk_4 (dk_at dksX0_does_4 0 rfl rfl)
theorem dX0_does_93 : decode cX0_does 93 = .ok (.ireturn, 1) := dk_172 (dk_at dksX0_does_4 1 rfl rfl)
theorem dX0_does_94 : decode cX0_does 94 = .ok (.aload_n 0, 1) := dk_42 (dk_at dksX0_does_4 2 rfl rfl)
theorem dX0_does_95 : decode cX0_does 95 = .ok (.aload_n 0, 1) := dk_42 (dk_at dksX0_does_4 3 rfl rfl)
theorem dX0_does_96 : decode cX0_does 96 = .ok (.iload_n 2, 1) := dk_28 (dk_at dksX0_does_4 4 rfl rfl)
theorem dX0_does_97 : decode cX0_does 97 = .ok (.invokevirtual 347, 3) := dk_182 1 91 (dk_at dksX0_does_4 5 rfl rfl)
theorem dX0_does_100 : decode cX0_does 100 = .ok (.iload_n 3, 1) := dk_29 (dk_at dksX0_does_4 8 rfl rfl)
theorem dX0_does_101 : decode cX0_does 101 = .ok (.iload 4, 2) := dk_21 4 (dk_at dksX0_does_4 9 rfl rfl)
theorem dX0_does_103 : decode cX0_does 103 = .ok (.aload_n 0, 1) := dk_42 (dk_at dksX0_does_4 11 rfl rfl)
theorem dX0_does_104 : decode cX0_does 104 = .ok (.getfield 339, 3) := dk_180 1 83 (dk_at dksX0_does_4 12 rfl rfl)
theorem dX0_does_107 : decode cX0_does 107 = .ok (.iload 5, 2) := dk_21 5 (dk_at dksX0_does_4 15 rfl rfl)
theorem dX0_does_109 : decode cX0_does 109 = .ok (.aaload, 1) := dk_50 (dk_at dksX0_does_4 17 rfl rfl)
theorem dX0_does_110 : decode cX0_does 110 = .ok (.invokevirtual 358, 3) := dk_182 1 102 (dk_at dksX0_does_4 18 rfl rfl)
theorem dX0_does_113 : decode cX0_does 113 = .ok (.iconst 1, 1) := dk_4 (dk_at dksX0_does_4 21 rfl rfl)
theorem dX0_does_114 : decode cX0_does 114 = .ok (.ireturn, 1) := dk_172 (dk_at dksX0_does_4 22 rfl rfl)
theorem dX0_does_115 : decode cX0_does 115 = .ok (.aload_n 0, 1) := dk_42 (dk_at dksX0_does_4 23 rfl rfl)
theorem dX0_does_116 : decode cX0_does 116 = .ok (.aload_n 0, 1) := dk_42 (dk_at dksX0_does_5 0 rfl rfl)
theorem dX0_does_117 : decode cX0_does 117 = .ok (.iload_n 2, 1) := dk_28 (dk_at dksX0_does_5 1 rfl rfl)
theorem dX0_does_118 : decode cX0_does 118 = .ok (.invokevirtual 347, 3) := dk_182 1 91 (dk_at dksX0_does_5 2 rfl rfl)
theorem dX0_does_121 : decode cX0_does 121 = .ok (.iload_n 3, 1) := dk_29 (dk_at dksX0_does_5 5 rfl rfl)
theorem dX0_does_122 : decode cX0_does 122 = .ok (.aload_n 0, 1) := dk_42 (dk_at dksX0_does_5 6 rfl rfl)
theorem dX0_does_123 : decode cX0_does 123 = .ok (.getfield 339, 3) := dk_180 1 83 (dk_at dksX0_does_5 7 rfl rfl)
theorem dX0_does_126 : decode cX0_does 126 = .ok (.iload 4, 2) := dk_21 4 (dk_at dksX0_does_5 10 rfl rfl)
theorem dX0_does_128 : decode cX0_does 128 = .ok (.aaload, 1) := dk_50 (dk_at dksX0_does_5 12 rfl rfl)
theorem dX0_does_129 : decode cX0_does 129 = .ok (.invokevirtual 362, 3) := dk_182 1 106 (dk_at dksX0_does_5 13 rfl rfl)
theorem dX0_does_132 : decode cX0_does 132 = .ok (.iconst 1, 1) := dk_4 (dk_at dksX0_does_5 16 rfl rfl)
theorem dX0_does_133 : decode cX0_does 133 = .ok (.ireturn, 1) := dk_172 (dk_at dksX0_does_5 17 rfl rfl)
theorem dX0_does_134 : decode cX0_does 134 = .ok (.aload_n 0, 1) := dk_42 (dk_at dksX0_does_5 18 rfl rfl)
theorem dX0_does_135 : decode cX0_does 135 = .ok (.aload_n 0, 1) := dk_42 (dk_at dksX0_does_5 19 rfl rfl)
theorem dX0_does_136 : decode cX0_does 136 = .ok (.iload_n 2, 1) := dk_28 (dk_at dksX0_does_5 20 rfl rfl)
theorem dX0_does_137 : decode cX0_does 137 = .ok (.invokevirtual 347, 3) := dk_182 1 91 (dk_at dksX0_does_5 21 rfl rfl)
theorem dX0_does_140 : decode cX0_does 140 = .ok (.iload_n 3, 1) := dk_29 (dk_at dksX0_does_6 0 rfl rfl)
theorem dX0_does_141 : decode cX0_does 141 = .ok (.aload_n 0, 1) := dk_42 (dk_at dksX0_does_6 1 rfl rfl)
theorem dX0_does_142 : decode cX0_does 142 = .ok (.getfield 339, 3) := dk_180 1 83 (dk_at dksX0_does_6 2 rfl rfl)
theorem dX0_does_145 : decode cX0_does 145 = .ok (.iload 4, 2) := dk_21 4 (dk_at dksX0_does_6 5 rfl rfl)
theorem dX0_does_147 : decode cX0_does 147 = .ok (.aaload, 1) := dk_50 (dk_at dksX0_does_6 7 rfl rfl)
theorem dX0_does_148 : decode cX0_does 148 = .ok (.invokevirtual 366, 3) := dk_182 1 110 (dk_at dksX0_does_6 8 rfl rfl)
theorem dX0_does_151 : decode cX0_does 151 = .ok (.iconst 1, 1) := dk_4 (dk_at dksX0_does_6 11 rfl rfl)
theorem dX0_does_152 : decode cX0_does 152 = .ok (.ireturn, 1) := dk_172 (dk_at dksX0_does_6 12 rfl rfl)
theorem dX0_does_153 : decode cX0_does 153 = .ok (.aload_n 0, 1) := dk_42 (dk_at dksX0_does_6 13 rfl rfl)
theorem dX0_does_154 : decode cX0_does 154 = .ok (.aload_n 0, 1) := dk_42 (dk_at dksX0_does_6 14 rfl rfl)
theorem dX0_does_155 : decode cX0_does 155 = .ok (.iload_n 2, 1) := dk_28 (dk_at dksX0_does_6 15 rfl rfl)
theorem dX0_does_156 : decode cX0_does 156 = .ok (.invokevirtual 347, 3) := dk_182 1 91 (dk_at dksX0_does_6 16 rfl rfl)
theorem dX0_does_159 : decode cX0_does 159 = .ok (.iload_n 3, 1) := dk_29 (dk_at dksX0_does_6 19 rfl rfl)
theorem dX0_does_160 : decode cX0_does 160 = .ok (.aload_n 0, 1) := dk_42 (dk_at dksX0_does_6 20 rfl rfl)
theorem dX0_does_161 : decode cX0_does 161 = .ok (.iload 4, 2) := dk_21 4 (dk_at dksX0_does_6 21 rfl rfl)
theorem dX0_does_163 : decode cX0_does 163 = .ok (.invokevirtual 347, 3) := dk_182 1 91 (dk_at dksX0_does_7 0 rfl rfl)
theorem dX0_does_166 : decode cX0_does 166 = .ok (.iload 5, 2) := dk_21 5 (dk_at dksX0_does_7 3 rfl rfl)
theorem dX0_does_168 : decode cX0_does 168 = .ok (.iload 6, 2) := dk_21 6 (dk_at dksX0_does_7 5 rfl rfl)
theorem dX0_does_170 : decode cX0_does 170 = .ok (.invokevirtual 369, 3) := dk_182 1 113 (dk_at dksX0_does_7 7 rfl rfl)
theorem dX0_does_173 : decode cX0_does 173 = .ok (.iconst 1, 1) := dk_4 (dk_at dksX0_does_7 10 rfl rfl)
theorem dX0_does_174 : decode cX0_does 174 = .ok (.ireturn, 1) := dk_172 (dk_at dksX0_does_7 11 rfl rfl)
theorem dX0_does_175 : decode cX0_does 175 = .ok (.aload_n 0, 1) := dk_42 (dk_at dksX0_does_7 12 rfl rfl)
theorem dX0_does_176 : decode cX0_does 176 = .ok (.aload_n 0, 1) := dk_42 (dk_at dksX0_does_7 13 rfl rfl)
theorem dX0_does_177 : decode cX0_does 177 = .ok (.getfield 20, 3) := dk_180 0 20 (dk_at dksX0_does_7 14 rfl rfl)
theorem dX0_does_180 : decode cX0_does 180 = .ok (.iload_n 2, 1) := dk_28 (dk_at dksX0_does_7 17 rfl rfl)
theorem dX0_does_181 : decode cX0_does 181 = .ok (.aaload, 1) := dk_50 (dk_at dksX0_does_7 18 rfl rfl)
theorem dX0_does_182 : decode cX0_does 182 = .ok (.aload_n 0, 1) := dk_42 (dk_at dksX0_does_7 19 rfl rfl)
theorem dX0_does_183 : decode cX0_does 183 = .ok (.iload_n 3, 1) := dk_29 (dk_at dksX0_does_7 20 rfl rfl)
theorem dX0_does_184 : decode cX0_does 184 = .ok (.invokevirtual 347, 3) := dk_182 1 91 (dk_at dksX0_does_7 21 rfl rfl)
theorem dX0_does_187 : decode cX0_does 187 = .ok (.iload 4, 2) := dk_21 4 (dk_at dksX0_does_8 0 rfl rfl)
theorem dX0_does_189 : decode cX0_does 189 = .ok (.aload_n 0, 1) := dk_42 (dk_at dksX0_does_8 2 rfl rfl)
theorem dX0_does_190 : decode cX0_does 190 = .ok (.getfield 339, 3) := dk_180 1 83 (dk_at dksX0_does_8 3 rfl rfl)
theorem dX0_does_193 : decode cX0_does 193 = .ok (.iload 5, 2) := dk_21 5 (dk_at dksX0_does_8 6 rfl rfl)
theorem dX0_does_195 : decode cX0_does 195 = .ok (.aaload, 1) := dk_50 (dk_at dksX0_does_8 8 rfl rfl)
theorem dX0_does_196 : decode cX0_does 196 = .ok (.invokevirtual 373, 3) := dk_182 1 117 (dk_at dksX0_does_8 9 rfl rfl)
theorem dX0_does_199 : decode cX0_does 199 = .ok (.iconst 1, 1) := dk_4 (dk_at dksX0_does_8 12 rfl rfl)
theorem dX0_does_200 : decode cX0_does 200 = .ok (.ireturn, 1) := dk_172 (dk_at dksX0_does_8 13 rfl rfl)
theorem dX0_does_201 : decode cX0_does 201 = .ok (.aload_n 0, 1) := dk_42 (dk_at dksX0_does_8 14 rfl rfl)
theorem dX0_does_202 : decode cX0_does 202 = .ok (.new 257, 3) := dk_187 1 1 (dk_at dksX0_does_8 15 rfl rfl)
theorem dX0_does_205 : decode cX0_does 205 = .ok (.dup, 1) := dk_89 (dk_at dksX0_does_8 18 rfl rfl)
theorem dX0_does_206 : decode cX0_does 206 = .ok (.aload_n 0, 1) := dk_42 (dk_at dksX0_does_8 19 rfl rfl)
theorem dX0_does_207 : decode cX0_does 207 = .ok (.getfield 376, 3) := dk_180 1 120 (dk_at dksX0_does_8 20 rfl rfl)
theorem dX0_does_210 : decode cX0_does 210 = .ok (.aload_n 0, 1) := dk_42 (dk_at dksX0_does_8 23 rfl rfl)
theorem dX0_does_211 : decode cX0_does 211 = .ok (.getfield 7, 3) := dk_180 0 7 (dk_at dksX0_does_9 0 rfl rfl)
theorem dX0_does_214 : decode cX0_does 214 = .ok (.iload_n 2, 1) := dk_28 (dk_at dksX0_does_9 3 rfl rfl)
theorem dX0_does_215 : decode cX0_does 215 = .ok (.aaload, 1) := dk_50 (dk_at dksX0_does_9 4 rfl rfl)
theorem dX0_does_216 : decode cX0_does 216 = .ok (.aload_n 0, 1) := dk_42 (dk_at dksX0_does_9 5 rfl rfl)
theorem dX0_does_217 : decode cX0_does 217 = .ok (.getfield 7, 3) := dk_180 0 7 (dk_at dksX0_does_9 6 rfl rfl)
theorem dX0_does_220 : decode cX0_does 220 = .ok (.iload_n 2, 1) := dk_28 (dk_at dksX0_does_9 9 rfl rfl)
theorem dX0_does_221 : decode cX0_does 221 = .ok (.aaload, 1) := dk_50 (dk_at dksX0_does_9 10 rfl rfl)
theorem dX0_does_222 : decode cX0_does 222 = .ok (.invokevirtual 264, 3) := dk_182 1 8 (dk_at dksX0_does_9 11 rfl rfl)
theorem dX0_does_225 : decode cX0_does 225 = .ok (.iload_n 3, 1) := dk_29 (dk_at dksX0_does_9 14 rfl rfl)
theorem dX0_does_226 : decode cX0_does 226 = .ok (.invokevirtual 379, 3) := dk_182 1 123 (dk_at dksX0_does_9 15 rfl rfl)
theorem dX0_does_229 : decode cX0_does 229 = .ok (.invokespecial 382, 3) := dk_183 1 126 (dk_at dksX0_does_9 18 rfl rfl)
theorem dX0_does_232 : decode cX0_does 232 = .ok (.invokevirtual 385, 3) := dk_182 1 129 (dk_at dksX0_does_9 21 rfl rfl)
theorem dX0_does_235 : decode cX0_does 235 = .ok (.ireturn, 1) := dk_172 (dk_at dksX0_does_10 0 rfl rfl)
abbrev cX0_get : ByteArray := prog_1_method_13_code
def yX0_get : MethodName := ⟨RX0, "get", "(LReflectMirror$Member;LReflectMirror$Thing;ILReflectMirror$Cell;)V"⟩
def dkwX0_get_1 : List UInt8 := [182, 0, 234, 3, 29, 25, 5, 184, 0, 238, 25, 4, 25, 5, 182, 0, 242, 177]
abbrev dktX0_get_1 : List UInt8 := dkwX0_get_1 ++ []
def dkwX0_get_0 : List UInt8 := [42, 42, 43, 44, 182, 0, 225, 16, 6, 182, 0, 229, 187, 0, 76, 89, 183, 0, 233, 58, 5, 42, 43, 44]
abbrev dktX0_get_0 : List UInt8 := dkwX0_get_0 ++ dktX0_get_1
theorem dksX0_get_0 : cX0_get.data.toList.drop 0 = dktX0_get_0 := by decide +kernel
theorem dksX0_get_1 : cX0_get.data.toList.drop 24 = dktX0_get_1 := dk_seg dksX0_get_0 24 rfl rfl
theorem dX0_get_0 : decode cX0_get 0 = .ok (.aload_n 0, 1) := dk_42 (dk_at dksX0_get_0 0 rfl rfl)
theorem dX0_get_1 : decode cX0_get 1 = .ok (.aload_n 0, 1) := dk_42 (dk_at dksX0_get_0 1 rfl rfl)
theorem dX0_get_2 : decode cX0_get 2 = .ok (.aload_n 1, 1) := dk_43 (dk_at dksX0_get_0 2 rfl rfl)
theorem dX0_get_3 : decode cX0_get 3 = .ok (.aload_n 2, 1) := dk_44 (dk_at dksX0_get_0 3 rfl rfl)
theorem dX0_get_4 : decode cX0_get 4 = .ok (.invokevirtual 225, 3) := dk_182 0 225 (dk_at dksX0_get_0 4 rfl rfl)
theorem dX0_get_7 : decode cX0_get 7 = .ok (.bipush 6, 2) := dk_16 6 (dk_at dksX0_get_0 7 rfl rfl)
theorem dX0_get_9 : decode cX0_get 9 = .ok (.invokevirtual 229, 3) := dk_182 0 229 (dk_at dksX0_get_0 9 rfl rfl)
theorem dX0_get_12 : decode cX0_get 12 = .ok (.new 76, 3) := dk_187 0 76 (dk_at dksX0_get_0 12 rfl rfl)
theorem dX0_get_15 : decode cX0_get 15 = .ok (.dup, 1) := dk_89 (dk_at dksX0_get_0 15 rfl rfl)
theorem dX0_get_16 : decode cX0_get 16 = .ok (.invokespecial 233, 3) := dk_183 0 233 (dk_at dksX0_get_0 16 rfl rfl)
theorem dX0_get_19 : decode cX0_get 19 = .ok (.astore 5, 2) := dk_58 5 (dk_at dksX0_get_0 19 rfl rfl)
theorem dX0_get_21 : decode cX0_get 21 = .ok (.aload_n 0, 1) := dk_42 (dk_at dksX0_get_0 21 rfl rfl)
theorem dX0_get_22 : decode cX0_get 22 = .ok (.aload_n 1, 1) := dk_43 (dk_at dksX0_get_0 22 rfl rfl)
theorem dX0_get_23 : decode cX0_get 23 = .ok (.aload_n 2, 1) := dk_44 (dk_at dksX0_get_0 23 rfl rfl)
theorem dX0_get_24 : decode cX0_get 24 = .ok (.invokevirtual 234, 3) := dk_182 0 234 (dk_at dksX0_get_1 0 rfl rfl)
theorem dX0_get_27 : decode cX0_get 27 = .ok (.iconst 0, 1) := dk_3 (dk_at dksX0_get_1 3 rfl rfl)
theorem dX0_get_28 : decode cX0_get 28 = .ok (.iload_n 3, 1) := dk_29 (dk_at dksX0_get_1 4 rfl rfl)
theorem dX0_get_29 : decode cX0_get 29 = .ok (.aload 5, 2) := dk_25 5 (dk_at dksX0_get_1 5 rfl rfl)
theorem dX0_get_31 : decode cX0_get 31 = .ok (.invokestatic 238, 3) := dk_184 0 238 (dk_at dksX0_get_1 7 rfl rfl)
theorem dX0_get_34 : decode cX0_get 34 = .ok (.aload 4, 2) := dk_25 4 (dk_at dksX0_get_1 10 rfl rfl)
theorem dX0_get_36 : decode cX0_get 36 = .ok (.aload 5, 2) := dk_25 5 (dk_at dksX0_get_1 12 rfl rfl)
theorem dX0_get_38 : decode cX0_get 38 = .ok (.invokevirtual 242, 3) := dk_182 0 242 (dk_at dksX0_get_1 14 rfl rfl)
theorem dX0_get_41 : decode cX0_get 41 = .ok (.return_, 1) := dk_177 (dk_at dksX0_get_1 17 rfl rfl)
abbrev cX0_need : ByteArray := prog_1_method_11_code
def yX0_need : MethodName := ⟨RX0, "need", "(ZI)V"⟩
def dkwX0_need_0 : List UInt8 := [27, 154, 0, 12, 187, 0, 209, 89, 28, 183, 0, 211, 191, 177]
abbrev dktX0_need_0 : List UInt8 := dkwX0_need_0 ++ []
theorem dksX0_need_0 : cX0_need.data.toList.drop 0 = dktX0_need_0 := by decide +kernel
theorem dX0_need_0 : decode cX0_need 0 = .ok (.iload_n 1, 1) := dk_27 (dk_at dksX0_need_0 0 rfl rfl)
theorem dX0_need_1 : decode cX0_need 1 = .ok (.ifCond .ne 12, 3) := dk_154 0 12 (dk_at dksX0_need_0 1 rfl rfl)
theorem dX0_need_4 : decode cX0_need 4 = .ok (.new 209, 3) := dk_187 0 209 (dk_at dksX0_need_0 4 rfl rfl)
theorem dX0_need_7 : decode cX0_need 7 = .ok (.dup, 1) := dk_89 (dk_at dksX0_need_0 7 rfl rfl)
theorem dX0_need_8 : decode cX0_need 8 = .ok (.iload_n 2, 1) := dk_28 (dk_at dksX0_need_0 8 rfl rfl)
theorem dX0_need_9 : decode cX0_need 9 = .ok (.invokespecial 211, 3) := dk_183 0 211 (dk_at dksX0_need_0 9 rfl rfl)
theorem dX0_need_12 : decode cX0_need 12 = .ok (.athrow, 1) := dk_191 (dk_at dksX0_need_0 12 rfl rfl)
theorem dX0_need_13 : decode cX0_need 13 = .ok (.return_, 1) := dk_177 (dk_at dksX0_need_0 13 rfl rfl)
abbrev cX0_rowOf : ByteArray := prog_1_method_12_code
def yX0_rowOf : MethodName := ⟨RX0, "rowOf", "(LReflectMirror$Member;LReflectMirror$Thing;)Ljava/lang/Object;"⟩
def dkwX0_rowOf_1 : List UInt8 := [154, 0, 11, 187, 0, 134, 89, 183, 0, 136, 191, 44, 192, 0, 204, 180, 0, 218, 43, 180, 0, 222, 50, 176]
abbrev dktX0_rowOf_1 : List UInt8 := dkwX0_rowOf_1 ++ []
def dkwX0_rowOf_0 : List UInt8 := [43, 7, 182, 0, 55, 153, 0, 8, 43, 180, 0, 214, 176, 44, 180, 0, 192, 43, 180, 0, 24, 182, 0, 184]
abbrev dktX0_rowOf_0 : List UInt8 := dkwX0_rowOf_0 ++ dktX0_rowOf_1
theorem dksX0_rowOf_0 : cX0_rowOf.data.toList.drop 0 = dktX0_rowOf_0 := by decide +kernel
theorem dksX0_rowOf_1 : cX0_rowOf.data.toList.drop 24 = dktX0_rowOf_1 := dk_seg dksX0_rowOf_0 24 rfl rfl
theorem dX0_rowOf_0 : decode cX0_rowOf 0 = .ok (.aload_n 1, 1) := dk_43 (dk_at dksX0_rowOf_0 0 rfl rfl)
theorem dX0_rowOf_1 : decode cX0_rowOf 1 = .ok (.iconst 4, 1) := dk_7 (dk_at dksX0_rowOf_0 1 rfl rfl)
theorem dX0_rowOf_2 : decode cX0_rowOf 2 = .ok (.invokevirtual 55, 3) := dk_182 0 55 (dk_at dksX0_rowOf_0 2 rfl rfl)
theorem dX0_rowOf_5 : decode cX0_rowOf 5 = .ok (.ifCond .eq 8, 3) := dk_153 0 8 (dk_at dksX0_rowOf_0 5 rfl rfl)
theorem dX0_rowOf_8 : decode cX0_rowOf 8 = .ok (.aload_n 1, 1) := dk_43 (dk_at dksX0_rowOf_0 8 rfl rfl)
theorem dX0_rowOf_9 : decode cX0_rowOf 9 = .ok (.getfield 214, 3) := dk_180 0 214 (dk_at dksX0_rowOf_0 9 rfl rfl)
theorem dX0_rowOf_12 : decode cX0_rowOf 12 = .ok (.areturn, 1) := dk_176 (dk_at dksX0_rowOf_0 12 rfl rfl)
theorem dX0_rowOf_13 : decode cX0_rowOf 13 = .ok (.aload_n 2, 1) := dk_44 (dk_at dksX0_rowOf_0 13 rfl rfl)
theorem dX0_rowOf_14 : decode cX0_rowOf 14 = .ok (.getfield 192, 3) := dk_180 0 192 (dk_at dksX0_rowOf_0 14 rfl rfl)
theorem dX0_rowOf_17 : decode cX0_rowOf 17 = .ok (.aload_n 1, 1) := dk_43 (dk_at dksX0_rowOf_0 17 rfl rfl)
theorem dX0_rowOf_18 : decode cX0_rowOf 18 = .ok (.getfield 24, 3) := dk_180 0 24 (dk_at dksX0_rowOf_0 18 rfl rfl)
theorem dX0_rowOf_21 : decode cX0_rowOf 21 = .ok (.invokevirtual 184, 3) := dk_182 0 184 (dk_at dksX0_rowOf_0 21 rfl rfl)
theorem dX0_rowOf_24 : decode cX0_rowOf 24 = .ok (.ifCond .ne 11, 3) := dk_154 0 11 (dk_at dksX0_rowOf_1 0 rfl rfl)
theorem dX0_rowOf_27 : decode cX0_rowOf 27 = .ok (.new 134, 3) := dk_187 0 134 (dk_at dksX0_rowOf_1 3 rfl rfl)
theorem dX0_rowOf_30 : decode cX0_rowOf 30 = .ok (.dup, 1) := dk_89 (dk_at dksX0_rowOf_1 6 rfl rfl)
theorem dX0_rowOf_31 : decode cX0_rowOf 31 = .ok (.invokespecial 136, 3) := dk_183 0 136 (dk_at dksX0_rowOf_1 7 rfl rfl)
theorem dX0_rowOf_34 : decode cX0_rowOf 34 = .ok (.athrow, 1) := dk_191 (dk_at dksX0_rowOf_1 10 rfl rfl)
theorem dX0_rowOf_35 : decode cX0_rowOf 35 = .ok (.aload_n 2, 1) := dk_44 (dk_at dksX0_rowOf_1 11 rfl rfl)
theorem dX0_rowOf_36 : decode cX0_rowOf 36 = .ok (.checkcast 204, 3) := dk_192 0 204 (dk_at dksX0_rowOf_1 12 rfl rfl)
theorem dX0_rowOf_39 : decode cX0_rowOf 39 = .ok (.getfield 218, 3) := dk_180 0 218 (dk_at dksX0_rowOf_1 15 rfl rfl)
theorem dX0_rowOf_42 : decode cX0_rowOf 42 = .ok (.aload_n 1, 1) := dk_43 (dk_at dksX0_rowOf_1 18 rfl rfl)
theorem dX0_rowOf_43 : decode cX0_rowOf 43 = .ok (.getfield 222, 3) := dk_180 0 222 (dk_at dksX0_rowOf_1 19 rfl rfl)
theorem dX0_rowOf_46 : decode cX0_rowOf 46 = .ok (.aaload, 1) := dk_50 (dk_at dksX0_rowOf_1 22 rfl rfl)
theorem dX0_rowOf_47 : decode cX0_rowOf 47 = .ok (.areturn, 1) := dk_176 (dk_at dksX0_rowOf_1 23 rfl rfl)
abbrev cX0_load : ByteArray := prog_1_method_6_code
def yX0_load : MethodName := ⟨RX0, "load", "(Ljava/lang/Object;IILReflectMirror$Cell;)V"⟩
def dkwX0_load_8 : List UInt8 := [45, 1, 181, 0, 125, 177]
abbrev dktX0_load_8 : List UInt8 := dkwX0_load_8 ++ []
def dkwX0_load_7 : List UInt8 := [184, 0, 121, 27, 50, 181, 0, 125, 45, 9, 181, 0, 75, 45, 28, 181, 0, 129, 28, 16, 8, 159, 0, 8]
abbrev dktX0_load_7 : List UInt8 := dkwX0_load_7 ++ dktX0_load_8
def dkwX0_load_6 : List UInt8 := [133, 181, 0, 75, 167, 0, 33, 45, 42, 27, 184, 0, 111, 184, 0, 115, 181, 0, 75, 167, 0, 18, 45, 42]
abbrev dktX0_load_6 : List UInt8 := dkwX0_load_6 ++ dktX0_load_7
def dkwX0_load_5 : List UInt8 := [167, 0, 61, 45, 42, 27, 184, 0, 97, 181, 0, 75, 167, 0, 49, 45, 42, 27, 184, 0, 101, 184, 0, 105]
abbrev dktX0_load_5 : List UInt8 := dkwX0_load_5 ++ dktX0_load_6
def dkwX0_load_4 : List UInt8 := [42, 27, 184, 0, 89, 133, 181, 0, 75, 167, 0, 74, 45, 42, 27, 184, 0, 93, 133, 181, 0, 75]
abbrev dktX0_load_4 : List UInt8 := dkwX0_load_4 ++ dktX0_load_5
def dkwX0_load_3 : List UInt8 := [184, 0, 81, 133, 181, 0, 75, 167, 0, 100, 45, 42, 27, 184, 0, 85, 133, 181, 0, 75, 167, 0, 87, 45]
abbrev dktX0_load_3 : List UInt8 := dkwX0_load_3 ++ dktX0_load_4
def dkwX0_load_2 : List UInt8 := [45, 42, 27, 184, 0, 69, 153, 0, 7, 10, 167, 0, 4, 9, 181, 0, 75, 167, 0, 113, 45, 42, 27]
abbrev dktX0_load_2 : List UInt8 := dkwX0_load_2 ++ dktX0_load_3
def dkwX0_load_1 : List UInt8 := [170, 0, 0, 0, 0, 0, 162, 0, 0, 0, 0, 0, 0, 0, 7, 0, 0, 0, 47, 0, 0, 0, 67, 0, 0, 0, 80, 0, 0, 0, 93, 0, 0, 0, 106, 0, 0, 0, 119, 0, 0, 0, 131, 0, 0, 0, 147]
abbrev dktX0_load_1 : List UInt8 := dkwX0_load_1 ++ dktX0_load_2
def dkwX0_load_0 : List UInt8 := [28]
abbrev dktX0_load_0 : List UInt8 := dkwX0_load_0 ++ dktX0_load_1
theorem dksX0_load_0 : cX0_load.data.toList.drop 0 = dktX0_load_0 := by decide +kernel
theorem dksX0_load_1 : cX0_load.data.toList.drop 1 = dktX0_load_1 := dk_seg dksX0_load_0 1 rfl rfl
theorem dksX0_load_2 : cX0_load.data.toList.drop 48 = dktX0_load_2 := dk_seg dksX0_load_1 47 rfl rfl
theorem dksX0_load_3 : cX0_load.data.toList.drop 71 = dktX0_load_3 := dk_seg dksX0_load_2 23 rfl rfl
theorem dksX0_load_4 : cX0_load.data.toList.drop 95 = dktX0_load_4 := dk_seg dksX0_load_3 24 rfl rfl
theorem dksX0_load_5 : cX0_load.data.toList.drop 117 = dktX0_load_5 := dk_seg dksX0_load_4 22 rfl rfl
theorem dksX0_load_6 : cX0_load.data.toList.drop 141 = dktX0_load_6 := dk_seg dksX0_load_5 24 rfl rfl
theorem dksX0_load_7 : cX0_load.data.toList.drop 165 = dktX0_load_7 := dk_seg dksX0_load_6 24 rfl rfl
theorem dksX0_load_8 : cX0_load.data.toList.drop 189 = dktX0_load_8 := dk_seg dksX0_load_7 24 rfl rfl
theorem dX0_load_0 : decode cX0_load 0 = .ok (.iload_n 2, 1) := dk_28 (dk_at dksX0_load_0 0 rfl rfl)
theorem dX0_load_1 : decode cX0_load 1 = .ok (.tableswitch 162 0 7 #[47, 67, 80, 93, 106, 119, 131, 147], 47) := by decide +kernel
theorem dX0_load_48 : decode cX0_load 48 = .ok (.aload_n 3, 1) := dk_45 (dk_at dksX0_load_2 0 rfl rfl)
theorem dX0_load_49 : decode cX0_load 49 = .ok (.aload_n 0, 1) := dk_42 (dk_at dksX0_load_2 1 rfl rfl)
theorem dX0_load_50 : decode cX0_load 50 = .ok (.iload_n 1, 1) := dk_27 (dk_at dksX0_load_2 2 rfl rfl)
theorem dX0_load_51 : decode cX0_load 51 = .ok (.invokestatic 69, 3) := dk_184 0 69 (dk_at dksX0_load_2 3 rfl rfl)
theorem dX0_load_54 : decode cX0_load 54 = .ok (.ifCond .eq 7, 3) := dk_153 0 7 (dk_at dksX0_load_2 6 rfl rfl)
theorem dX0_load_57 : decode cX0_load 57 = .ok (.lconst 1, 1) := dk_10 (dk_at dksX0_load_2 9 rfl rfl)
theorem dX0_load_58 : decode cX0_load 58 = .ok (.goto 4, 3) := dk_167 0 4 (dk_at dksX0_load_2 10 rfl rfl)
theorem dX0_load_61 : decode cX0_load 61 = .ok (.lconst 0, 1) := dk_9 (dk_at dksX0_load_2 13 rfl rfl)
theorem dX0_load_62 : decode cX0_load 62 = .ok (.putfield 75, 3) := dk_181 0 75 (dk_at dksX0_load_2 14 rfl rfl)
theorem dX0_load_65 : decode cX0_load 65 = .ok (.goto 113, 3) := dk_167 0 113 (dk_at dksX0_load_2 17 rfl rfl)
theorem dX0_load_68 : decode cX0_load 68 = .ok (.aload_n 3, 1) := dk_45 (dk_at dksX0_load_2 20 rfl rfl)
theorem dX0_load_69 : decode cX0_load 69 = .ok (.aload_n 0, 1) := dk_42 (dk_at dksX0_load_2 21 rfl rfl)
theorem dX0_load_70 : decode cX0_load 70 = .ok (.iload_n 1, 1) := dk_27 (dk_at dksX0_load_2 22 rfl rfl)
theorem dX0_load_71 : decode cX0_load 71 = .ok (.invokestatic 81, 3) := dk_184 0 81 (dk_at dksX0_load_3 0 rfl rfl)
theorem dX0_load_74 : decode cX0_load 74 = .ok (.i2l, 1) := dk_133 (dk_at dksX0_load_3 3 rfl rfl)
theorem dX0_load_75 : decode cX0_load 75 = .ok (.putfield 75, 3) := dk_181 0 75 (dk_at dksX0_load_3 4 rfl rfl)
theorem dX0_load_78 : decode cX0_load 78 = .ok (.goto 100, 3) := dk_167 0 100 (dk_at dksX0_load_3 7 rfl rfl)
theorem dX0_load_81 : decode cX0_load 81 = .ok (.aload_n 3, 1) := dk_45 (dk_at dksX0_load_3 10 rfl rfl)
theorem dX0_load_82 : decode cX0_load 82 = .ok (.aload_n 0, 1) := dk_42 (dk_at dksX0_load_3 11 rfl rfl)
theorem dX0_load_83 : decode cX0_load 83 = .ok (.iload_n 1, 1) := dk_27 (dk_at dksX0_load_3 12 rfl rfl)
theorem dX0_load_84 : decode cX0_load 84 = .ok (.invokestatic 85, 3) := dk_184 0 85 (dk_at dksX0_load_3 13 rfl rfl)
theorem dX0_load_87 : decode cX0_load 87 = .ok (.i2l, 1) := dk_133 (dk_at dksX0_load_3 16 rfl rfl)
theorem dX0_load_88 : decode cX0_load 88 = .ok (.putfield 75, 3) := dk_181 0 75 (dk_at dksX0_load_3 17 rfl rfl)
theorem dX0_load_91 : decode cX0_load 91 = .ok (.goto 87, 3) := dk_167 0 87 (dk_at dksX0_load_3 20 rfl rfl)
theorem dX0_load_94 : decode cX0_load 94 = .ok (.aload_n 3, 1) := dk_45 (dk_at dksX0_load_3 23 rfl rfl)
theorem dX0_load_95 : decode cX0_load 95 = .ok (.aload_n 0, 1) := dk_42 (dk_at dksX0_load_4 0 rfl rfl)
theorem dX0_load_96 : decode cX0_load 96 = .ok (.iload_n 1, 1) := dk_27 (dk_at dksX0_load_4 1 rfl rfl)
theorem dX0_load_97 : decode cX0_load 97 = .ok (.invokestatic 89, 3) := dk_184 0 89 (dk_at dksX0_load_4 2 rfl rfl)
theorem dX0_load_100 : decode cX0_load 100 = .ok (.i2l, 1) := dk_133 (dk_at dksX0_load_4 5 rfl rfl)
theorem dX0_load_101 : decode cX0_load 101 = .ok (.putfield 75, 3) := dk_181 0 75 (dk_at dksX0_load_4 6 rfl rfl)
theorem dX0_load_104 : decode cX0_load 104 = .ok (.goto 74, 3) := dk_167 0 74 (dk_at dksX0_load_4 9 rfl rfl)
theorem dX0_load_107 : decode cX0_load 107 = .ok (.aload_n 3, 1) := dk_45 (dk_at dksX0_load_4 12 rfl rfl)
theorem dX0_load_108 : decode cX0_load 108 = .ok (.aload_n 0, 1) := dk_42 (dk_at dksX0_load_4 13 rfl rfl)
theorem dX0_load_109 : decode cX0_load 109 = .ok (.iload_n 1, 1) := dk_27 (dk_at dksX0_load_4 14 rfl rfl)
theorem dX0_load_110 : decode cX0_load 110 = .ok (.invokestatic 93, 3) := dk_184 0 93 (dk_at dksX0_load_4 15 rfl rfl)
theorem dX0_load_113 : decode cX0_load 113 = .ok (.i2l, 1) := dk_133 (dk_at dksX0_load_4 18 rfl rfl)
theorem dX0_load_114 : decode cX0_load 114 = .ok (.putfield 75, 3) := dk_181 0 75 (dk_at dksX0_load_4 19 rfl rfl)
theorem dX0_load_117 : decode cX0_load 117 = .ok (.goto 61, 3) := dk_167 0 61 (dk_at dksX0_load_5 0 rfl rfl)
theorem dX0_load_120 : decode cX0_load 120 = .ok (.aload_n 3, 1) := dk_45 (dk_at dksX0_load_5 3 rfl rfl)
theorem dX0_load_121 : decode cX0_load 121 = .ok (.aload_n 0, 1) := dk_42 (dk_at dksX0_load_5 4 rfl rfl)
theorem dX0_load_122 : decode cX0_load 122 = .ok (.iload_n 1, 1) := dk_27 (dk_at dksX0_load_5 5 rfl rfl)
theorem dX0_load_123 : decode cX0_load 123 = .ok (.invokestatic 97, 3) := dk_184 0 97 (dk_at dksX0_load_5 6 rfl rfl)
theorem dX0_load_126 : decode cX0_load 126 = .ok (.putfield 75, 3) := dk_181 0 75 (dk_at dksX0_load_5 9 rfl rfl)
theorem dX0_load_129 : decode cX0_load 129 = .ok (.goto 49, 3) := dk_167 0 49 (dk_at dksX0_load_5 12 rfl rfl)
theorem dX0_load_132 : decode cX0_load 132 = .ok (.aload_n 3, 1) := dk_45 (dk_at dksX0_load_5 15 rfl rfl)
theorem dX0_load_133 : decode cX0_load 133 = .ok (.aload_n 0, 1) := dk_42 (dk_at dksX0_load_5 16 rfl rfl)
theorem dX0_load_134 : decode cX0_load 134 = .ok (.iload_n 1, 1) := dk_27 (dk_at dksX0_load_5 17 rfl rfl)
theorem dX0_load_135 : decode cX0_load 135 = .ok (.invokestatic 101, 3) := dk_184 0 101 (dk_at dksX0_load_5 18 rfl rfl)
theorem dX0_load_138 : decode cX0_load 138 = .ok (.invokestatic 105, 3) := dk_184 0 105 (dk_at dksX0_load_5 21 rfl rfl)
theorem dX0_load_141 : decode cX0_load 141 = .ok (.i2l, 1) := dk_133 (dk_at dksX0_load_6 0 rfl rfl)
theorem dX0_load_142 : decode cX0_load 142 = .ok (.putfield 75, 3) := dk_181 0 75 (dk_at dksX0_load_6 1 rfl rfl)
theorem dX0_load_145 : decode cX0_load 145 = .ok (.goto 33, 3) := dk_167 0 33 (dk_at dksX0_load_6 4 rfl rfl)
theorem dX0_load_148 : decode cX0_load 148 = .ok (.aload_n 3, 1) := dk_45 (dk_at dksX0_load_6 7 rfl rfl)
theorem dX0_load_149 : decode cX0_load 149 = .ok (.aload_n 0, 1) := dk_42 (dk_at dksX0_load_6 8 rfl rfl)
theorem dX0_load_150 : decode cX0_load 150 = .ok (.iload_n 1, 1) := dk_27 (dk_at dksX0_load_6 9 rfl rfl)
theorem dX0_load_151 : decode cX0_load 151 = .ok (.invokestatic 111, 3) := dk_184 0 111 (dk_at dksX0_load_6 10 rfl rfl)
theorem dX0_load_154 : decode cX0_load 154 = .ok (.invokestatic 115, 3) := dk_184 0 115 (dk_at dksX0_load_6 13 rfl rfl)
theorem dX0_load_157 : decode cX0_load 157 = .ok (.putfield 75, 3) := dk_181 0 75 (dk_at dksX0_load_6 16 rfl rfl)
theorem dX0_load_160 : decode cX0_load 160 = .ok (.goto 18, 3) := dk_167 0 18 (dk_at dksX0_load_6 19 rfl rfl)
theorem dX0_load_163 : decode cX0_load 163 = .ok (.aload_n 3, 1) := dk_45 (dk_at dksX0_load_6 22 rfl rfl)
theorem dX0_load_164 : decode cX0_load 164 = .ok (.aload_n 0, 1) := dk_42 (dk_at dksX0_load_6 23 rfl rfl)
theorem dX0_load_165 : decode cX0_load 165 = .ok (.invokestatic 121, 3) := dk_184 0 121 (dk_at dksX0_load_7 0 rfl rfl)
theorem dX0_load_168 : decode cX0_load 168 = .ok (.iload_n 1, 1) := dk_27 (dk_at dksX0_load_7 3 rfl rfl)
theorem dX0_load_169 : decode cX0_load 169 = .ok (.aaload, 1) := dk_50 (dk_at dksX0_load_7 4 rfl rfl)
theorem dX0_load_170 : decode cX0_load 170 = .ok (.putfield 125, 3) := dk_181 0 125 (dk_at dksX0_load_7 5 rfl rfl)
theorem dX0_load_173 : decode cX0_load 173 = .ok (.aload_n 3, 1) := dk_45 (dk_at dksX0_load_7 8 rfl rfl)
theorem dX0_load_174 : decode cX0_load 174 = .ok (.lconst 0, 1) := dk_9 (dk_at dksX0_load_7 9 rfl rfl)
theorem dX0_load_175 : decode cX0_load 175 = .ok (.putfield 75, 3) := dk_181 0 75 (dk_at dksX0_load_7 10 rfl rfl)
theorem dX0_load_178 : decode cX0_load 178 = .ok (.aload_n 3, 1) := dk_45 (dk_at dksX0_load_7 13 rfl rfl)
theorem dX0_load_179 : decode cX0_load 179 = .ok (.iload_n 2, 1) := dk_28 (dk_at dksX0_load_7 14 rfl rfl)
theorem dX0_load_180 : decode cX0_load 180 = .ok (.putfield 129, 3) := dk_181 0 129 (dk_at dksX0_load_7 15 rfl rfl)
theorem dX0_load_183 : decode cX0_load 183 = .ok (.iload_n 2, 1) := dk_28 (dk_at dksX0_load_7 18 rfl rfl)
theorem dX0_load_184 : decode cX0_load 184 = .ok (.bipush 8, 2) := dk_16 8 (dk_at dksX0_load_7 19 rfl rfl)
theorem dX0_load_186 : decode cX0_load 186 = .ok (.if_icmp .eq 8, 3) := dk_159 0 8 (dk_at dksX0_load_7 21 rfl rfl)
theorem dX0_load_189 : decode cX0_load 189 = .ok (.aload_n 3, 1) := dk_45 (dk_at dksX0_load_8 0 rfl rfl)
theorem dX0_load_190 : decode cX0_load 190 = .ok (.aconst_null, 1) := dk_1 (dk_at dksX0_load_8 1 rfl rfl)
theorem dX0_load_191 : decode cX0_load 191 = .ok (.putfield 125, 3) := dk_181 0 125 (dk_at dksX0_load_8 2 rfl rfl)
theorem dX0_load_194 : decode cX0_load 194 = .ok (.return_, 1) := dk_177 (dk_at dksX0_load_8 5 rfl rfl)
abbrev cX0_references : ByteArray := prog_1_method_7_code
def yX0_references : MethodName := ⟨RX0, "references", "(Ljava/lang/Object;)[LReflectMirror$Thing;"⟩
def dkwX0_references_0 : List UInt8 := [42, 193, 0, 132, 154, 0, 11, 187, 0, 134, 89, 183, 0, 136, 191, 42, 192, 0, 132, 176]
abbrev dktX0_references_0 : List UInt8 := dkwX0_references_0 ++ []
theorem dksX0_references_0 : cX0_references.data.toList.drop 0 = dktX0_references_0 := by decide +kernel
theorem dX0_references_0 : decode cX0_references 0 = .ok (.aload_n 0, 1) := dk_42 (dk_at dksX0_references_0 0 rfl rfl)
theorem dX0_references_1 : decode cX0_references 1 = .ok (.instanceof 132, 3) := dk_193 0 132 (dk_at dksX0_references_0 1 rfl rfl)
theorem dX0_references_4 : decode cX0_references 4 = .ok (.ifCond .ne 11, 3) := dk_154 0 11 (dk_at dksX0_references_0 4 rfl rfl)
theorem dX0_references_7 : decode cX0_references 7 = .ok (.new 134, 3) := dk_187 0 134 (dk_at dksX0_references_0 7 rfl rfl)
theorem dX0_references_10 : decode cX0_references 10 = .ok (.dup, 1) := dk_89 (dk_at dksX0_references_0 10 rfl rfl)
theorem dX0_references_11 : decode cX0_references 11 = .ok (.invokespecial 136, 3) := dk_183 0 136 (dk_at dksX0_references_0 11 rfl rfl)
theorem dX0_references_14 : decode cX0_references 14 = .ok (.athrow, 1) := dk_191 (dk_at dksX0_references_0 14 rfl rfl)
theorem dX0_references_15 : decode cX0_references 15 = .ok (.aload_n 0, 1) := dk_42 (dk_at dksX0_references_0 15 rfl rfl)
theorem dX0_references_16 : decode cX0_references 16 = .ok (.checkcast 132, 3) := dk_192 0 132 (dk_at dksX0_references_0 16 rfl rfl)
theorem dX0_references_19 : decode cX0_references 19 = .ok (.areturn, 1) := dk_176 (dk_at dksX0_references_0 19 rfl rfl)
abbrev cX0_set : ByteArray := prog_1_method_14_code
def yX0_set : MethodName := ⟨RX0, "set", "(LReflectMirror$Member;LReflectMirror$Thing;LReflectMirror$Cell;)V"⟩
def dkwX0_set_3 : List UInt8 := [184, 0, 253, 177]
abbrev dktX0_set_3 : List UInt8 := dkwX0_set_3 ++ []
def dkwX0_set_2 : List UInt8 := [182, 0, 234, 58, 4, 42, 42, 45, 43, 180, 0, 246, 182, 0, 249, 5, 182, 0, 229, 25, 4, 3, 45]
abbrev dktX0_set_2 : List UInt8 := dkwX0_set_2 ++ dktX0_set_3
def dkwX0_set_1 : List UInt8 := [153, 0, 15, 43, 7, 182, 0, 55, 154, 0, 7, 4, 167, 0, 4, 3, 16, 6, 182, 0, 229, 42, 43, 44]
abbrev dktX0_set_1 : List UInt8 := dkwX0_set_1 ++ dktX0_set_2
def dkwX0_set_0 : List UInt8 := [42, 42, 43, 44, 182, 0, 225, 153, 0, 31, 43, 16, 8, 182, 0, 55, 153, 0, 18, 43, 180, 0, 195]
abbrev dktX0_set_0 : List UInt8 := dkwX0_set_0 ++ dktX0_set_1
theorem dksX0_set_0 : cX0_set.data.toList.drop 0 = dktX0_set_0 := by decide +kernel
theorem dksX0_set_1 : cX0_set.data.toList.drop 23 = dktX0_set_1 := dk_seg dksX0_set_0 23 rfl rfl
theorem dksX0_set_2 : cX0_set.data.toList.drop 47 = dktX0_set_2 := dk_seg dksX0_set_1 24 rfl rfl
theorem dksX0_set_3 : cX0_set.data.toList.drop 70 = dktX0_set_3 := dk_seg dksX0_set_2 23 rfl rfl
theorem dX0_set_0 : decode cX0_set 0 = .ok (.aload_n 0, 1) := dk_42 (dk_at dksX0_set_0 0 rfl rfl)
theorem dX0_set_1 : decode cX0_set 1 = .ok (.aload_n 0, 1) := dk_42 (dk_at dksX0_set_0 1 rfl rfl)
theorem dX0_set_2 : decode cX0_set 2 = .ok (.aload_n 1, 1) := dk_43 (dk_at dksX0_set_0 2 rfl rfl)
theorem dX0_set_3 : decode cX0_set 3 = .ok (.aload_n 2, 1) := dk_44 (dk_at dksX0_set_0 3 rfl rfl)
theorem dX0_set_4 : decode cX0_set 4 = .ok (.invokevirtual 225, 3) := dk_182 0 225 (dk_at dksX0_set_0 4 rfl rfl)
theorem dX0_set_7 : decode cX0_set 7 = .ok (.ifCond .eq 31, 3) := dk_153 0 31 (dk_at dksX0_set_0 7 rfl rfl)
theorem dX0_set_10 : decode cX0_set 10 = .ok (.aload_n 1, 1) := dk_43 (dk_at dksX0_set_0 10 rfl rfl)
theorem dX0_set_11 : decode cX0_set 11 = .ok (.bipush 8, 2) := dk_16 8 (dk_at dksX0_set_0 11 rfl rfl)
theorem dX0_set_13 : decode cX0_set 13 = .ok (.invokevirtual 55, 3) := dk_182 0 55 (dk_at dksX0_set_0 13 rfl rfl)
theorem dX0_set_16 : decode cX0_set 16 = .ok (.ifCond .eq 18, 3) := dk_153 0 18 (dk_at dksX0_set_0 16 rfl rfl)
theorem dX0_set_19 : decode cX0_set 19 = .ok (.aload_n 1, 1) := dk_43 (dk_at dksX0_set_0 19 rfl rfl)
theorem dX0_set_20 : decode cX0_set 20 = .ok (.getfield 195, 3) := dk_180 0 195 (dk_at dksX0_set_0 20 rfl rfl)
theorem dX0_set_23 : decode cX0_set 23 = .ok (.ifCond .eq 15, 3) := dk_153 0 15 (dk_at dksX0_set_1 0 rfl rfl)
theorem dX0_set_26 : decode cX0_set 26 = .ok (.aload_n 1, 1) := dk_43 (dk_at dksX0_set_1 3 rfl rfl)
theorem dX0_set_27 : decode cX0_set 27 = .ok (.iconst 4, 1) := dk_7 (dk_at dksX0_set_1 4 rfl rfl)
theorem dX0_set_28 : decode cX0_set 28 = .ok (.invokevirtual 55, 3) := dk_182 0 55 (dk_at dksX0_set_1 5 rfl rfl)
theorem dX0_set_31 : decode cX0_set 31 = .ok (.ifCond .ne 7, 3) := dk_154 0 7 (dk_at dksX0_set_1 8 rfl rfl)
theorem dX0_set_34 : decode cX0_set 34 = .ok (.iconst 1, 1) := dk_4 (dk_at dksX0_set_1 11 rfl rfl)
theorem dX0_set_35 : decode cX0_set 35 = .ok (.goto 4, 3) := dk_167 0 4 (dk_at dksX0_set_1 12 rfl rfl)
theorem dX0_set_38 : decode cX0_set 38 = .ok (.iconst 0, 1) := dk_3 (dk_at dksX0_set_1 15 rfl rfl)
theorem dX0_set_39 : decode cX0_set 39 = .ok (.bipush 6, 2) := dk_16 6 (dk_at dksX0_set_1 16 rfl rfl)
theorem dX0_set_41 : decode cX0_set 41 = .ok (.invokevirtual 229, 3) := dk_182 0 229 (dk_at dksX0_set_1 18 rfl rfl)
theorem dX0_set_44 : decode cX0_set 44 = .ok (.aload_n 0, 1) := dk_42 (dk_at dksX0_set_1 21 rfl rfl)
theorem dX0_set_45 : decode cX0_set 45 = .ok (.aload_n 1, 1) := dk_43 (dk_at dksX0_set_1 22 rfl rfl)
theorem dX0_set_46 : decode cX0_set 46 = .ok (.aload_n 2, 1) := dk_44 (dk_at dksX0_set_1 23 rfl rfl)
theorem dX0_set_47 : decode cX0_set 47 = .ok (.invokevirtual 234, 3) := dk_182 0 234 (dk_at dksX0_set_2 0 rfl rfl)
theorem dX0_set_50 : decode cX0_set 50 = .ok (.astore 4, 2) := dk_58 4 (dk_at dksX0_set_2 3 rfl rfl)
theorem dX0_set_52 : decode cX0_set 52 = .ok (.aload_n 0, 1) := dk_42 (dk_at dksX0_set_2 5 rfl rfl)
theorem dX0_set_53 : decode cX0_set 53 = .ok (.aload_n 0, 1) := dk_42 (dk_at dksX0_set_2 6 rfl rfl)
theorem dX0_set_54 : decode cX0_set 54 = .ok (.aload_n 3, 1) := dk_45 (dk_at dksX0_set_2 7 rfl rfl)
theorem dX0_set_55 : decode cX0_set 55 = .ok (.aload_n 1, 1) := dk_43 (dk_at dksX0_set_2 8 rfl rfl)
theorem dX0_set_56 : decode cX0_set 56 = .ok (.getfield 246, 3) := dk_180 0 246 (dk_at dksX0_set_2 9 rfl rfl)
theorem dX0_set_59 : decode cX0_set 59 = .ok (.invokevirtual 249, 3) := dk_182 0 249 (dk_at dksX0_set_2 12 rfl rfl)
theorem dX0_set_62 : decode cX0_set 62 = .ok (.iconst 2, 1) := dk_5 (dk_at dksX0_set_2 15 rfl rfl)
theorem dX0_set_63 : decode cX0_set 63 = .ok (.invokevirtual 229, 3) := dk_182 0 229 (dk_at dksX0_set_2 16 rfl rfl)
theorem dX0_set_66 : decode cX0_set 66 = .ok (.aload 4, 2) := dk_25 4 (dk_at dksX0_set_2 19 rfl rfl)
theorem dX0_set_68 : decode cX0_set 68 = .ok (.iconst 0, 1) := dk_3 (dk_at dksX0_set_2 21 rfl rfl)
theorem dX0_set_69 : decode cX0_set 69 = .ok (.aload_n 3, 1) := dk_45 (dk_at dksX0_set_2 22 rfl rfl)
theorem dX0_set_70 : decode cX0_set 70 = .ok (.invokestatic 253, 3) := dk_184 0 253 (dk_at dksX0_set_3 0 rfl rfl)
theorem dX0_set_73 : decode cX0_set 73 = .ok (.return_, 1) := dk_177 (dk_at dksX0_set_3 3 rfl rfl)
abbrev cX0_goesInto : ByteArray := prog_1_method_9_code
def yX0_goesInto : MethodName := ⟨RX0, "goesInto", "(LReflectMirror$Cell;LReflectMirror$Type;)Z"⟩
def dkwX0_goesInto_2 : List UInt8 := [153, 0, 7, 4, 167, 0, 4, 3, 172]
abbrev dktX0_goesInto_2 : List UInt8 := dkwX0_goesInto_2 ++ []
def dkwX0_goesInto_1 : List UInt8 := [182, 0, 188, 153, 0, 28, 43, 180, 0, 125, 198, 0, 17, 43, 180, 0, 125, 180, 0, 192, 44, 182, 0, 184]
abbrev dktX0_goesInto_1 : List UInt8 := dkwX0_goesInto_1 ++ dktX0_goesInto_2
def dkwX0_goesInto_0 : List UInt8 := [43, 180, 0, 129, 16, 8, 159, 0, 17, 42, 180, 0, 7, 43, 180, 0, 129, 50, 44, 182, 0, 184, 172, 44]
abbrev dktX0_goesInto_0 : List UInt8 := dkwX0_goesInto_0 ++ dktX0_goesInto_1
theorem dksX0_goesInto_0 : cX0_goesInto.data.toList.drop 0 = dktX0_goesInto_0 := by decide +kernel
theorem dksX0_goesInto_1 : cX0_goesInto.data.toList.drop 24 = dktX0_goesInto_1 := dk_seg dksX0_goesInto_0 24 rfl rfl
theorem dksX0_goesInto_2 : cX0_goesInto.data.toList.drop 48 = dktX0_goesInto_2 := dk_seg dksX0_goesInto_1 24 rfl rfl
theorem dX0_goesInto_0 : decode cX0_goesInto 0 = .ok (.aload_n 1, 1) := dk_43 (dk_at dksX0_goesInto_0 0 rfl rfl)
theorem dX0_goesInto_1 : decode cX0_goesInto 1 = .ok (.getfield 129, 3) := dk_180 0 129 (dk_at dksX0_goesInto_0 1 rfl rfl)
theorem dX0_goesInto_4 : decode cX0_goesInto 4 = .ok (.bipush 8, 2) := dk_16 8 (dk_at dksX0_goesInto_0 4 rfl rfl)
theorem dX0_goesInto_6 : decode cX0_goesInto 6 = .ok (.if_icmp .eq 17, 3) := dk_159 0 17 (dk_at dksX0_goesInto_0 6 rfl rfl)
theorem dX0_goesInto_9 : decode cX0_goesInto 9 = .ok (.aload_n 0, 1) := dk_42 (dk_at dksX0_goesInto_0 9 rfl rfl)
theorem dX0_goesInto_10 : decode cX0_goesInto 10 = .ok (.getfield 7, 3) := dk_180 0 7 (dk_at dksX0_goesInto_0 10 rfl rfl)
theorem dX0_goesInto_13 : decode cX0_goesInto 13 = .ok (.aload_n 1, 1) := dk_43 (dk_at dksX0_goesInto_0 13 rfl rfl)
theorem dX0_goesInto_14 : decode cX0_goesInto 14 = .ok (.getfield 129, 3) := dk_180 0 129 (dk_at dksX0_goesInto_0 14 rfl rfl)
theorem dX0_goesInto_17 : decode cX0_goesInto 17 = .ok (.aaload, 1) := dk_50 (dk_at dksX0_goesInto_0 17 rfl rfl)
theorem dX0_goesInto_18 : decode cX0_goesInto 18 = .ok (.aload_n 2, 1) := dk_44 (dk_at dksX0_goesInto_0 18 rfl rfl)
theorem dX0_goesInto_19 : decode cX0_goesInto 19 = .ok (.invokevirtual 184, 3) := dk_182 0 184 (dk_at dksX0_goesInto_0 19 rfl rfl)
theorem dX0_goesInto_22 : decode cX0_goesInto 22 = .ok (.ireturn, 1) := dk_172 (dk_at dksX0_goesInto_0 22 rfl rfl)
theorem dX0_goesInto_23 : decode cX0_goesInto 23 = .ok (.aload_n 2, 1) := dk_44 (dk_at dksX0_goesInto_0 23 rfl rfl)
theorem dX0_goesInto_24 : decode cX0_goesInto 24 = .ok (.invokevirtual 188, 3) := dk_182 0 188 (dk_at dksX0_goesInto_1 0 rfl rfl)
theorem dX0_goesInto_27 : decode cX0_goesInto 27 = .ok (.ifCond .eq 28, 3) := dk_153 0 28 (dk_at dksX0_goesInto_1 3 rfl rfl)
theorem dX0_goesInto_30 : decode cX0_goesInto 30 = .ok (.aload_n 1, 1) := dk_43 (dk_at dksX0_goesInto_1 6 rfl rfl)
theorem dX0_goesInto_31 : decode cX0_goesInto 31 = .ok (.getfield 125, 3) := dk_180 0 125 (dk_at dksX0_goesInto_1 7 rfl rfl)
theorem dX0_goesInto_34 : decode cX0_goesInto 34 = .ok (.ifnull 17, 3) := dk_198 0 17 (dk_at dksX0_goesInto_1 10 rfl rfl)
theorem dX0_goesInto_37 : decode cX0_goesInto 37 = .ok (.aload_n 1, 1) := dk_43 (dk_at dksX0_goesInto_1 13 rfl rfl)
theorem dX0_goesInto_38 : decode cX0_goesInto 38 = .ok (.getfield 125, 3) := dk_180 0 125 (dk_at dksX0_goesInto_1 14 rfl rfl)
theorem dX0_goesInto_41 : decode cX0_goesInto 41 = .ok (.getfield 192, 3) := dk_180 0 192 (dk_at dksX0_goesInto_1 17 rfl rfl)
theorem dX0_goesInto_44 : decode cX0_goesInto 44 = .ok (.aload_n 2, 1) := dk_44 (dk_at dksX0_goesInto_1 20 rfl rfl)
theorem dX0_goesInto_45 : decode cX0_goesInto 45 = .ok (.invokevirtual 184, 3) := dk_182 0 184 (dk_at dksX0_goesInto_1 21 rfl rfl)
theorem dX0_goesInto_48 : decode cX0_goesInto 48 = .ok (.ifCond .eq 7, 3) := dk_153 0 7 (dk_at dksX0_goesInto_2 0 rfl rfl)
theorem dX0_goesInto_51 : decode cX0_goesInto 51 = .ok (.iconst 1, 1) := dk_4 (dk_at dksX0_goesInto_2 3 rfl rfl)
theorem dX0_goesInto_52 : decode cX0_goesInto 52 = .ok (.goto 4, 3) := dk_167 0 4 (dk_at dksX0_goesInto_2 4 rfl rfl)
theorem dX0_goesInto_55 : decode cX0_goesInto 55 = .ok (.iconst 0, 1) := dk_3 (dk_at dksX0_goesInto_2 7 rfl rfl)
theorem dX0_goesInto_56 : decode cX0_goesInto 56 = .ok (.ireturn, 1) := dk_172 (dk_at dksX0_goesInto_2 8 rfl rfl)
abbrev cX0_save : ByteArray := prog_1_method_8_code
def yX0_save : MethodName := ⟨RX0, "save", "(Ljava/lang/Object;ILReflectMirror$Cell;)V"⟩
def dkwX0_save_7 : List UInt8 := [180, 0, 125, 184, 0, 180, 177]
abbrev dktX0_save_7 : List UInt8 := dkwX0_save_7 ++ []
def dkwX0_save_6 : List UInt8 := [184, 0, 168, 167, 0, 27, 42, 27, 44, 182, 0, 172, 184, 0, 176, 167, 0, 15, 42, 184, 0, 121, 27, 44]
abbrev dktX0_save_6 : List UInt8 := dkwX0_save_6 ++ dktX0_save_7
def dkwX0_save_5 : List UInt8 := [184, 0, 156, 167, 0, 51, 42, 27, 44, 180, 0, 75, 184, 0, 160, 167, 0, 39, 42, 27, 44, 182, 0, 164]
abbrev dktX0_save_5 : List UInt8 := dkwX0_save_5 ++ dktX0_save_6
def dkwX0_save_4 : List UInt8 := [167, 0, 78, 42, 27, 44, 180, 0, 75, 136, 147, 184, 0, 152, 167, 0, 64, 42, 27, 44, 180, 0, 75, 136]
abbrev dktX0_save_4 : List UInt8 := dkwX0_save_4 ++ dktX0_save_5
def dkwX0_save_3 : List UInt8 := [44, 180, 0, 75, 136, 146, 184, 0, 144, 167, 0, 92, 42, 27, 44, 180, 0, 75, 136, 145, 184, 0, 148]
abbrev dktX0_save_3 : List UInt8 := dkwX0_save_3 ++ dktX0_save_4
def dkwX0_save_2 : List UInt8 := [42, 27, 44, 180, 0, 75, 9, 148, 153, 0, 7, 4, 167, 0, 4, 3, 184, 0, 140, 167, 0, 106, 42, 27]
abbrev dktX0_save_2 : List UInt8 := dkwX0_save_2 ++ dktX0_save_3
def dkwX0_save_1 : List UInt8 := [170, 0, 0, 0, 0, 0, 0, 161, 0, 0, 0, 0, 0, 0, 0, 7, 0, 0, 0, 48, 0, 0, 0, 70, 0, 0, 0, 84, 0, 0, 0, 98, 0, 0, 0, 112, 0, 0, 0, 125, 0, 0, 0, 137, 0, 0, 0, 149]
abbrev dktX0_save_1 : List UInt8 := dkwX0_save_1 ++ dktX0_save_2
def dkwX0_save_0 : List UInt8 := [44, 180, 0, 129]
abbrev dktX0_save_0 : List UInt8 := dkwX0_save_0 ++ dktX0_save_1
theorem dksX0_save_0 : cX0_save.data.toList.drop 0 = dktX0_save_0 := by decide +kernel
theorem dksX0_save_1 : cX0_save.data.toList.drop 4 = dktX0_save_1 := dk_seg dksX0_save_0 4 rfl rfl
theorem dksX0_save_2 : cX0_save.data.toList.drop 52 = dktX0_save_2 := dk_seg dksX0_save_1 48 rfl rfl
theorem dksX0_save_3 : cX0_save.data.toList.drop 76 = dktX0_save_3 := dk_seg dksX0_save_2 24 rfl rfl
theorem dksX0_save_4 : cX0_save.data.toList.drop 99 = dktX0_save_4 := dk_seg dksX0_save_3 23 rfl rfl
theorem dksX0_save_5 : cX0_save.data.toList.drop 123 = dktX0_save_5 := dk_seg dksX0_save_4 24 rfl rfl
theorem dksX0_save_6 : cX0_save.data.toList.drop 147 = dktX0_save_6 := dk_seg dksX0_save_5 24 rfl rfl
theorem dksX0_save_7 : cX0_save.data.toList.drop 171 = dktX0_save_7 := dk_seg dksX0_save_6 24 rfl rfl
theorem dX0_save_0 : decode cX0_save 0 = .ok (.aload_n 2, 1) := dk_44 (dk_at dksX0_save_0 0 rfl rfl)
theorem dX0_save_1 : decode cX0_save 1 = .ok (.getfield 129, 3) := dk_180 0 129 (dk_at dksX0_save_0 1 rfl rfl)
theorem dX0_save_4 : decode cX0_save 4 = .ok (.tableswitch 161 0 7 #[48, 70, 84, 98, 112, 125, 137, 149], 48) := by decide +kernel
theorem dX0_save_52 : decode cX0_save 52 = .ok (.aload_n 0, 1) := dk_42 (dk_at dksX0_save_2 0 rfl rfl)
theorem dX0_save_53 : decode cX0_save 53 = .ok (.iload_n 1, 1) := dk_27 (dk_at dksX0_save_2 1 rfl rfl)
theorem dX0_save_54 : decode cX0_save 54 = .ok (.aload_n 2, 1) := dk_44 (dk_at dksX0_save_2 2 rfl rfl)
theorem dX0_save_55 : decode cX0_save 55 = .ok (.getfield 75, 3) := dk_180 0 75 (dk_at dksX0_save_2 3 rfl rfl)
theorem dX0_save_58 : decode cX0_save 58 = .ok (.lconst 0, 1) := dk_9 (dk_at dksX0_save_2 6 rfl rfl)
theorem dX0_save_59 : decode cX0_save 59 = .ok (.lcmp, 1) := dk_148 (dk_at dksX0_save_2 7 rfl rfl)
theorem dX0_save_60 : decode cX0_save 60 = .ok (.ifCond .eq 7, 3) := dk_153 0 7 (dk_at dksX0_save_2 8 rfl rfl)
theorem dX0_save_63 : decode cX0_save 63 = .ok (.iconst 1, 1) := dk_4 (dk_at dksX0_save_2 11 rfl rfl)
theorem dX0_save_64 : decode cX0_save 64 = .ok (.goto 4, 3) := dk_167 0 4 (dk_at dksX0_save_2 12 rfl rfl)
theorem dX0_save_67 : decode cX0_save 67 = .ok (.iconst 0, 1) := dk_3 (dk_at dksX0_save_2 15 rfl rfl)
theorem dX0_save_68 : decode cX0_save 68 = .ok (.invokestatic 140, 3) := dk_184 0 140 (dk_at dksX0_save_2 16 rfl rfl)
theorem dX0_save_71 : decode cX0_save 71 = .ok (.goto 106, 3) := dk_167 0 106 (dk_at dksX0_save_2 19 rfl rfl)
theorem dX0_save_74 : decode cX0_save 74 = .ok (.aload_n 0, 1) := dk_42 (dk_at dksX0_save_2 22 rfl rfl)
theorem dX0_save_75 : decode cX0_save 75 = .ok (.iload_n 1, 1) := dk_27 (dk_at dksX0_save_2 23 rfl rfl)
theorem dX0_save_76 : decode cX0_save 76 = .ok (.aload_n 2, 1) := dk_44 (dk_at dksX0_save_3 0 rfl rfl)
theorem dX0_save_77 : decode cX0_save 77 = .ok (.getfield 75, 3) := dk_180 0 75 (dk_at dksX0_save_3 1 rfl rfl)
theorem dX0_save_80 : decode cX0_save 80 = .ok (.l2i, 1) := dk_136 (dk_at dksX0_save_3 4 rfl rfl)
theorem dX0_save_81 : decode cX0_save 81 = .ok (.i2c, 1) := dk_146 (dk_at dksX0_save_3 5 rfl rfl)
theorem dX0_save_82 : decode cX0_save 82 = .ok (.invokestatic 144, 3) := dk_184 0 144 (dk_at dksX0_save_3 6 rfl rfl)
theorem dX0_save_85 : decode cX0_save 85 = .ok (.goto 92, 3) := dk_167 0 92 (dk_at dksX0_save_3 9 rfl rfl)
theorem dX0_save_88 : decode cX0_save 88 = .ok (.aload_n 0, 1) := dk_42 (dk_at dksX0_save_3 12 rfl rfl)
theorem dX0_save_89 : decode cX0_save 89 = .ok (.iload_n 1, 1) := dk_27 (dk_at dksX0_save_3 13 rfl rfl)
theorem dX0_save_90 : decode cX0_save 90 = .ok (.aload_n 2, 1) := dk_44 (dk_at dksX0_save_3 14 rfl rfl)
theorem dX0_save_91 : decode cX0_save 91 = .ok (.getfield 75, 3) := dk_180 0 75 (dk_at dksX0_save_3 15 rfl rfl)
theorem dX0_save_94 : decode cX0_save 94 = .ok (.l2i, 1) := dk_136 (dk_at dksX0_save_3 18 rfl rfl)
theorem dX0_save_95 : decode cX0_save 95 = .ok (.i2b, 1) := dk_145 (dk_at dksX0_save_3 19 rfl rfl)
theorem dX0_save_96 : decode cX0_save 96 = .ok (.invokestatic 148, 3) := dk_184 0 148 (dk_at dksX0_save_3 20 rfl rfl)
theorem dX0_save_99 : decode cX0_save 99 = .ok (.goto 78, 3) := dk_167 0 78 (dk_at dksX0_save_4 0 rfl rfl)
theorem dX0_save_102 : decode cX0_save 102 = .ok (.aload_n 0, 1) := dk_42 (dk_at dksX0_save_4 3 rfl rfl)
theorem dX0_save_103 : decode cX0_save 103 = .ok (.iload_n 1, 1) := dk_27 (dk_at dksX0_save_4 4 rfl rfl)
theorem dX0_save_104 : decode cX0_save 104 = .ok (.aload_n 2, 1) := dk_44 (dk_at dksX0_save_4 5 rfl rfl)
theorem dX0_save_105 : decode cX0_save 105 = .ok (.getfield 75, 3) := dk_180 0 75 (dk_at dksX0_save_4 6 rfl rfl)
theorem dX0_save_108 : decode cX0_save 108 = .ok (.l2i, 1) := dk_136 (dk_at dksX0_save_4 9 rfl rfl)
theorem dX0_save_109 : decode cX0_save 109 = .ok (.i2s, 1) := dk_147 (dk_at dksX0_save_4 10 rfl rfl)
theorem dX0_save_110 : decode cX0_save 110 = .ok (.invokestatic 152, 3) := dk_184 0 152 (dk_at dksX0_save_4 11 rfl rfl)
theorem dX0_save_113 : decode cX0_save 113 = .ok (.goto 64, 3) := dk_167 0 64 (dk_at dksX0_save_4 14 rfl rfl)
theorem dX0_save_116 : decode cX0_save 116 = .ok (.aload_n 0, 1) := dk_42 (dk_at dksX0_save_4 17 rfl rfl)
theorem dX0_save_117 : decode cX0_save 117 = .ok (.iload_n 1, 1) := dk_27 (dk_at dksX0_save_4 18 rfl rfl)
theorem dX0_save_118 : decode cX0_save 118 = .ok (.aload_n 2, 1) := dk_44 (dk_at dksX0_save_4 19 rfl rfl)
theorem dX0_save_119 : decode cX0_save 119 = .ok (.getfield 75, 3) := dk_180 0 75 (dk_at dksX0_save_4 20 rfl rfl)
theorem dX0_save_122 : decode cX0_save 122 = .ok (.l2i, 1) := dk_136 (dk_at dksX0_save_4 23 rfl rfl)
theorem dX0_save_123 : decode cX0_save 123 = .ok (.invokestatic 156, 3) := dk_184 0 156 (dk_at dksX0_save_5 0 rfl rfl)
theorem dX0_save_126 : decode cX0_save 126 = .ok (.goto 51, 3) := dk_167 0 51 (dk_at dksX0_save_5 3 rfl rfl)
theorem dX0_save_129 : decode cX0_save 129 = .ok (.aload_n 0, 1) := dk_42 (dk_at dksX0_save_5 6 rfl rfl)
theorem dX0_save_130 : decode cX0_save 130 = .ok (.iload_n 1, 1) := dk_27 (dk_at dksX0_save_5 7 rfl rfl)
theorem dX0_save_131 : decode cX0_save 131 = .ok (.aload_n 2, 1) := dk_44 (dk_at dksX0_save_5 8 rfl rfl)
theorem dX0_save_132 : decode cX0_save 132 = .ok (.getfield 75, 3) := dk_180 0 75 (dk_at dksX0_save_5 9 rfl rfl)
theorem dX0_save_135 : decode cX0_save 135 = .ok (.invokestatic 160, 3) := dk_184 0 160 (dk_at dksX0_save_5 12 rfl rfl)
theorem dX0_save_138 : decode cX0_save 138 = .ok (.goto 39, 3) := dk_167 0 39 (dk_at dksX0_save_5 15 rfl rfl)
theorem dX0_save_141 : decode cX0_save 141 = .ok (.aload_n 0, 1) := dk_42 (dk_at dksX0_save_5 18 rfl rfl)
theorem dX0_save_142 : decode cX0_save 142 = .ok (.iload_n 1, 1) := dk_27 (dk_at dksX0_save_5 19 rfl rfl)
theorem dX0_save_143 : decode cX0_save 143 = .ok (.aload_n 2, 1) := dk_44 (dk_at dksX0_save_5 20 rfl rfl)
theorem dX0_save_144 : decode cX0_save 144 = .ok (.invokevirtual 164, 3) := dk_182 0 164 (dk_at dksX0_save_5 21 rfl rfl)
theorem dX0_save_147 : decode cX0_save 147 = .ok (.invokestatic 168, 3) := dk_184 0 168 (dk_at dksX0_save_6 0 rfl rfl)
theorem dX0_save_150 : decode cX0_save 150 = .ok (.goto 27, 3) := dk_167 0 27 (dk_at dksX0_save_6 3 rfl rfl)
theorem dX0_save_153 : decode cX0_save 153 = .ok (.aload_n 0, 1) := dk_42 (dk_at dksX0_save_6 6 rfl rfl)
theorem dX0_save_154 : decode cX0_save 154 = .ok (.iload_n 1, 1) := dk_27 (dk_at dksX0_save_6 7 rfl rfl)
theorem dX0_save_155 : decode cX0_save 155 = .ok (.aload_n 2, 1) := dk_44 (dk_at dksX0_save_6 8 rfl rfl)
theorem dX0_save_156 : decode cX0_save 156 = .ok (.invokevirtual 172, 3) := dk_182 0 172 (dk_at dksX0_save_6 9 rfl rfl)
theorem dX0_save_159 : decode cX0_save 159 = .ok (.invokestatic 176, 3) := dk_184 0 176 (dk_at dksX0_save_6 12 rfl rfl)
theorem dX0_save_162 : decode cX0_save 162 = .ok (.goto 15, 3) := dk_167 0 15 (dk_at dksX0_save_6 15 rfl rfl)
theorem dX0_save_165 : decode cX0_save 165 = .ok (.aload_n 0, 1) := dk_42 (dk_at dksX0_save_6 18 rfl rfl)
theorem dX0_save_166 : decode cX0_save 166 = .ok (.invokestatic 121, 3) := dk_184 0 121 (dk_at dksX0_save_6 19 rfl rfl)
theorem dX0_save_169 : decode cX0_save 169 = .ok (.iload_n 1, 1) := dk_27 (dk_at dksX0_save_6 22 rfl rfl)
theorem dX0_save_170 : decode cX0_save 170 = .ok (.aload_n 2, 1) := dk_44 (dk_at dksX0_save_6 23 rfl rfl)
theorem dX0_save_171 : decode cX0_save 171 = .ok (.getfield 125, 3) := dk_180 0 125 (dk_at dksX0_save_7 0 rfl rfl)
theorem dX0_save_174 : decode cX0_save 174 = .ok (.invokestatic 180, 3) := dk_184 0 180 (dk_at dksX0_save_7 3 rfl rfl)
theorem dX0_save_177 : decode cX0_save 177 = .ok (.return_, 1) := dk_177 (dk_at dksX0_save_7 6 rfl rfl)
abbrev cX0_item : ByteArray := prog_1_method_16_code
def yX0_item : MethodName := ⟨RX0, "item", "(LReflectMirror$Thing;IILReflectMirror$Cell;)V"⟩
def dkwX0_item_1 : List UInt8 := [182, 0, 242, 177]
abbrev dktX0_item_1 : List UInt8 := dkwX0_item_1 ++ []
def dkwX0_item_0 : List UInt8 := [187, 0, 76, 89, 183, 0, 233, 58, 5, 43, 184, 1, 4, 28, 29, 25, 5, 184, 0, 238, 25, 4, 25, 5]
abbrev dktX0_item_0 : List UInt8 := dkwX0_item_0 ++ dktX0_item_1
theorem dksX0_item_0 : cX0_item.data.toList.drop 0 = dktX0_item_0 := by decide +kernel
theorem dksX0_item_1 : cX0_item.data.toList.drop 24 = dktX0_item_1 := dk_seg dksX0_item_0 24 rfl rfl
theorem dX0_item_0 : decode cX0_item 0 = .ok (.new 76, 3) := dk_187 0 76 (dk_at dksX0_item_0 0 rfl rfl)
theorem dX0_item_3 : decode cX0_item 3 = .ok (.dup, 1) := dk_89 (dk_at dksX0_item_0 3 rfl rfl)
theorem dX0_item_4 : decode cX0_item 4 = .ok (.invokespecial 233, 3) := dk_183 0 233 (dk_at dksX0_item_0 4 rfl rfl)
theorem dX0_item_7 : decode cX0_item 7 = .ok (.astore 5, 2) := dk_58 5 (dk_at dksX0_item_0 7 rfl rfl)
theorem dX0_item_9 : decode cX0_item 9 = .ok (.aload_n 1, 1) := dk_43 (dk_at dksX0_item_0 9 rfl rfl)
theorem dX0_item_10 : decode cX0_item 10 = .ok (.invokestatic 260, 3) := dk_184 1 4 (dk_at dksX0_item_0 10 rfl rfl)
theorem dX0_item_13 : decode cX0_item 13 = .ok (.iload_n 2, 1) := dk_28 (dk_at dksX0_item_0 13 rfl rfl)
theorem dX0_item_14 : decode cX0_item 14 = .ok (.iload_n 3, 1) := dk_29 (dk_at dksX0_item_0 14 rfl rfl)
theorem dX0_item_15 : decode cX0_item 15 = .ok (.aload 5, 2) := dk_25 5 (dk_at dksX0_item_0 15 rfl rfl)
theorem dX0_item_17 : decode cX0_item 17 = .ok (.invokestatic 238, 3) := dk_184 0 238 (dk_at dksX0_item_0 17 rfl rfl)
theorem dX0_item_20 : decode cX0_item 20 = .ok (.aload 4, 2) := dk_25 4 (dk_at dksX0_item_0 20 rfl rfl)
theorem dX0_item_22 : decode cX0_item 22 = .ok (.aload 5, 2) := dk_25 5 (dk_at dksX0_item_0 22 rfl rfl)
theorem dX0_item_24 : decode cX0_item 24 = .ok (.invokevirtual 242, 3) := dk_182 0 242 (dk_at dksX0_item_1 0 rfl rfl)
theorem dX0_item_27 : decode cX0_item 27 = .ok (.return_, 1) := dk_177 (dk_at dksX0_item_1 3 rfl rfl)
abbrev cX0_itemsOf : ByteArray := prog_1_method_15_code
def yX0_itemsOf : MethodName := ⟨RX0, "itemsOf", "(LReflectMirror$Thing;)Ljava/lang/Object;"⟩
def dkwX0_itemsOf_1 : List UInt8 := [180, 1, 3, 176]
abbrev dktX0_itemsOf_1 : List UInt8 := dkwX0_itemsOf_1 ++ []
def dkwX0_itemsOf_0 : List UInt8 := [42, 180, 0, 192, 76, 42, 193, 1, 1, 154, 0, 11, 187, 0, 134, 89, 183, 0, 136, 191, 42, 192, 1, 1]
abbrev dktX0_itemsOf_0 : List UInt8 := dkwX0_itemsOf_0 ++ dktX0_itemsOf_1
theorem dksX0_itemsOf_0 : cX0_itemsOf.data.toList.drop 0 = dktX0_itemsOf_0 := by decide +kernel
theorem dksX0_itemsOf_1 : cX0_itemsOf.data.toList.drop 24 = dktX0_itemsOf_1 := dk_seg dksX0_itemsOf_0 24 rfl rfl
theorem dX0_itemsOf_0 : decode cX0_itemsOf 0 = .ok (.aload_n 0, 1) := dk_42 (dk_at dksX0_itemsOf_0 0 rfl rfl)
theorem dX0_itemsOf_1 : decode cX0_itemsOf 1 = .ok (.getfield 192, 3) := dk_180 0 192 (dk_at dksX0_itemsOf_0 1 rfl rfl)
theorem dX0_itemsOf_4 : decode cX0_itemsOf 4 = .ok (.astore_n 1, 1) := dk_76 (dk_at dksX0_itemsOf_0 4 rfl rfl)
theorem dX0_itemsOf_5 : decode cX0_itemsOf 5 = .ok (.aload_n 0, 1) := dk_42 (dk_at dksX0_itemsOf_0 5 rfl rfl)
theorem dX0_itemsOf_6 : decode cX0_itemsOf 6 = .ok (.instanceof 257, 3) := dk_193 1 1 (dk_at dksX0_itemsOf_0 6 rfl rfl)
theorem dX0_itemsOf_9 : decode cX0_itemsOf 9 = .ok (.ifCond .ne 11, 3) := dk_154 0 11 (dk_at dksX0_itemsOf_0 9 rfl rfl)
theorem dX0_itemsOf_12 : decode cX0_itemsOf 12 = .ok (.new 134, 3) := dk_187 0 134 (dk_at dksX0_itemsOf_0 12 rfl rfl)
theorem dX0_itemsOf_15 : decode cX0_itemsOf 15 = .ok (.dup, 1) := dk_89 (dk_at dksX0_itemsOf_0 15 rfl rfl)
theorem dX0_itemsOf_16 : decode cX0_itemsOf 16 = .ok (.invokespecial 136, 3) := dk_183 0 136 (dk_at dksX0_itemsOf_0 16 rfl rfl)
theorem dX0_itemsOf_19 : decode cX0_itemsOf 19 = .ok (.athrow, 1) := dk_191 (dk_at dksX0_itemsOf_0 19 rfl rfl)
theorem dX0_itemsOf_20 : decode cX0_itemsOf 20 = .ok (.aload_n 0, 1) := dk_42 (dk_at dksX0_itemsOf_0 20 rfl rfl)
theorem dX0_itemsOf_21 : decode cX0_itemsOf 21 = .ok (.checkcast 257, 3) := dk_192 1 1 (dk_at dksX0_itemsOf_0 21 rfl rfl)
theorem dX0_itemsOf_24 : decode cX0_itemsOf 24 = .ok (.getfield 259, 3) := dk_180 1 3 (dk_at dksX0_itemsOf_1 0 rfl rfl)
theorem dX0_itemsOf_27 : decode cX0_itemsOf 27 = .ok (.areturn, 1) := dk_176 (dk_at dksX0_itemsOf_1 3 rfl rfl)
abbrev cX0_put : ByteArray := prog_1_method_17_code
def yX0_put : MethodName := ⟨RX0, "put", "(LReflectMirror$Thing;ILReflectMirror$Cell;)V"⟩
def dkwX0_put_2 : List UInt8 := [25, 4, 28, 45, 184, 0, 253, 177]
abbrev dktX0_put_2 : List UInt8 := dkwX0_put_2 ++ []
def dkwX0_put_1 : List UInt8 := [42, 45, 43, 180, 0, 192, 182, 1, 8, 182, 0, 249, 154, 0, 11, 187, 0, 134, 89, 183, 0, 136, 191]
abbrev dktX0_put_1 : List UInt8 := dkwX0_put_1 ++ dktX0_put_2
def dkwX0_put_0 : List UInt8 := [43, 184, 1, 4, 58, 4, 45, 180, 0, 129, 16, 8, 160, 0, 35, 25, 4, 184, 0, 121, 28, 50, 58, 5]
abbrev dktX0_put_0 : List UInt8 := dkwX0_put_0 ++ dktX0_put_1
theorem dksX0_put_0 : cX0_put.data.toList.drop 0 = dktX0_put_0 := by decide +kernel
theorem dksX0_put_1 : cX0_put.data.toList.drop 24 = dktX0_put_1 := dk_seg dksX0_put_0 24 rfl rfl
theorem dksX0_put_2 : cX0_put.data.toList.drop 47 = dktX0_put_2 := dk_seg dksX0_put_1 23 rfl rfl
theorem dX0_put_0 : decode cX0_put 0 = .ok (.aload_n 1, 1) := dk_43 (dk_at dksX0_put_0 0 rfl rfl)
theorem dX0_put_1 : decode cX0_put 1 = .ok (.invokestatic 260, 3) := dk_184 1 4 (dk_at dksX0_put_0 1 rfl rfl)
theorem dX0_put_4 : decode cX0_put 4 = .ok (.astore 4, 2) := dk_58 4 (dk_at dksX0_put_0 4 rfl rfl)
theorem dX0_put_6 : decode cX0_put 6 = .ok (.aload_n 3, 1) := dk_45 (dk_at dksX0_put_0 6 rfl rfl)
theorem dX0_put_7 : decode cX0_put 7 = .ok (.getfield 129, 3) := dk_180 0 129 (dk_at dksX0_put_0 7 rfl rfl)
theorem dX0_put_10 : decode cX0_put 10 = .ok (.bipush 8, 2) := dk_16 8 (dk_at dksX0_put_0 10 rfl rfl)
theorem dX0_put_12 : decode cX0_put 12 = .ok (.if_icmp .ne 35, 3) := dk_160 0 35 (dk_at dksX0_put_0 12 rfl rfl)
theorem dX0_put_15 : decode cX0_put 15 = .ok (.aload 4, 2) := dk_25 4 (dk_at dksX0_put_0 15 rfl rfl)
theorem dX0_put_17 : decode cX0_put 17 = .ok (.invokestatic 121, 3) := dk_184 0 121 (dk_at dksX0_put_0 17 rfl rfl)
theorem dX0_put_20 : decode cX0_put 20 = .ok (.iload_n 2, 1) := dk_28 (dk_at dksX0_put_0 20 rfl rfl)
theorem dX0_put_21 : decode cX0_put 21 = .ok (.aaload, 1) := dk_50 (dk_at dksX0_put_0 21 rfl rfl)
theorem dX0_put_22 : decode cX0_put 22 = .ok (.astore 5, 2) := dk_58 5 (dk_at dksX0_put_0 22 rfl rfl)
theorem dX0_put_24 : decode cX0_put 24 = .ok (.aload_n 0, 1) := dk_42 (dk_at dksX0_put_1 0 rfl rfl)
theorem dX0_put_25 : decode cX0_put 25 = .ok (.aload_n 3, 1) := dk_45 (dk_at dksX0_put_1 1 rfl rfl)
theorem dX0_put_26 : decode cX0_put 26 = .ok (.aload_n 1, 1) := dk_43 (dk_at dksX0_put_1 2 rfl rfl)
theorem dX0_put_27 : decode cX0_put 27 = .ok (.getfield 192, 3) := dk_180 0 192 (dk_at dksX0_put_1 3 rfl rfl)
theorem dX0_put_30 : decode cX0_put 30 = .ok (.invokevirtual 264, 3) := dk_182 1 8 (dk_at dksX0_put_1 6 rfl rfl)
theorem dX0_put_33 : decode cX0_put 33 = .ok (.invokevirtual 249, 3) := dk_182 0 249 (dk_at dksX0_put_1 9 rfl rfl)
theorem dX0_put_36 : decode cX0_put 36 = .ok (.ifCond .ne 11, 3) := dk_154 0 11 (dk_at dksX0_put_1 12 rfl rfl)
theorem dX0_put_39 : decode cX0_put 39 = .ok (.new 134, 3) := dk_187 0 134 (dk_at dksX0_put_1 15 rfl rfl)
theorem dX0_put_42 : decode cX0_put 42 = .ok (.dup, 1) := dk_89 (dk_at dksX0_put_1 18 rfl rfl)
theorem dX0_put_43 : decode cX0_put 43 = .ok (.invokespecial 136, 3) := dk_183 0 136 (dk_at dksX0_put_1 19 rfl rfl)
theorem dX0_put_46 : decode cX0_put 46 = .ok (.athrow, 1) := dk_191 (dk_at dksX0_put_1 22 rfl rfl)
theorem dX0_put_47 : decode cX0_put 47 = .ok (.aload 4, 2) := dk_25 4 (dk_at dksX0_put_2 0 rfl rfl)
theorem dX0_put_49 : decode cX0_put 49 = .ok (.iload_n 2, 1) := dk_28 (dk_at dksX0_put_2 2 rfl rfl)
theorem dX0_put_50 : decode cX0_put 50 = .ok (.aload_n 3, 1) := dk_45 (dk_at dksX0_put_2 3 rfl rfl)
theorem dX0_put_51 : decode cX0_put 51 = .ok (.invokestatic 253, 3) := dk_184 0 253 (dk_at dksX0_put_2 4 rfl rfl)
theorem dX0_put_54 : decode cX0_put 54 = .ok (.return_, 1) := dk_177 (dk_at dksX0_put_2 7 rfl rfl)
abbrev cX0_store : ByteArray := prog_1_method_18_code
def yX0_store : MethodName := ⟨RX0, "store", "(LReflectMirror$Thing;ILReflectMirror$Cell;)V"⟩
def dkwX0_store_2 : List UInt8 := [83, 187, 1, 10, 89, 183, 1, 12, 191, 177]
abbrev dktX0_store_2 : List UInt8 := dkwX0_store_2 ++ []
def dkwX0_store_1 : List UInt8 := [180, 0, 125, 83, 42, 45, 43, 180, 0, 192, 182, 1, 8, 182, 0, 249, 154, 0, 17, 25, 4, 28, 25, 5]
abbrev dktX0_store_1 : List UInt8 := dkwX0_store_1 ++ dktX0_store_2
def dkwX0_store_0 : List UInt8 := [43, 192, 1, 1, 180, 1, 3, 192, 0, 132, 58, 4, 25, 4, 28, 50, 58, 5, 25, 4, 28, 45]
abbrev dktX0_store_0 : List UInt8 := dkwX0_store_0 ++ dktX0_store_1
theorem dksX0_store_0 : cX0_store.data.toList.drop 0 = dktX0_store_0 := by decide +kernel
theorem dksX0_store_1 : cX0_store.data.toList.drop 22 = dktX0_store_1 := dk_seg dksX0_store_0 22 rfl rfl
theorem dksX0_store_2 : cX0_store.data.toList.drop 46 = dktX0_store_2 := dk_seg dksX0_store_1 24 rfl rfl
theorem dX0_store_0 : decode cX0_store 0 = .ok (.aload_n 1, 1) := dk_43 (dk_at dksX0_store_0 0 rfl rfl)
theorem dX0_store_1 : decode cX0_store 1 = .ok (.checkcast 257, 3) := dk_192 1 1 (dk_at dksX0_store_0 1 rfl rfl)
theorem dX0_store_4 : decode cX0_store 4 = .ok (.getfield 259, 3) := dk_180 1 3 (dk_at dksX0_store_0 4 rfl rfl)
theorem dX0_store_7 : decode cX0_store 7 = .ok (.checkcast 132, 3) := dk_192 0 132 (dk_at dksX0_store_0 7 rfl rfl)
theorem dX0_store_10 : decode cX0_store 10 = .ok (.astore 4, 2) := dk_58 4 (dk_at dksX0_store_0 10 rfl rfl)
theorem dX0_store_12 : decode cX0_store 12 = .ok (.aload 4, 2) := dk_25 4 (dk_at dksX0_store_0 12 rfl rfl)
theorem dX0_store_14 : decode cX0_store 14 = .ok (.iload_n 2, 1) := dk_28 (dk_at dksX0_store_0 14 rfl rfl)
theorem dX0_store_15 : decode cX0_store 15 = .ok (.aaload, 1) := dk_50 (dk_at dksX0_store_0 15 rfl rfl)
theorem dX0_store_16 : decode cX0_store 16 = .ok (.astore 5, 2) := dk_58 5 (dk_at dksX0_store_0 16 rfl rfl)
theorem dX0_store_18 : decode cX0_store 18 = .ok (.aload 4, 2) := dk_25 4 (dk_at dksX0_store_0 18 rfl rfl)
theorem dX0_store_20 : decode cX0_store 20 = .ok (.iload_n 2, 1) := dk_28 (dk_at dksX0_store_0 20 rfl rfl)
theorem dX0_store_21 : decode cX0_store 21 = .ok (.aload_n 3, 1) := dk_45 (dk_at dksX0_store_0 21 rfl rfl)
theorem dX0_store_22 : decode cX0_store 22 = .ok (.getfield 125, 3) := dk_180 0 125 (dk_at dksX0_store_1 0 rfl rfl)
theorem dX0_store_25 : decode cX0_store 25 = .ok (.aastore, 1) := dk_83 (dk_at dksX0_store_1 3 rfl rfl)
theorem dX0_store_26 : decode cX0_store 26 = .ok (.aload_n 0, 1) := dk_42 (dk_at dksX0_store_1 4 rfl rfl)
theorem dX0_store_27 : decode cX0_store 27 = .ok (.aload_n 3, 1) := dk_45 (dk_at dksX0_store_1 5 rfl rfl)
theorem dX0_store_28 : decode cX0_store 28 = .ok (.aload_n 1, 1) := dk_43 (dk_at dksX0_store_1 6 rfl rfl)
theorem dX0_store_29 : decode cX0_store 29 = .ok (.getfield 192, 3) := dk_180 0 192 (dk_at dksX0_store_1 7 rfl rfl)
theorem dX0_store_32 : decode cX0_store 32 = .ok (.invokevirtual 264, 3) := dk_182 1 8 (dk_at dksX0_store_1 10 rfl rfl)
theorem dX0_store_35 : decode cX0_store 35 = .ok (.invokevirtual 249, 3) := dk_182 0 249 (dk_at dksX0_store_1 13 rfl rfl)
theorem dX0_store_38 : decode cX0_store 38 = .ok (.ifCond .ne 17, 3) := dk_154 0 17 (dk_at dksX0_store_1 16 rfl rfl)
theorem dX0_store_41 : decode cX0_store 41 = .ok (.aload 4, 2) := dk_25 4 (dk_at dksX0_store_1 19 rfl rfl)
theorem dX0_store_43 : decode cX0_store 43 = .ok (.iload_n 2, 1) := dk_28 (dk_at dksX0_store_1 21 rfl rfl)
theorem dX0_store_44 : decode cX0_store 44 = .ok (.aload 5, 2) := dk_25 5 (dk_at dksX0_store_1 22 rfl rfl)
theorem dX0_store_46 : decode cX0_store 46 = .ok (.aastore, 1) := dk_83 (dk_at dksX0_store_2 0 rfl rfl)
theorem dX0_store_47 : decode cX0_store 47 = .ok (.new 266, 3) := dk_187 1 10 (dk_at dksX0_store_2 1 rfl rfl)
theorem dX0_store_50 : decode cX0_store 50 = .ok (.dup, 1) := dk_89 (dk_at dksX0_store_2 4 rfl rfl)
theorem dX0_store_51 : decode cX0_store 51 = .ok (.invokespecial 268, 3) := dk_183 1 12 (dk_at dksX0_store_2 5 rfl rfl)
theorem dX0_store_54 : decode cX0_store 54 = .ok (.athrow, 1) := dk_191 (dk_at dksX0_store_2 8 rfl rfl)
theorem dX0_store_55 : decode cX0_store 55 = .ok (.return_, 1) := dk_177 (dk_at dksX0_store_2 9 rfl rfl)
abbrev cX0_copy : ByteArray := prog_1_method_19_code
def yX0_copy : MethodName := ⟨RX0, "copy", "(LReflectMirror$Thing;ILReflectMirror$Thing;II)V"⟩
def dkwX0_copy_7 : List UInt8 := [21, 12, 25, 11, 21, 12, 50, 83, 132, 12, 1, 167, 255, 198, 177]
abbrev dktX0_copy_7 : List UInt8 := dkwX0_copy_7 ++ []
def dkwX0_copy_6 : List UInt8 := [180, 0, 192, 25, 7, 182, 1, 8, 182, 0, 184, 154, 0, 11, 187, 1, 10, 89, 183, 1, 12, 191, 25, 10]
abbrev dktX0_copy_6 : List UInt8 := dkwX0_copy_6 ++ dktX0_copy_7
def dkwX0_copy_5 : List UInt8 := [21, 12, 21, 4, 21, 5, 96, 162, 0, 54, 25, 11, 21, 12, 50, 198, 0, 30, 25, 11, 21, 12, 50]
abbrev dktX0_copy_5 : List UInt8 := dkwX0_copy_5 ++ dktX0_copy_6
def dkwX0_copy_4 : List UInt8 := [25, 10, 190, 189, 0, 193, 58, 11, 25, 8, 28, 25, 11, 21, 4, 21, 5, 184, 1, 13, 21, 4, 54, 12]
abbrev dktX0_copy_4 : List UInt8 := dkwX0_copy_4 ++ dktX0_copy_5
def dkwX0_copy_3 : List UInt8 := [154, 0, 16, 25, 8, 28, 25, 9, 21, 4, 21, 5, 184, 1, 13, 177, 25, 9, 192, 0, 132, 58, 10]
abbrev dktX0_copy_3 : List UInt8 := dkwX0_copy_3 ++ dktX0_copy_4
def dkwX0_copy_2 : List UInt8 := [180, 1, 3, 58, 9, 43, 45, 165, 0, 19, 25, 8, 193, 0, 132, 153, 0, 11, 25, 9, 193, 0, 132]
abbrev dktX0_copy_2 : List UInt8 := dkwX0_copy_2 ++ dktX0_copy_3
def dkwX0_copy_1 : List UInt8 := [154, 0, 11, 187, 1, 10, 89, 183, 1, 12, 191, 43, 192, 1, 1, 180, 1, 3, 58, 8, 45, 192, 1, 1]
abbrev dktX0_copy_1 : List UInt8 := dkwX0_copy_1 ++ dktX0_copy_2
def dkwX0_copy_0 : List UInt8 := [43, 180, 0, 192, 58, 6, 45, 180, 0, 192, 58, 7, 43, 193, 1, 1, 153, 0, 10, 45, 193, 1, 1]
abbrev dktX0_copy_0 : List UInt8 := dkwX0_copy_0 ++ dktX0_copy_1
theorem dksX0_copy_0 : cX0_copy.data.toList.drop 0 = dktX0_copy_0 := by decide +kernel
theorem dksX0_copy_1 : cX0_copy.data.toList.drop 23 = dktX0_copy_1 := dk_seg dksX0_copy_0 23 rfl rfl
theorem dksX0_copy_2 : cX0_copy.data.toList.drop 47 = dktX0_copy_2 := dk_seg dksX0_copy_1 24 rfl rfl
theorem dksX0_copy_3 : cX0_copy.data.toList.drop 70 = dktX0_copy_3 := dk_seg dksX0_copy_2 23 rfl rfl
theorem dksX0_copy_4 : cX0_copy.data.toList.drop 93 = dktX0_copy_4 := dk_seg dksX0_copy_3 23 rfl rfl
theorem dksX0_copy_5 : cX0_copy.data.toList.drop 117 = dktX0_copy_5 := dk_seg dksX0_copy_4 24 rfl rfl
theorem dksX0_copy_6 : cX0_copy.data.toList.drop 140 = dktX0_copy_6 := dk_seg dksX0_copy_5 23 rfl rfl
theorem dksX0_copy_7 : cX0_copy.data.toList.drop 164 = dktX0_copy_7 := dk_seg dksX0_copy_6 24 rfl rfl
theorem dX0_copy_0 : decode cX0_copy 0 = .ok (.aload_n 1, 1) := dk_43 (dk_at dksX0_copy_0 0 rfl rfl)
theorem dX0_copy_1 : decode cX0_copy 1 = .ok (.getfield 192, 3) := dk_180 0 192 (dk_at dksX0_copy_0 1 rfl rfl)
theorem dX0_copy_4 : decode cX0_copy 4 = .ok (.astore 6, 2) := dk_58 6 (dk_at dksX0_copy_0 4 rfl rfl)
theorem dX0_copy_6 : decode cX0_copy 6 = .ok (.aload_n 3, 1) := dk_45 (dk_at dksX0_copy_0 6 rfl rfl)
theorem dX0_copy_7 : decode cX0_copy 7 = .ok (.getfield 192, 3) := dk_180 0 192 (dk_at dksX0_copy_0 7 rfl rfl)
theorem dX0_copy_10 : decode cX0_copy 10 = .ok (.astore 7, 2) := dk_58 7 (dk_at dksX0_copy_0 10 rfl rfl)
theorem dX0_copy_12 : decode cX0_copy 12 = .ok (.aload_n 1, 1) := dk_43 (dk_at dksX0_copy_0 12 rfl rfl)
theorem dX0_copy_13 : decode cX0_copy 13 = .ok (.instanceof 257, 3) := dk_193 1 1 (dk_at dksX0_copy_0 13 rfl rfl)
theorem dX0_copy_16 : decode cX0_copy 16 = .ok (.ifCond .eq 10, 3) := dk_153 0 10 (dk_at dksX0_copy_0 16 rfl rfl)
theorem dX0_copy_19 : decode cX0_copy 19 = .ok (.aload_n 3, 1) := dk_45 (dk_at dksX0_copy_0 19 rfl rfl)
theorem dX0_copy_20 : decode cX0_copy 20 = .ok (.instanceof 257, 3) := dk_193 1 1 (dk_at dksX0_copy_0 20 rfl rfl)
theorem dX0_copy_23 : decode cX0_copy 23 = .ok (.ifCond .ne 11, 3) := dk_154 0 11 (dk_at dksX0_copy_1 0 rfl rfl)
theorem dX0_copy_26 : decode cX0_copy 26 = .ok (.new 266, 3) := dk_187 1 10 (dk_at dksX0_copy_1 3 rfl rfl)
theorem dX0_copy_29 : decode cX0_copy 29 = .ok (.dup, 1) := dk_89 (dk_at dksX0_copy_1 6 rfl rfl)
theorem dX0_copy_30 : decode cX0_copy 30 = .ok (.invokespecial 268, 3) := dk_183 1 12 (dk_at dksX0_copy_1 7 rfl rfl)
theorem dX0_copy_33 : decode cX0_copy 33 = .ok (.athrow, 1) := dk_191 (dk_at dksX0_copy_1 10 rfl rfl)
theorem dX0_copy_34 : decode cX0_copy 34 = .ok (.aload_n 1, 1) := dk_43 (dk_at dksX0_copy_1 11 rfl rfl)
theorem dX0_copy_35 : decode cX0_copy 35 = .ok (.checkcast 257, 3) := dk_192 1 1 (dk_at dksX0_copy_1 12 rfl rfl)
theorem dX0_copy_38 : decode cX0_copy 38 = .ok (.getfield 259, 3) := dk_180 1 3 (dk_at dksX0_copy_1 15 rfl rfl)
theorem dX0_copy_41 : decode cX0_copy 41 = .ok (.astore 8, 2) := dk_58 8 (dk_at dksX0_copy_1 18 rfl rfl)
theorem dX0_copy_43 : decode cX0_copy 43 = .ok (.aload_n 3, 1) := dk_45 (dk_at dksX0_copy_1 20 rfl rfl)
theorem dX0_copy_44 : decode cX0_copy 44 = .ok (.checkcast 257, 3) := dk_192 1 1 (dk_at dksX0_copy_1 21 rfl rfl)
theorem dX0_copy_47 : decode cX0_copy 47 = .ok (.getfield 259, 3) := dk_180 1 3 (dk_at dksX0_copy_2 0 rfl rfl)
theorem dX0_copy_50 : decode cX0_copy 50 = .ok (.astore 9, 2) := dk_58 9 (dk_at dksX0_copy_2 3 rfl rfl)
theorem dX0_copy_52 : decode cX0_copy 52 = .ok (.aload_n 1, 1) := dk_43 (dk_at dksX0_copy_2 5 rfl rfl)
theorem dX0_copy_53 : decode cX0_copy 53 = .ok (.aload_n 3, 1) := dk_45 (dk_at dksX0_copy_2 6 rfl rfl)
theorem dX0_copy_54 : decode cX0_copy 54 = .ok (.if_acmp .eq 19, 3) := dk_165 0 19 (dk_at dksX0_copy_2 7 rfl rfl)
theorem dX0_copy_57 : decode cX0_copy 57 = .ok (.aload 8, 2) := dk_25 8 (dk_at dksX0_copy_2 10 rfl rfl)
theorem dX0_copy_59 : decode cX0_copy 59 = .ok (.instanceof 132, 3) := dk_193 0 132 (dk_at dksX0_copy_2 12 rfl rfl)
theorem dX0_copy_62 : decode cX0_copy 62 = .ok (.ifCond .eq 11, 3) := dk_153 0 11 (dk_at dksX0_copy_2 15 rfl rfl)
theorem dX0_copy_65 : decode cX0_copy 65 = .ok (.aload 9, 2) := dk_25 9 (dk_at dksX0_copy_2 18 rfl rfl)
theorem dX0_copy_67 : decode cX0_copy 67 = .ok (.instanceof 132, 3) := dk_193 0 132 (dk_at dksX0_copy_2 20 rfl rfl)
theorem dX0_copy_70 : decode cX0_copy 70 = .ok (.ifCond .ne 16, 3) := dk_154 0 16 (dk_at dksX0_copy_3 0 rfl rfl)
theorem dX0_copy_73 : decode cX0_copy 73 = .ok (.aload 8, 2) := dk_25 8 (dk_at dksX0_copy_3 3 rfl rfl)
theorem dX0_copy_75 : decode cX0_copy 75 = .ok (.iload_n 2, 1) := dk_28 (dk_at dksX0_copy_3 5 rfl rfl)
theorem dX0_copy_76 : decode cX0_copy 76 = .ok (.aload 9, 2) := dk_25 9 (dk_at dksX0_copy_3 6 rfl rfl)
theorem dX0_copy_78 : decode cX0_copy 78 = .ok (.iload 4, 2) := dk_21 4 (dk_at dksX0_copy_3 8 rfl rfl)
theorem dX0_copy_80 : decode cX0_copy 80 = .ok (.iload 5, 2) := dk_21 5 (dk_at dksX0_copy_3 10 rfl rfl)
theorem dX0_copy_82 : decode cX0_copy 82 = .ok (.invokestatic 269, 3) := dk_184 1 13 (dk_at dksX0_copy_3 12 rfl rfl)
theorem dX0_copy_85 : decode cX0_copy 85 = .ok (.return_, 1) := dk_177 (dk_at dksX0_copy_3 15 rfl rfl)
theorem dX0_copy_86 : decode cX0_copy 86 = .ok (.aload 9, 2) := dk_25 9 (dk_at dksX0_copy_3 16 rfl rfl)
theorem dX0_copy_88 : decode cX0_copy 88 = .ok (.checkcast 132, 3) := dk_192 0 132 (dk_at dksX0_copy_3 18 rfl rfl)
theorem dX0_copy_91 : decode cX0_copy 91 = .ok (.astore 10, 2) := dk_58 10 (dk_at dksX0_copy_3 21 rfl rfl)
theorem dX0_copy_93 : decode cX0_copy 93 = .ok (.aload 10, 2) := dk_25 10 (dk_at dksX0_copy_4 0 rfl rfl)
theorem dX0_copy_95 : decode cX0_copy 95 = .ok (.arraylength, 1) := dk_190 (dk_at dksX0_copy_4 2 rfl rfl)
theorem dX0_copy_96 : decode cX0_copy 96 = .ok (.anewarray 193, 3) := dk_189 0 193 (dk_at dksX0_copy_4 3 rfl rfl)
theorem dX0_copy_99 : decode cX0_copy 99 = .ok (.astore 11, 2) := dk_58 11 (dk_at dksX0_copy_4 6 rfl rfl)
theorem dX0_copy_101 : decode cX0_copy 101 = .ok (.aload 8, 2) := dk_25 8 (dk_at dksX0_copy_4 8 rfl rfl)
theorem dX0_copy_103 : decode cX0_copy 103 = .ok (.iload_n 2, 1) := dk_28 (dk_at dksX0_copy_4 10 rfl rfl)
theorem dX0_copy_104 : decode cX0_copy 104 = .ok (.aload 11, 2) := dk_25 11 (dk_at dksX0_copy_4 11 rfl rfl)
theorem dX0_copy_106 : decode cX0_copy 106 = .ok (.iload 4, 2) := dk_21 4 (dk_at dksX0_copy_4 13 rfl rfl)
theorem dX0_copy_108 : decode cX0_copy 108 = .ok (.iload 5, 2) := dk_21 5 (dk_at dksX0_copy_4 15 rfl rfl)
theorem dX0_copy_110 : decode cX0_copy 110 = .ok (.invokestatic 269, 3) := dk_184 1 13 (dk_at dksX0_copy_4 17 rfl rfl)
theorem dX0_copy_113 : decode cX0_copy 113 = .ok (.iload 4, 2) := dk_21 4 (dk_at dksX0_copy_4 20 rfl rfl)
theorem dX0_copy_115 : decode cX0_copy 115 = .ok (.istore 12, 2) := dk_54 12 (dk_at dksX0_copy_4 22 rfl rfl)
theorem dX0_copy_117 : decode cX0_copy 117 = .ok (.iload 12, 2) := dk_21 12 (dk_at dksX0_copy_5 0 rfl rfl)
theorem dX0_copy_119 : decode cX0_copy 119 = .ok (.iload 4, 2) := dk_21 4 (dk_at dksX0_copy_5 2 rfl rfl)
theorem dX0_copy_121 : decode cX0_copy 121 = .ok (.iload 5, 2) := dk_21 5 (dk_at dksX0_copy_5 4 rfl rfl)
theorem dX0_copy_123 : decode cX0_copy 123 = .ok (.iadd, 1) := dk_96 (dk_at dksX0_copy_5 6 rfl rfl)
theorem dX0_copy_124 : decode cX0_copy 124 = .ok (.if_icmp .ge 54, 3) := dk_162 0 54 (dk_at dksX0_copy_5 7 rfl rfl)
theorem dX0_copy_127 : decode cX0_copy 127 = .ok (.aload 11, 2) := dk_25 11 (dk_at dksX0_copy_5 10 rfl rfl)
theorem dX0_copy_129 : decode cX0_copy 129 = .ok (.iload 12, 2) := dk_21 12 (dk_at dksX0_copy_5 12 rfl rfl)
theorem dX0_copy_131 : decode cX0_copy 131 = .ok (.aaload, 1) := dk_50 (dk_at dksX0_copy_5 14 rfl rfl)
theorem dX0_copy_132 : decode cX0_copy 132 = .ok (.ifnull 30, 3) := dk_198 0 30 (dk_at dksX0_copy_5 15 rfl rfl)
theorem dX0_copy_135 : decode cX0_copy 135 = .ok (.aload 11, 2) := dk_25 11 (dk_at dksX0_copy_5 18 rfl rfl)
theorem dX0_copy_137 : decode cX0_copy 137 = .ok (.iload 12, 2) := dk_21 12 (dk_at dksX0_copy_5 20 rfl rfl)
theorem dX0_copy_139 : decode cX0_copy 139 = .ok (.aaload, 1) := dk_50 (dk_at dksX0_copy_5 22 rfl rfl)
theorem dX0_copy_140 : decode cX0_copy 140 = .ok (.getfield 192, 3) := dk_180 0 192 (dk_at dksX0_copy_6 0 rfl rfl)
theorem dX0_copy_143 : decode cX0_copy 143 = .ok (.aload 7, 2) := dk_25 7 (dk_at dksX0_copy_6 3 rfl rfl)
theorem dX0_copy_145 : decode cX0_copy 145 = .ok (.invokevirtual 264, 3) := dk_182 1 8 (dk_at dksX0_copy_6 5 rfl rfl)
theorem dX0_copy_148 : decode cX0_copy 148 = .ok (.invokevirtual 184, 3) := dk_182 0 184 (dk_at dksX0_copy_6 8 rfl rfl)
theorem dX0_copy_151 : decode cX0_copy 151 = .ok (.ifCond .ne 11, 3) := dk_154 0 11 (dk_at dksX0_copy_6 11 rfl rfl)
theorem dX0_copy_154 : decode cX0_copy 154 = .ok (.new 266, 3) := dk_187 1 10 (dk_at dksX0_copy_6 14 rfl rfl)
theorem dX0_copy_157 : decode cX0_copy 157 = .ok (.dup, 1) := dk_89 (dk_at dksX0_copy_6 17 rfl rfl)
theorem dX0_copy_158 : decode cX0_copy 158 = .ok (.invokespecial 268, 3) := dk_183 1 12 (dk_at dksX0_copy_6 18 rfl rfl)
theorem dX0_copy_161 : decode cX0_copy 161 = .ok (.athrow, 1) := dk_191 (dk_at dksX0_copy_6 21 rfl rfl)
theorem dX0_copy_162 : decode cX0_copy 162 = .ok (.aload 10, 2) := dk_25 10 (dk_at dksX0_copy_6 22 rfl rfl)
theorem dX0_copy_164 : decode cX0_copy 164 = .ok (.iload 12, 2) := dk_21 12 (dk_at dksX0_copy_7 0 rfl rfl)
theorem dX0_copy_166 : decode cX0_copy 166 = .ok (.aload 11, 2) := dk_25 11 (dk_at dksX0_copy_7 2 rfl rfl)
theorem dX0_copy_168 : decode cX0_copy 168 = .ok (.iload 12, 2) := dk_21 12 (dk_at dksX0_copy_7 4 rfl rfl)
theorem dX0_copy_170 : decode cX0_copy 170 = .ok (.aaload, 1) := dk_50 (dk_at dksX0_copy_7 6 rfl rfl)
theorem dX0_copy_171 : decode cX0_copy 171 = .ok (.aastore, 1) := dk_83 (dk_at dksX0_copy_7 7 rfl rfl)
theorem dX0_copy_172 : decode cX0_copy 172 = .ok (.iinc 12 1, 3) := dk_132 12 1 (dk_at dksX0_copy_7 8 rfl rfl)
theorem dX0_copy_175 : decode cX0_copy 175 = .ok (.goto (-58), 3) := dk_167 255 198 (dk_at dksX0_copy_7 11 rfl rfl)
theorem dX0_copy_178 : decode cX0_copy 178 = .ok (.return_, 1) := dk_177 (dk_at dksX0_copy_7 14 rfl rfl)
abbrev cX0_call : ByteArray := prog_1_method_22_code
def yX0_call : MethodName := ⟨RX0, "call", "(LReflectMirror$Member;LReflectMirror$Thing;ILReflectMirror$Cell;)V"⟩
def dkwX0_call_6 : List UInt8 := [182, 0, 242, 177]
abbrev dktX0_call_6 : List UInt8 := dkwX0_call_6 ++ []
def dkwX0_call_5 : List UInt8 := [192, 0, 204, 167, 0, 4, 1, 42, 180, 1, 83, 3, 3, 25, 5, 182, 1, 87, 25, 4, 25, 5]
abbrev dktX0_call_5 : List UInt8 := dkwX0_call_5 ++ dktX0_call_6
def dkwX0_call_4 : List UInt8 := [167, 255, 224, 187, 0, 76, 89, 183, 0, 233, 58, 5, 42, 43, 44, 193, 0, 204, 153, 0, 10, 44]
abbrev dktX0_call_4 : List UInt8 := dkwX0_call_4 ++ dktX0_call_5
def dkwX0_call_3 : List UInt8 := [180, 1, 83, 21, 5, 50, 43, 180, 1, 51, 21, 5, 50, 182, 0, 249, 5, 182, 0, 229, 132, 5, 1]
abbrev dktX0_call_3 : List UInt8 := dkwX0_call_3 ++ dktX0_call_4
def dkwX0_call_2 : List UInt8 := [160, 0, 7, 4, 167, 0, 4, 3, 5, 182, 0, 229, 3, 54, 5, 21, 5, 29, 162, 0, 32, 42, 42, 42]
abbrev dktX0_call_2 : List UInt8 := dkwX0_call_2 ++ dktX0_call_3
def dkwX0_call_1 : List UInt8 := [43, 180, 0, 24, 182, 0, 184, 154, 0, 11, 187, 0, 134, 89, 183, 0, 136, 191, 42, 29, 43, 180, 1, 48]
abbrev dktX0_call_1 : List UInt8 := dkwX0_call_1 ++ dktX0_call_2
def dkwX0_call_0 : List UInt8 := [42, 42, 43, 44, 182, 0, 225, 16, 6, 182, 0, 229, 43, 7, 182, 0, 55, 154, 0, 25, 44, 180, 0, 192]
abbrev dktX0_call_0 : List UInt8 := dkwX0_call_0 ++ dktX0_call_1
theorem dksX0_call_0 : cX0_call.data.toList.drop 0 = dktX0_call_0 := by decide +kernel
theorem dksX0_call_1 : cX0_call.data.toList.drop 24 = dktX0_call_1 := dk_seg dksX0_call_0 24 rfl rfl
theorem dksX0_call_2 : cX0_call.data.toList.drop 48 = dktX0_call_2 := dk_seg dksX0_call_1 24 rfl rfl
theorem dksX0_call_3 : cX0_call.data.toList.drop 72 = dktX0_call_3 := dk_seg dksX0_call_2 24 rfl rfl
theorem dksX0_call_4 : cX0_call.data.toList.drop 95 = dktX0_call_4 := dk_seg dksX0_call_3 23 rfl rfl
theorem dksX0_call_5 : cX0_call.data.toList.drop 117 = dktX0_call_5 := dk_seg dksX0_call_4 22 rfl rfl
theorem dksX0_call_6 : cX0_call.data.toList.drop 139 = dktX0_call_6 := dk_seg dksX0_call_5 22 rfl rfl
theorem dX0_call_0 : decode cX0_call 0 = .ok (.aload_n 0, 1) := dk_42 (dk_at dksX0_call_0 0 rfl rfl)
theorem dX0_call_1 : decode cX0_call 1 = .ok (.aload_n 0, 1) := dk_42 (dk_at dksX0_call_0 1 rfl rfl)
theorem dX0_call_2 : decode cX0_call 2 = .ok (.aload_n 1, 1) := dk_43 (dk_at dksX0_call_0 2 rfl rfl)
theorem dX0_call_3 : decode cX0_call 3 = .ok (.aload_n 2, 1) := dk_44 (dk_at dksX0_call_0 3 rfl rfl)
theorem dX0_call_4 : decode cX0_call 4 = .ok (.invokevirtual 225, 3) := dk_182 0 225 (dk_at dksX0_call_0 4 rfl rfl)
theorem dX0_call_7 : decode cX0_call 7 = .ok (.bipush 6, 2) := dk_16 6 (dk_at dksX0_call_0 7 rfl rfl)
theorem dX0_call_9 : decode cX0_call 9 = .ok (.invokevirtual 229, 3) := dk_182 0 229 (dk_at dksX0_call_0 9 rfl rfl)
theorem dX0_call_12 : decode cX0_call 12 = .ok (.aload_n 1, 1) := dk_43 (dk_at dksX0_call_0 12 rfl rfl)
theorem dX0_call_13 : decode cX0_call 13 = .ok (.iconst 4, 1) := dk_7 (dk_at dksX0_call_0 13 rfl rfl)
theorem dX0_call_14 : decode cX0_call 14 = .ok (.invokevirtual 55, 3) := dk_182 0 55 (dk_at dksX0_call_0 14 rfl rfl)
theorem dX0_call_17 : decode cX0_call 17 = .ok (.ifCond .ne 25, 3) := dk_154 0 25 (dk_at dksX0_call_0 17 rfl rfl)
theorem dX0_call_20 : decode cX0_call 20 = .ok (.aload_n 2, 1) := dk_44 (dk_at dksX0_call_0 20 rfl rfl)
theorem dX0_call_21 : decode cX0_call 21 = .ok (.getfield 192, 3) := dk_180 0 192 (dk_at dksX0_call_0 21 rfl rfl)
theorem dX0_call_24 : decode cX0_call 24 = .ok (.aload_n 1, 1) := dk_43 (dk_at dksX0_call_1 0 rfl rfl)
theorem dX0_call_25 : decode cX0_call 25 = .ok (.getfield 24, 3) := dk_180 0 24 (dk_at dksX0_call_1 1 rfl rfl)
theorem dX0_call_28 : decode cX0_call 28 = .ok (.invokevirtual 184, 3) := dk_182 0 184 (dk_at dksX0_call_1 4 rfl rfl)
theorem dX0_call_31 : decode cX0_call 31 = .ok (.ifCond .ne 11, 3) := dk_154 0 11 (dk_at dksX0_call_1 7 rfl rfl)
theorem dX0_call_34 : decode cX0_call 34 = .ok (.new 134, 3) := dk_187 0 134 (dk_at dksX0_call_1 10 rfl rfl)
theorem dX0_call_37 : decode cX0_call 37 = .ok (.dup, 1) := dk_89 (dk_at dksX0_call_1 13 rfl rfl)
theorem dX0_call_38 : decode cX0_call 38 = .ok (.invokespecial 136, 3) := dk_183 0 136 (dk_at dksX0_call_1 14 rfl rfl)
theorem dX0_call_41 : decode cX0_call 41 = .ok (.athrow, 1) := dk_191 (dk_at dksX0_call_1 17 rfl rfl)
theorem dX0_call_42 : decode cX0_call 42 = .ok (.aload_n 0, 1) := dk_42 (dk_at dksX0_call_1 18 rfl rfl)
theorem dX0_call_43 : decode cX0_call 43 = .ok (.iload_n 3, 1) := dk_29 (dk_at dksX0_call_1 19 rfl rfl)
theorem dX0_call_44 : decode cX0_call 44 = .ok (.aload_n 1, 1) := dk_43 (dk_at dksX0_call_1 20 rfl rfl)
theorem dX0_call_45 : decode cX0_call 45 = .ok (.getfield 304, 3) := dk_180 1 48 (dk_at dksX0_call_1 21 rfl rfl)
theorem dX0_call_48 : decode cX0_call 48 = .ok (.if_icmp .ne 7, 3) := dk_160 0 7 (dk_at dksX0_call_2 0 rfl rfl)
theorem dX0_call_51 : decode cX0_call 51 = .ok (.iconst 1, 1) := dk_4 (dk_at dksX0_call_2 3 rfl rfl)
theorem dX0_call_52 : decode cX0_call 52 = .ok (.goto 4, 3) := dk_167 0 4 (dk_at dksX0_call_2 4 rfl rfl)
theorem dX0_call_55 : decode cX0_call 55 = .ok (.iconst 0, 1) := dk_3 (dk_at dksX0_call_2 7 rfl rfl)
theorem dX0_call_56 : decode cX0_call 56 = .ok (.iconst 2, 1) := dk_5 (dk_at dksX0_call_2 8 rfl rfl)
theorem dX0_call_57 : decode cX0_call 57 = .ok (.invokevirtual 229, 3) := dk_182 0 229 (dk_at dksX0_call_2 9 rfl rfl)
theorem dX0_call_60 : decode cX0_call 60 = .ok (.iconst 0, 1) := dk_3 (dk_at dksX0_call_2 12 rfl rfl)
theorem dX0_call_61 : decode cX0_call 61 = .ok (.istore 5, 2) := dk_54 5 (dk_at dksX0_call_2 13 rfl rfl)
theorem dX0_call_63 : decode cX0_call 63 = .ok (.iload 5, 2) := dk_21 5 (dk_at dksX0_call_2 15 rfl rfl)
theorem dX0_call_65 : decode cX0_call 65 = .ok (.iload_n 3, 1) := dk_29 (dk_at dksX0_call_2 17 rfl rfl)
theorem dX0_call_66 : decode cX0_call 66 = .ok (.if_icmp .ge 32, 3) := dk_162 0 32 (dk_at dksX0_call_2 18 rfl rfl)
theorem dX0_call_69 : decode cX0_call 69 = .ok (.aload_n 0, 1) := dk_42 (dk_at dksX0_call_2 21 rfl rfl)
theorem dX0_call_70 : decode cX0_call 70 = .ok (.aload_n 0, 1) := dk_42 (dk_at dksX0_call_2 22 rfl rfl)
theorem dX0_call_71 : decode cX0_call 71 = .ok (.aload_n 0, 1) := dk_42 (dk_at dksX0_call_2 23 rfl rfl)
theorem dX0_call_72 : decode cX0_call 72 = .ok (.getfield 339, 3) := dk_180 1 83 (dk_at dksX0_call_3 0 rfl rfl)
theorem dX0_call_75 : decode cX0_call 75 = .ok (.iload 5, 2) := dk_21 5 (dk_at dksX0_call_3 3 rfl rfl)
theorem dX0_call_77 : decode cX0_call 77 = .ok (.aaload, 1) := dk_50 (dk_at dksX0_call_3 5 rfl rfl)
theorem dX0_call_78 : decode cX0_call 78 = .ok (.aload_n 1, 1) := dk_43 (dk_at dksX0_call_3 6 rfl rfl)
theorem dX0_call_79 : decode cX0_call 79 = .ok (.getfield 307, 3) := dk_180 1 51 (dk_at dksX0_call_3 7 rfl rfl)
theorem dX0_call_82 : decode cX0_call 82 = .ok (.iload 5, 2) := dk_21 5 (dk_at dksX0_call_3 10 rfl rfl)
theorem dX0_call_84 : decode cX0_call 84 = .ok (.aaload, 1) := dk_50 (dk_at dksX0_call_3 12 rfl rfl)
theorem dX0_call_85 : decode cX0_call 85 = .ok (.invokevirtual 249, 3) := dk_182 0 249 (dk_at dksX0_call_3 13 rfl rfl)
theorem dX0_call_88 : decode cX0_call 88 = .ok (.iconst 2, 1) := dk_5 (dk_at dksX0_call_3 16 rfl rfl)
theorem dX0_call_89 : decode cX0_call 89 = .ok (.invokevirtual 229, 3) := dk_182 0 229 (dk_at dksX0_call_3 17 rfl rfl)
theorem dX0_call_92 : decode cX0_call 92 = .ok (.iinc 5 1, 3) := dk_132 5 1 (dk_at dksX0_call_3 20 rfl rfl)
theorem dX0_call_95 : decode cX0_call 95 = .ok (.goto (-32), 3) := dk_167 255 224 (dk_at dksX0_call_4 0 rfl rfl)
theorem dX0_call_98 : decode cX0_call 98 = .ok (.new 76, 3) := dk_187 0 76 (dk_at dksX0_call_4 3 rfl rfl)
theorem dX0_call_101 : decode cX0_call 101 = .ok (.dup, 1) := dk_89 (dk_at dksX0_call_4 6 rfl rfl)
theorem dX0_call_102 : decode cX0_call 102 = .ok (.invokespecial 233, 3) := dk_183 0 233 (dk_at dksX0_call_4 7 rfl rfl)
theorem dX0_call_105 : decode cX0_call 105 = .ok (.astore 5, 2) := dk_58 5 (dk_at dksX0_call_4 10 rfl rfl)
theorem dX0_call_107 : decode cX0_call 107 = .ok (.aload_n 0, 1) := dk_42 (dk_at dksX0_call_4 12 rfl rfl)
theorem dX0_call_108 : decode cX0_call 108 = .ok (.aload_n 1, 1) := dk_43 (dk_at dksX0_call_4 13 rfl rfl)
theorem dX0_call_109 : decode cX0_call 109 = .ok (.aload_n 2, 1) := dk_44 (dk_at dksX0_call_4 14 rfl rfl)
theorem dX0_call_110 : decode cX0_call 110 = .ok (.instanceof 204, 3) := dk_193 0 204 (dk_at dksX0_call_4 15 rfl rfl)
theorem dX0_call_113 : decode cX0_call 113 = .ok (.ifCond .eq 10, 3) := dk_153 0 10 (dk_at dksX0_call_4 18 rfl rfl)
theorem dX0_call_116 : decode cX0_call 116 = .ok (.aload_n 2, 1) := dk_44 (dk_at dksX0_call_4 21 rfl rfl)
theorem dX0_call_117 : decode cX0_call 117 = .ok (.checkcast 204, 3) := dk_192 0 204 (dk_at dksX0_call_5 0 rfl rfl)
theorem dX0_call_120 : decode cX0_call 120 = .ok (.goto 4, 3) := dk_167 0 4 (dk_at dksX0_call_5 3 rfl rfl)
theorem dX0_call_123 : decode cX0_call 123 = .ok (.aconst_null, 1) := dk_1 (dk_at dksX0_call_5 6 rfl rfl)
theorem dX0_call_124 : decode cX0_call 124 = .ok (.aload_n 0, 1) := dk_42 (dk_at dksX0_call_5 7 rfl rfl)
theorem dX0_call_125 : decode cX0_call 125 = .ok (.getfield 339, 3) := dk_180 1 83 (dk_at dksX0_call_5 8 rfl rfl)
theorem dX0_call_128 : decode cX0_call 128 = .ok (.iconst 0, 1) := dk_3 (dk_at dksX0_call_5 11 rfl rfl)
theorem dX0_call_129 : decode cX0_call 129 = .ok (.iconst 0, 1) := dk_3 (dk_at dksX0_call_5 12 rfl rfl)
theorem dX0_call_130 : decode cX0_call 130 = .ok (.aload 5, 2) := dk_25 5 (dk_at dksX0_call_5 13 rfl rfl)
theorem dX0_call_132 : decode cX0_call 132 = .ok (.invokevirtual 343, 3) := dk_182 1 87 (dk_at dksX0_call_5 15 rfl rfl)
theorem dX0_call_135 : decode cX0_call 135 = .ok (.aload 4, 2) := dk_25 4 (dk_at dksX0_call_5 18 rfl rfl)
theorem dX0_call_137 : decode cX0_call 137 = .ok (.aload 5, 2) := dk_25 5 (dk_at dksX0_call_5 20 rfl rfl)
theorem dX0_call_139 : decode cX0_call 139 = .ok (.invokevirtual 242, 3) := dk_182 0 242 (dk_at dksX0_call_6 0 rfl rfl)
theorem dX0_call_142 : decode cX0_call 142 = .ok (.return_, 1) := dk_177 (dk_at dksX0_call_6 3 rfl rfl)
abbrev cX0_run : ByteArray := prog_1_method_21_code
def yX0_run : MethodName := ⟨RX0, "run", "(LReflectMirror$Member;LReflectMirror$One;[LReflectMirror$Cell;IZLReflectMirror$Cell;)V"⟩
def dkwX0_run_9 : List UInt8 := [21, 4, 182, 1, 28, 191, 25, 6, 25, 10, 180, 1, 79, 182, 0, 242, 177]
abbrev dktX0_run_9 : List UInt8 := dkwX0_run_9 ++ []
def dkwX0_run_8 : List UInt8 := [21, 4, 182, 1, 28, 191, 58, 11, 42, 4, 25, 7, 21, 4, 182, 1, 28, 191, 58, 11, 42, 6, 25, 7]
abbrev dktX0_run_8 : List UInt8 := dkwX0_run_8 ++ dktX0_run_9
def dkwX0_run_7 : List UInt8 := [25, 11, 180, 1, 72, 16, 9, 160, 0, 8, 25, 11, 167, 0, 16, 42, 25, 11, 180, 1, 72, 25, 7]
abbrev dktX0_run_7 : List UInt8 := dkwX0_run_7 ++ dktX0_run_8
def dkwX0_run_6 : List UInt8 := [25, 9, 21, 4, 183, 1, 59, 58, 10, 25, 7, 180, 1, 62, 25, 10, 182, 1, 66, 167, 0, 58, 58, 11]
abbrev dktX0_run_6 : List UInt8 := dkwX0_run_6 ++ dktX0_run_7
def dkwX0_run_5 : List UInt8 := [50, 25, 7, 180, 1, 51, 21, 10, 50, 182, 1, 54, 132, 10, 1, 167, 255, 203, 187, 1, 57, 89, 44]
abbrev dktX0_run_5 : List UInt8 := dkwX0_run_5 ++ dktX0_run_6
def dkwX0_run_4 : List UInt8 := [187, 0, 76, 89, 183, 0, 233, 83, 25, 9, 21, 10, 50, 45, 21, 10, 50, 182, 0, 242, 25, 9, 21, 10]
abbrev dktX0_run_4 : List UInt8 := dkwX0_run_4 ++ dktX0_run_5
def dkwX0_run_3 : List UInt8 := [189, 0, 76, 58, 9, 3, 54, 10, 21, 10, 25, 7, 180, 1, 48, 162, 0, 49, 25, 9, 21, 10]
abbrev dktX0_run_3 : List UInt8 := dkwX0_run_3 ++ dktX0_run_4
def dkwX0_run_2 : List UInt8 := [199, 0, 13, 42, 16, 7, 43, 21, 4, 182, 1, 28, 191, 42, 180, 1, 39, 182, 1, 43, 54, 8, 6]
abbrev dktX0_run_2 : List UInt8 := dkwX0_run_2 ++ dktX0_run_3
def dkwX0_run_1 : List UInt8 := [182, 1, 32, 154, 0, 7, 43, 167, 0, 12, 42, 44, 180, 1, 35, 43, 182, 1, 36, 58, 7, 25, 7]
abbrev dktX0_run_1 : List UInt8 := dkwX0_run_1 ++ dktX0_run_2
def dkwX0_run_0 : List UInt8 := [21, 4, 16, 12, 161, 0, 13, 42, 16, 10, 43, 21, 4, 182, 1, 28, 191, 21, 5, 154, 0, 10, 43]
abbrev dktX0_run_0 : List UInt8 := dkwX0_run_0 ++ dktX0_run_1
theorem dksX0_run_0 : cX0_run.data.toList.drop 0 = dktX0_run_0 := by decide +kernel
theorem dksX0_run_1 : cX0_run.data.toList.drop 23 = dktX0_run_1 := dk_seg dksX0_run_0 23 rfl rfl
theorem dksX0_run_2 : cX0_run.data.toList.drop 46 = dktX0_run_2 := dk_seg dksX0_run_1 23 rfl rfl
theorem dksX0_run_3 : cX0_run.data.toList.drop 69 = dktX0_run_3 := dk_seg dksX0_run_2 23 rfl rfl
theorem dksX0_run_4 : cX0_run.data.toList.drop 91 = dktX0_run_4 := dk_seg dksX0_run_3 22 rfl rfl
theorem dksX0_run_5 : cX0_run.data.toList.drop 115 = dktX0_run_5 := dk_seg dksX0_run_4 24 rfl rfl
theorem dksX0_run_6 : cX0_run.data.toList.drop 138 = dktX0_run_6 := dk_seg dksX0_run_5 23 rfl rfl
theorem dksX0_run_7 : cX0_run.data.toList.drop 162 = dktX0_run_7 := dk_seg dksX0_run_6 24 rfl rfl
theorem dksX0_run_8 : cX0_run.data.toList.drop 185 = dktX0_run_8 := dk_seg dksX0_run_7 23 rfl rfl
theorem dksX0_run_9 : cX0_run.data.toList.drop 209 = dktX0_run_9 := dk_seg dksX0_run_8 24 rfl rfl
theorem dX0_run_0 : decode cX0_run 0 = .ok (.iload 4, 2) := dk_21 4 (dk_at dksX0_run_0 0 rfl rfl)
theorem dX0_run_2 : decode cX0_run 2 = .ok (.bipush 12, 2) := dk_16 12 (dk_at dksX0_run_0 2 rfl rfl)
theorem dX0_run_4 : decode cX0_run 4 = .ok (.if_icmp .lt 13, 3) := dk_161 0 13 (dk_at dksX0_run_0 4 rfl rfl)
theorem dX0_run_7 : decode cX0_run 7 = .ok (.aload_n 0, 1) := dk_42 (dk_at dksX0_run_0 7 rfl rfl)
theorem dX0_run_8 : decode cX0_run 8 = .ok (.bipush 10, 2) := dk_16 10 (dk_at dksX0_run_0 8 rfl rfl)
theorem dX0_run_10 : decode cX0_run 10 = .ok (.aload_n 1, 1) := dk_43 (dk_at dksX0_run_0 10 rfl rfl)
theorem dX0_run_11 : decode cX0_run 11 = .ok (.iload 4, 2) := dk_21 4 (dk_at dksX0_run_0 11 rfl rfl)
theorem dX0_run_13 : decode cX0_run 13 = .ok (.invokevirtual 284, 3) := dk_182 1 28 (dk_at dksX0_run_0 13 rfl rfl)
theorem dX0_run_16 : decode cX0_run 16 = .ok (.athrow, 1) := dk_191 (dk_at dksX0_run_0 16 rfl rfl)
theorem dX0_run_17 : decode cX0_run 17 = .ok (.iload 5, 2) := dk_21 5 (dk_at dksX0_run_0 17 rfl rfl)
theorem dX0_run_19 : decode cX0_run 19 = .ok (.ifCond .ne 10, 3) := dk_154 0 10 (dk_at dksX0_run_0 19 rfl rfl)
theorem dX0_run_22 : decode cX0_run 22 = .ok (.aload_n 1, 1) := dk_43 (dk_at dksX0_run_0 22 rfl rfl)
theorem dX0_run_23 : decode cX0_run 23 = .ok (.invokevirtual 288, 3) := dk_182 1 32 (dk_at dksX0_run_1 0 rfl rfl)
theorem dX0_run_26 : decode cX0_run 26 = .ok (.ifCond .ne 7, 3) := dk_154 0 7 (dk_at dksX0_run_1 3 rfl rfl)
theorem dX0_run_29 : decode cX0_run 29 = .ok (.aload_n 1, 1) := dk_43 (dk_at dksX0_run_1 6 rfl rfl)
theorem dX0_run_30 : decode cX0_run 30 = .ok (.goto 12, 3) := dk_167 0 12 (dk_at dksX0_run_1 7 rfl rfl)
theorem dX0_run_33 : decode cX0_run 33 = .ok (.aload_n 0, 1) := dk_42 (dk_at dksX0_run_1 10 rfl rfl)
theorem dX0_run_34 : decode cX0_run 34 = .ok (.aload_n 2, 1) := dk_44 (dk_at dksX0_run_1 11 rfl rfl)
theorem dX0_run_35 : decode cX0_run 35 = .ok (.getfield 291, 3) := dk_180 1 35 (dk_at dksX0_run_1 12 rfl rfl)
theorem dX0_run_38 : decode cX0_run 38 = .ok (.aload_n 1, 1) := dk_43 (dk_at dksX0_run_1 15 rfl rfl)
theorem dX0_run_39 : decode cX0_run 39 = .ok (.invokevirtual 292, 3) := dk_182 1 36 (dk_at dksX0_run_1 16 rfl rfl)
theorem dX0_run_42 : decode cX0_run 42 = .ok (.astore 7, 2) := dk_58 7 (dk_at dksX0_run_1 19 rfl rfl)
theorem dX0_run_44 : decode cX0_run 44 = .ok (.aload 7, 2) := dk_25 7 (dk_at dksX0_run_1 21 rfl rfl)
theorem dX0_run_46 : decode cX0_run 46 = .ok (.ifnonnull 13, 3) := dk_199 0 13 (dk_at dksX0_run_2 0 rfl rfl)
theorem dX0_run_49 : decode cX0_run 49 = .ok (.aload_n 0, 1) := dk_42 (dk_at dksX0_run_2 3 rfl rfl)
theorem dX0_run_50 : decode cX0_run 50 = .ok (.bipush 7, 2) := dk_16 7 (dk_at dksX0_run_2 4 rfl rfl)
theorem dX0_run_52 : decode cX0_run 52 = .ok (.aload_n 1, 1) := dk_43 (dk_at dksX0_run_2 6 rfl rfl)
theorem dX0_run_53 : decode cX0_run 53 = .ok (.iload 4, 2) := dk_21 4 (dk_at dksX0_run_2 7 rfl rfl)
theorem dX0_run_55 : decode cX0_run 55 = .ok (.invokevirtual 284, 3) := dk_182 1 28 (dk_at dksX0_run_2 9 rfl rfl)
theorem dX0_run_58 : decode cX0_run 58 = .ok (.athrow, 1) := dk_191 (dk_at dksX0_run_2 12 rfl rfl)
theorem dX0_run_59 : decode cX0_run 59 = .ok (.aload_n 0, 1) := dk_42 (dk_at dksX0_run_2 13 rfl rfl)
theorem dX0_run_60 : decode cX0_run 60 = .ok (.getfield 295, 3) := dk_180 1 39 (dk_at dksX0_run_2 14 rfl rfl)
theorem dX0_run_63 : decode cX0_run 63 = .ok (.invokevirtual 299, 3) := dk_182 1 43 (dk_at dksX0_run_2 17 rfl rfl)
theorem dX0_run_66 : decode cX0_run 66 = .ok (.istore 8, 2) := dk_54 8 (dk_at dksX0_run_2 20 rfl rfl)
theorem dX0_run_68 : decode cX0_run 68 = .ok (.iconst 3, 1) := dk_6 (dk_at dksX0_run_2 22 rfl rfl)
theorem dX0_run_69 : decode cX0_run 69 = .ok (.anewarray 76, 3) := dk_189 0 76 (dk_at dksX0_run_3 0 rfl rfl)
theorem dX0_run_72 : decode cX0_run 72 = .ok (.astore 9, 2) := dk_58 9 (dk_at dksX0_run_3 3 rfl rfl)
theorem dX0_run_74 : decode cX0_run 74 = .ok (.iconst 0, 1) := dk_3 (dk_at dksX0_run_3 5 rfl rfl)
theorem dX0_run_75 : decode cX0_run 75 = .ok (.istore 10, 2) := dk_54 10 (dk_at dksX0_run_3 6 rfl rfl)
theorem dX0_run_77 : decode cX0_run 77 = .ok (.iload 10, 2) := dk_21 10 (dk_at dksX0_run_3 8 rfl rfl)
theorem dX0_run_79 : decode cX0_run 79 = .ok (.aload 7, 2) := dk_25 7 (dk_at dksX0_run_3 10 rfl rfl)
theorem dX0_run_81 : decode cX0_run 81 = .ok (.getfield 304, 3) := dk_180 1 48 (dk_at dksX0_run_3 12 rfl rfl)
theorem dX0_run_84 : decode cX0_run 84 = .ok (.if_icmp .ge 49, 3) := dk_162 0 49 (dk_at dksX0_run_3 15 rfl rfl)
theorem dX0_run_87 : decode cX0_run 87 = .ok (.aload 9, 2) := dk_25 9 (dk_at dksX0_run_3 18 rfl rfl)
theorem dX0_run_89 : decode cX0_run 89 = .ok (.iload 10, 2) := dk_21 10 (dk_at dksX0_run_3 20 rfl rfl)
theorem dX0_run_91 : decode cX0_run 91 = .ok (.new 76, 3) := dk_187 0 76 (dk_at dksX0_run_4 0 rfl rfl)
theorem dX0_run_94 : decode cX0_run 94 = .ok (.dup, 1) := dk_89 (dk_at dksX0_run_4 3 rfl rfl)
theorem dX0_run_95 : decode cX0_run 95 = .ok (.invokespecial 233, 3) := dk_183 0 233 (dk_at dksX0_run_4 4 rfl rfl)
theorem dX0_run_98 : decode cX0_run 98 = .ok (.aastore, 1) := dk_83 (dk_at dksX0_run_4 7 rfl rfl)
theorem dX0_run_99 : decode cX0_run 99 = .ok (.aload 9, 2) := dk_25 9 (dk_at dksX0_run_4 8 rfl rfl)
theorem dX0_run_101 : decode cX0_run 101 = .ok (.iload 10, 2) := dk_21 10 (dk_at dksX0_run_4 10 rfl rfl)
theorem dX0_run_103 : decode cX0_run 103 = .ok (.aaload, 1) := dk_50 (dk_at dksX0_run_4 12 rfl rfl)
theorem dX0_run_104 : decode cX0_run 104 = .ok (.aload_n 3, 1) := dk_45 (dk_at dksX0_run_4 13 rfl rfl)
theorem dX0_run_105 : decode cX0_run 105 = .ok (.iload 10, 2) := dk_21 10 (dk_at dksX0_run_4 14 rfl rfl)
theorem dX0_run_107 : decode cX0_run 107 = .ok (.aaload, 1) := dk_50 (dk_at dksX0_run_4 16 rfl rfl)
theorem dX0_run_108 : decode cX0_run 108 = .ok (.invokevirtual 242, 3) := dk_182 0 242 (dk_at dksX0_run_4 17 rfl rfl)
theorem dX0_run_111 : decode cX0_run 111 = .ok (.aload 9, 2) := dk_25 9 (dk_at dksX0_run_4 20 rfl rfl)
theorem dX0_run_113 : decode cX0_run 113 = .ok (.iload 10, 2) := dk_21 10 (dk_at dksX0_run_4 22 rfl rfl)
theorem dX0_run_115 : decode cX0_run 115 = .ok (.aaload, 1) := dk_50 (dk_at dksX0_run_5 0 rfl rfl)
theorem dX0_run_116 : decode cX0_run 116 = .ok (.aload 7, 2) := dk_25 7 (dk_at dksX0_run_5 1 rfl rfl)
theorem dX0_run_118 : decode cX0_run 118 = .ok (.getfield 307, 3) := dk_180 1 51 (dk_at dksX0_run_5 3 rfl rfl)
theorem dX0_run_121 : decode cX0_run 121 = .ok (.iload 10, 2) := dk_21 10 (dk_at dksX0_run_5 6 rfl rfl)
theorem dX0_run_123 : decode cX0_run 123 = .ok (.aaload, 1) := dk_50 (dk_at dksX0_run_5 8 rfl rfl)
theorem dX0_run_124 : decode cX0_run 124 = .ok (.invokevirtual 310, 3) := dk_182 1 54 (dk_at dksX0_run_5 9 rfl rfl)
theorem dX0_run_127 : decode cX0_run 127 = .ok (.iinc 10 1, 3) := dk_132 10 1 (dk_at dksX0_run_5 12 rfl rfl)
theorem dX0_run_130 : decode cX0_run 130 = .ok (.goto (-53), 3) := dk_167 255 203 (dk_at dksX0_run_5 15 rfl rfl)
theorem dX0_run_133 : decode cX0_run 133 = .ok (.new 313, 3) := dk_187 1 57 (dk_at dksX0_run_5 18 rfl rfl)
theorem dX0_run_136 : decode cX0_run 136 = .ok (.dup, 1) := dk_89 (dk_at dksX0_run_5 21 rfl rfl)
theorem dX0_run_137 : decode cX0_run 137 = .ok (.aload_n 2, 1) := dk_44 (dk_at dksX0_run_5 22 rfl rfl)
theorem dX0_run_138 : decode cX0_run 138 = .ok (.aload 9, 2) := dk_25 9 (dk_at dksX0_run_6 0 rfl rfl)
theorem dX0_run_140 : decode cX0_run 140 = .ok (.iload 4, 2) := dk_21 4 (dk_at dksX0_run_6 2 rfl rfl)
theorem dX0_run_142 : decode cX0_run 142 = .ok (.invokespecial 315, 3) := dk_183 1 59 (dk_at dksX0_run_6 4 rfl rfl)
theorem dX0_run_145 : decode cX0_run 145 = .ok (.astore 10, 2) := dk_58 10 (dk_at dksX0_run_6 7 rfl rfl)
theorem dX0_run_147 : decode cX0_run 147 = .ok (.aload 7, 2) := dk_25 7 (dk_at dksX0_run_6 9 rfl rfl)
theorem dX0_run_149 : decode cX0_run 149 = .ok (.getfield 318, 3) := dk_180 1 62 (dk_at dksX0_run_6 11 rfl rfl)
theorem dX0_run_152 : decode cX0_run 152 = .ok (.aload 10, 2) := dk_25 10 (dk_at dksX0_run_6 14 rfl rfl)
theorem dX0_run_154 : decode cX0_run 154 = .ok (.invokevirtual 322, 3) := dk_182 1 66 (dk_at dksX0_run_6 16 rfl rfl)
theorem dX0_run_157 : decode cX0_run 157 = .ok (.goto 58, 3) := dk_167 0 58 (dk_at dksX0_run_6 19 rfl rfl)
theorem dX0_run_160 : decode cX0_run 160 = .ok (.astore 11, 2) := dk_58 11 (dk_at dksX0_run_6 22 rfl rfl)
theorem dX0_run_162 : decode cX0_run 162 = .ok (.aload 11, 2) := dk_25 11 (dk_at dksX0_run_7 0 rfl rfl)
theorem dX0_run_164 : decode cX0_run 164 = .ok (.getfield 328, 3) := dk_180 1 72 (dk_at dksX0_run_7 2 rfl rfl)
theorem dX0_run_167 : decode cX0_run 167 = .ok (.bipush 9, 2) := dk_16 9 (dk_at dksX0_run_7 5 rfl rfl)
theorem dX0_run_169 : decode cX0_run 169 = .ok (.if_icmp .ne 8, 3) := dk_160 0 8 (dk_at dksX0_run_7 7 rfl rfl)
theorem dX0_run_172 : decode cX0_run 172 = .ok (.aload 11, 2) := dk_25 11 (dk_at dksX0_run_7 10 rfl rfl)
theorem dX0_run_174 : decode cX0_run 174 = .ok (.goto 16, 3) := dk_167 0 16 (dk_at dksX0_run_7 12 rfl rfl)
theorem dX0_run_177 : decode cX0_run 177 = .ok (.aload_n 0, 1) := dk_42 (dk_at dksX0_run_7 15 rfl rfl)
theorem dX0_run_178 : decode cX0_run 178 = .ok (.aload 11, 2) := dk_25 11 (dk_at dksX0_run_7 16 rfl rfl)
theorem dX0_run_180 : decode cX0_run 180 = .ok (.getfield 328, 3) := dk_180 1 72 (dk_at dksX0_run_7 18 rfl rfl)
theorem dX0_run_183 : decode cX0_run 183 = .ok (.aload 7, 2) := dk_25 7 (dk_at dksX0_run_7 21 rfl rfl)
theorem dX0_run_185 : decode cX0_run 185 = .ok (.iload 4, 2) := dk_21 4 (dk_at dksX0_run_8 0 rfl rfl)
theorem dX0_run_187 : decode cX0_run 187 = .ok (.invokevirtual 284, 3) := dk_182 1 28 (dk_at dksX0_run_8 2 rfl rfl)
theorem dX0_run_190 : decode cX0_run 190 = .ok (.athrow, 1) := dk_191 (dk_at dksX0_run_8 5 rfl rfl)
theorem dX0_run_191 : decode cX0_run 191 = .ok (.astore 11, 2) := dk_58 11 (dk_at dksX0_run_8 6 rfl rfl)
theorem dX0_run_193 : decode cX0_run 193 = .ok (.aload_n 0, 1) := dk_42 (dk_at dksX0_run_8 8 rfl rfl)
theorem dX0_run_194 : decode cX0_run 194 = .ok (.iconst 1, 1) := dk_4 (dk_at dksX0_run_8 9 rfl rfl)
theorem dX0_run_195 : decode cX0_run 195 = .ok (.aload 7, 2) := dk_25 7 (dk_at dksX0_run_8 10 rfl rfl)
theorem dX0_run_197 : decode cX0_run 197 = .ok (.iload 4, 2) := dk_21 4 (dk_at dksX0_run_8 12 rfl rfl)
theorem dX0_run_199 : decode cX0_run 199 = .ok (.invokevirtual 284, 3) := dk_182 1 28 (dk_at dksX0_run_8 14 rfl rfl)
theorem dX0_run_202 : decode cX0_run 202 = .ok (.athrow, 1) := dk_191 (dk_at dksX0_run_8 17 rfl rfl)
theorem dX0_run_203 : decode cX0_run 203 = .ok (.astore 11, 2) := dk_58 11 (dk_at dksX0_run_8 18 rfl rfl)
theorem dX0_run_205 : decode cX0_run 205 = .ok (.aload_n 0, 1) := dk_42 (dk_at dksX0_run_8 20 rfl rfl)
theorem dX0_run_206 : decode cX0_run 206 = .ok (.iconst 3, 1) := dk_6 (dk_at dksX0_run_8 21 rfl rfl)
theorem dX0_run_207 : decode cX0_run 207 = .ok (.aload 7, 2) := dk_25 7 (dk_at dksX0_run_8 22 rfl rfl)
theorem dX0_run_209 : decode cX0_run 209 = .ok (.iload 4, 2) := dk_21 4 (dk_at dksX0_run_9 0 rfl rfl)
theorem dX0_run_211 : decode cX0_run 211 = .ok (.invokevirtual 284, 3) := dk_182 1 28 (dk_at dksX0_run_9 2 rfl rfl)
theorem dX0_run_214 : decode cX0_run 214 = .ok (.athrow, 1) := dk_191 (dk_at dksX0_run_9 5 rfl rfl)
theorem dX0_run_215 : decode cX0_run 215 = .ok (.aload 6, 2) := dk_25 6 (dk_at dksX0_run_9 6 rfl rfl)
theorem dX0_run_217 : decode cX0_run 217 = .ok (.aload 10, 2) := dk_25 10 (dk_at dksX0_run_9 8 rfl rfl)
theorem dX0_run_219 : decode cX0_run 219 = .ok (.getfield 335, 3) := dk_180 1 79 (dk_at dksX0_run_9 10 rfl rfl)
theorem dX0_run_222 : decode cX0_run 222 = .ok (.invokevirtual 242, 3) := dk_182 0 242 (dk_at dksX0_run_9 13 rfl rfl)
theorem dX0_run_225 : decode cX0_run 225 = .ok (.return_, 1) := dk_177 (dk_at dksX0_run_9 16 rfl rfl)
abbrev cX0_cause : ByteArray := prog_1_method_20_code
def yX0_cause : MethodName := ⟨RX0, "cause", "(ILReflectMirror$Member;I)LReflectMirror$Refusal;"⟩
def dkwX0_cause_1 : List UInt8 := [183, 0, 211, 176]
abbrev dktX0_cause_1 : List UInt8 := dkwX0_cause_1 ++ []
def dkwX0_cause_0 : List UInt8 := [42, 27, 181, 1, 19, 42, 44, 180, 0, 222, 181, 1, 22, 42, 29, 181, 1, 25, 187, 0, 209, 89, 16, 9]
abbrev dktX0_cause_0 : List UInt8 := dkwX0_cause_0 ++ dktX0_cause_1
theorem dksX0_cause_0 : cX0_cause.data.toList.drop 0 = dktX0_cause_0 := by decide +kernel
theorem dksX0_cause_1 : cX0_cause.data.toList.drop 24 = dktX0_cause_1 := dk_seg dksX0_cause_0 24 rfl rfl
theorem dX0_cause_0 : decode cX0_cause 0 = .ok (.aload_n 0, 1) := dk_42 (dk_at dksX0_cause_0 0 rfl rfl)
theorem dX0_cause_1 : decode cX0_cause 1 = .ok (.iload_n 1, 1) := dk_27 (dk_at dksX0_cause_0 1 rfl rfl)
theorem dX0_cause_2 : decode cX0_cause 2 = .ok (.putfield 275, 3) := dk_181 1 19 (dk_at dksX0_cause_0 2 rfl rfl)
theorem dX0_cause_5 : decode cX0_cause 5 = .ok (.aload_n 0, 1) := dk_42 (dk_at dksX0_cause_0 5 rfl rfl)
theorem dX0_cause_6 : decode cX0_cause 6 = .ok (.aload_n 2, 1) := dk_44 (dk_at dksX0_cause_0 6 rfl rfl)
theorem dX0_cause_7 : decode cX0_cause 7 = .ok (.getfield 222, 3) := dk_180 0 222 (dk_at dksX0_cause_0 7 rfl rfl)
theorem dX0_cause_10 : decode cX0_cause 10 = .ok (.putfield 278, 3) := dk_181 1 22 (dk_at dksX0_cause_0 10 rfl rfl)
theorem dX0_cause_13 : decode cX0_cause 13 = .ok (.aload_n 0, 1) := dk_42 (dk_at dksX0_cause_0 13 rfl rfl)
theorem dX0_cause_14 : decode cX0_cause 14 = .ok (.iload_n 3, 1) := dk_29 (dk_at dksX0_cause_0 14 rfl rfl)
theorem dX0_cause_15 : decode cX0_cause 15 = .ok (.putfield 281, 3) := dk_181 1 25 (dk_at dksX0_cause_0 15 rfl rfl)
theorem dX0_cause_18 : decode cX0_cause 18 = .ok (.new 209, 3) := dk_187 0 209 (dk_at dksX0_cause_0 18 rfl rfl)
theorem dX0_cause_21 : decode cX0_cause 21 = .ok (.dup, 1) := dk_89 (dk_at dksX0_cause_0 21 rfl rfl)
theorem dX0_cause_22 : decode cX0_cause 22 = .ok (.bipush 9, 2) := dk_16 9 (dk_at dksX0_cause_0 22 rfl rfl)
theorem dX0_cause_24 : decode cX0_cause 24 = .ok (.invokespecial 211, 3) := dk_183 0 211 (dk_at dksX0_cause_1 0 rfl rfl)
theorem dX0_cause_27 : decode cX0_cause 27 = .ok (.areturn, 1) := dk_176 (dk_at dksX0_cause_1 3 rfl rfl)
abbrev cX0_thing : ByteArray := prog_1_method_61_code
def yX0_thing : MethodName := ⟨RX0, "thing", "(II)I"⟩
def dkwX0_thing_3 : List UInt8 := [87, 2, 172]
abbrev dktX0_thing_3 : List UInt8 := dkwX0_thing_3 ++ []
def dkwX0_thing_2 : List UInt8 := [167, 0, 26, 45, 193, 1, 1, 153, 0, 13, 45, 192, 1, 1, 180, 2, 77, 167, 0, 9, 45, 184, 2, 80]
abbrev dktX0_thing_2 : List UInt8 := dkwX0_thing_2 ++ dktX0_thing_3
def dkwX0_thing_1 : List UInt8 := [160, 0, 5, 3, 172, 42, 180, 1, 144, 27, 50, 78, 28, 154, 0, 13, 45, 180, 0, 192, 182, 1, 172]
abbrev dktX0_thing_1 : List UInt8 := dkwX0_thing_1 ++ dktX0_thing_2
def dkwX0_thing_0 : List UInt8 := [42, 27, 182, 2, 68, 153, 0, 13, 28, 133, 9, 10, 184, 1, 163, 154, 0, 6, 16, 254, 172, 27, 2]
abbrev dktX0_thing_0 : List UInt8 := dkwX0_thing_0 ++ dktX0_thing_1
theorem dksX0_thing_0 : cX0_thing.data.toList.drop 0 = dktX0_thing_0 := by decide +kernel
theorem dksX0_thing_1 : cX0_thing.data.toList.drop 23 = dktX0_thing_1 := dk_seg dksX0_thing_0 23 rfl rfl
theorem dksX0_thing_2 : cX0_thing.data.toList.drop 46 = dktX0_thing_2 := dk_seg dksX0_thing_1 23 rfl rfl
theorem dksX0_thing_3 : cX0_thing.data.toList.drop 70 = dktX0_thing_3 := dk_seg dksX0_thing_2 24 rfl rfl
theorem dX0_thing_0 : decode cX0_thing 0 = .ok (.aload_n 0, 1) := dk_42 (dk_at dksX0_thing_0 0 rfl rfl)
theorem dX0_thing_1 : decode cX0_thing 1 = .ok (.iload_n 1, 1) := dk_27 (dk_at dksX0_thing_0 1 rfl rfl)
theorem dX0_thing_2 : decode cX0_thing 2 = .ok (.invokevirtual 580, 3) := dk_182 2 68 (dk_at dksX0_thing_0 2 rfl rfl)
theorem dX0_thing_5 : decode cX0_thing 5 = .ok (.ifCond .eq 13, 3) := dk_153 0 13 (dk_at dksX0_thing_0 5 rfl rfl)
theorem dX0_thing_8 : decode cX0_thing 8 = .ok (.iload_n 2, 1) := dk_28 (dk_at dksX0_thing_0 8 rfl rfl)
theorem dX0_thing_9 : decode cX0_thing 9 = .ok (.i2l, 1) := dk_133 (dk_at dksX0_thing_0 9 rfl rfl)
theorem dX0_thing_10 : decode cX0_thing 10 = .ok (.lconst 0, 1) := dk_9 (dk_at dksX0_thing_0 10 rfl rfl)
theorem dX0_thing_11 : decode cX0_thing 11 = .ok (.lconst 1, 1) := dk_10 (dk_at dksX0_thing_0 11 rfl rfl)
theorem dX0_thing_12 : decode cX0_thing 12 = .ok (.invokestatic 419, 3) := dk_184 1 163 (dk_at dksX0_thing_0 12 rfl rfl)
theorem dX0_thing_15 : decode cX0_thing 15 = .ok (.ifCond .ne 6, 3) := dk_154 0 6 (dk_at dksX0_thing_0 15 rfl rfl)
theorem dX0_thing_18 : decode cX0_thing 18 = .ok (.bipush (-2), 2) := dk_16 254 (dk_at dksX0_thing_0 18 rfl rfl)
theorem dX0_thing_20 : decode cX0_thing 20 = .ok (.ireturn, 1) := dk_172 (dk_at dksX0_thing_0 20 rfl rfl)
theorem dX0_thing_21 : decode cX0_thing 21 = .ok (.iload_n 1, 1) := dk_27 (dk_at dksX0_thing_0 21 rfl rfl)
theorem dX0_thing_22 : decode cX0_thing 22 = .ok (.iconst (-1), 1) := dk_2 (dk_at dksX0_thing_0 22 rfl rfl)
theorem dX0_thing_23 : decode cX0_thing 23 = .ok (.if_icmp .ne 5, 3) := dk_160 0 5 (dk_at dksX0_thing_1 0 rfl rfl)
theorem dX0_thing_26 : decode cX0_thing 26 = .ok (.iconst 0, 1) := dk_3 (dk_at dksX0_thing_1 3 rfl rfl)
theorem dX0_thing_27 : decode cX0_thing 27 = .ok (.ireturn, 1) := dk_172 (dk_at dksX0_thing_1 4 rfl rfl)
theorem dX0_thing_28 : decode cX0_thing 28 = .ok (.aload_n 0, 1) := dk_42 (dk_at dksX0_thing_1 5 rfl rfl)
theorem dX0_thing_29 : decode cX0_thing 29 = .ok (.getfield 400, 3) := dk_180 1 144 (dk_at dksX0_thing_1 6 rfl rfl)
theorem dX0_thing_32 : decode cX0_thing 32 = .ok (.iload_n 1, 1) := dk_27 (dk_at dksX0_thing_1 9 rfl rfl)
theorem dX0_thing_33 : decode cX0_thing 33 = .ok (.aaload, 1) := dk_50 (dk_at dksX0_thing_1 10 rfl rfl)
theorem dX0_thing_34 : decode cX0_thing 34 = .ok (.astore_n 3, 1) := dk_78 (dk_at dksX0_thing_1 11 rfl rfl)
theorem dX0_thing_35 : decode cX0_thing 35 = .ok (.iload_n 2, 1) := dk_28 (dk_at dksX0_thing_1 12 rfl rfl)
theorem dX0_thing_36 : decode cX0_thing 36 = .ok (.ifCond .ne 13, 3) := dk_154 0 13 (dk_at dksX0_thing_1 13 rfl rfl)
theorem dX0_thing_39 : decode cX0_thing 39 = .ok (.aload_n 3, 1) := dk_45 (dk_at dksX0_thing_1 16 rfl rfl)
theorem dX0_thing_40 : decode cX0_thing 40 = .ok (.getfield 192, 3) := dk_180 0 192 (dk_at dksX0_thing_1 17 rfl rfl)
theorem dX0_thing_43 : decode cX0_thing 43 = .ok (.invokevirtual 428, 3) := dk_182 1 172 (dk_at dksX0_thing_1 20 rfl rfl)
theorem dX0_thing_46 : decode cX0_thing 46 = .ok (.goto 26, 3) := dk_167 0 26 (dk_at dksX0_thing_2 0 rfl rfl)
theorem dX0_thing_49 : decode cX0_thing 49 = .ok (.aload_n 3, 1) := dk_45 (dk_at dksX0_thing_2 3 rfl rfl)
theorem dX0_thing_50 : decode cX0_thing 50 = .ok (.instanceof 257, 3) := dk_193 1 1 (dk_at dksX0_thing_2 4 rfl rfl)
theorem dX0_thing_53 : decode cX0_thing 53 = .ok (.ifCond .eq 13, 3) := dk_153 0 13 (dk_at dksX0_thing_2 7 rfl rfl)
theorem dX0_thing_56 : decode cX0_thing 56 = .ok (.aload_n 3, 1) := dk_45 (dk_at dksX0_thing_2 10 rfl rfl)
theorem dX0_thing_57 : decode cX0_thing 57 = .ok (.checkcast 257, 3) := dk_192 1 1 (dk_at dksX0_thing_2 11 rfl rfl)
theorem dX0_thing_60 : decode cX0_thing 60 = .ok (.getfield 589, 3) := dk_180 2 77 (dk_at dksX0_thing_2 14 rfl rfl)
theorem dX0_thing_63 : decode cX0_thing 63 = .ok (.goto 9, 3) := dk_167 0 9 (dk_at dksX0_thing_2 17 rfl rfl)
theorem dX0_thing_66 : decode cX0_thing 66 = .ok (.aload_n 3, 1) := dk_45 (dk_at dksX0_thing_2 20 rfl rfl)
theorem dX0_thing_67 : decode cX0_thing 67 = .ok (.invokestatic 592, 3) := dk_184 2 80 (dk_at dksX0_thing_2 21 rfl rfl)
theorem dX0_thing_70 : decode cX0_thing 70 = .ok (.pop, 1) := dk_87 (dk_at dksX0_thing_3 0 rfl rfl)
theorem dX0_thing_71 : decode cX0_thing 71 = .ok (.iconst (-1), 1) := dk_2 (dk_at dksX0_thing_3 1 rfl rfl)
theorem dX0_thing_72 : decode cX0_thing 72 = .ok (.ireturn, 1) := dk_172 (dk_at dksX0_thing_3 2 rfl rfl)
abbrev cX0_slot : ByteArray := prog_1_method_64_code
def yX0_slot : MethodName := ⟨RX0, "slot", "(IIJ)I"⟩
def dkwX0_slot_3 : List UInt8 := [136, 182, 1, 91, 167, 0, 4, 1, 181, 0, 125, 4, 172]
abbrev dktX0_slot_3 : List UInt8 := dkwX0_slot_3 ++ []
def dkwX0_slot_2 : List UInt8 := [28, 16, 8, 160, 0, 7, 9, 167, 0, 4, 33, 181, 0, 75, 25, 5, 28, 16, 8, 160, 0, 12, 42, 33]
abbrev dktX0_slot_2 : List UInt8 := dkwX0_slot_2 ++ dktX0_slot_3
def dkwX0_slot_1 : List UInt8 := [182, 2, 101, 154, 0, 5, 2, 172, 42, 180, 1, 83, 27, 50, 58, 5, 25, 5, 28, 181, 0, 129, 25, 5]
abbrev dktX0_slot_1 : List UInt8 := dkwX0_slot_1 ++ dktX0_slot_2
def dkwX0_slot_0 : List UInt8 := [27, 184, 2, 98, 153, 0, 24, 28, 133, 9, 20, 2, 37, 184, 1, 163, 153, 0, 12, 42, 28, 33]
abbrev dktX0_slot_0 : List UInt8 := dkwX0_slot_0 ++ dktX0_slot_1
theorem dksX0_slot_0 : cX0_slot.data.toList.drop 0 = dktX0_slot_0 := by decide +kernel
theorem dksX0_slot_1 : cX0_slot.data.toList.drop 22 = dktX0_slot_1 := dk_seg dksX0_slot_0 22 rfl rfl
theorem dksX0_slot_2 : cX0_slot.data.toList.drop 46 = dktX0_slot_2 := dk_seg dksX0_slot_1 24 rfl rfl
theorem dksX0_slot_3 : cX0_slot.data.toList.drop 70 = dktX0_slot_3 := dk_seg dksX0_slot_2 24 rfl rfl
theorem dX0_slot_0 : decode cX0_slot 0 = .ok (.iload_n 1, 1) := dk_27 (dk_at dksX0_slot_0 0 rfl rfl)
theorem dX0_slot_1 : decode cX0_slot 1 = .ok (.invokestatic 610, 3) := dk_184 2 98 (dk_at dksX0_slot_0 1 rfl rfl)
theorem dX0_slot_4 : decode cX0_slot 4 = .ok (.ifCond .eq 24, 3) := dk_153 0 24 (dk_at dksX0_slot_0 4 rfl rfl)
theorem dX0_slot_7 : decode cX0_slot 7 = .ok (.iload_n 2, 1) := dk_28 (dk_at dksX0_slot_0 7 rfl rfl)
theorem dX0_slot_8 : decode cX0_slot 8 = .ok (.i2l, 1) := dk_133 (dk_at dksX0_slot_0 8 rfl rfl)
theorem dX0_slot_9 : decode cX0_slot 9 = .ok (.lconst 0, 1) := dk_9 (dk_at dksX0_slot_0 9 rfl rfl)
theorem dX0_slot_10 : decode cX0_slot 10 = .ok (.ldc2_w 549, 3) := dk_20 2 37 (dk_at dksX0_slot_0 10 rfl rfl)
theorem dX0_slot_13 : decode cX0_slot 13 = .ok (.invokestatic 419, 3) := dk_184 1 163 (dk_at dksX0_slot_0 13 rfl rfl)
theorem dX0_slot_16 : decode cX0_slot 16 = .ok (.ifCond .eq 12, 3) := dk_153 0 12 (dk_at dksX0_slot_0 16 rfl rfl)
theorem dX0_slot_19 : decode cX0_slot 19 = .ok (.aload_n 0, 1) := dk_42 (dk_at dksX0_slot_0 19 rfl rfl)
theorem dX0_slot_20 : decode cX0_slot 20 = .ok (.iload_n 2, 1) := dk_28 (dk_at dksX0_slot_0 20 rfl rfl)
theorem dX0_slot_21 : decode cX0_slot 21 = .ok (.lload_n 3, 1) := dk_33 (dk_at dksX0_slot_0 21 rfl rfl)
theorem dX0_slot_22 : decode cX0_slot 22 = .ok (.invokevirtual 613, 3) := dk_182 2 101 (dk_at dksX0_slot_1 0 rfl rfl)
theorem dX0_slot_25 : decode cX0_slot 25 = .ok (.ifCond .ne 5, 3) := dk_154 0 5 (dk_at dksX0_slot_1 3 rfl rfl)
theorem dX0_slot_28 : decode cX0_slot 28 = .ok (.iconst (-1), 1) := dk_2 (dk_at dksX0_slot_1 6 rfl rfl)
theorem dX0_slot_29 : decode cX0_slot 29 = .ok (.ireturn, 1) := dk_172 (dk_at dksX0_slot_1 7 rfl rfl)
theorem dX0_slot_30 : decode cX0_slot 30 = .ok (.aload_n 0, 1) := dk_42 (dk_at dksX0_slot_1 8 rfl rfl)
theorem dX0_slot_31 : decode cX0_slot 31 = .ok (.getfield 339, 3) := dk_180 1 83 (dk_at dksX0_slot_1 9 rfl rfl)
theorem dX0_slot_34 : decode cX0_slot 34 = .ok (.iload_n 1, 1) := dk_27 (dk_at dksX0_slot_1 12 rfl rfl)
theorem dX0_slot_35 : decode cX0_slot 35 = .ok (.aaload, 1) := dk_50 (dk_at dksX0_slot_1 13 rfl rfl)
theorem dX0_slot_36 : decode cX0_slot 36 = .ok (.astore 5, 2) := dk_58 5 (dk_at dksX0_slot_1 14 rfl rfl)
theorem dX0_slot_38 : decode cX0_slot 38 = .ok (.aload 5, 2) := dk_25 5 (dk_at dksX0_slot_1 16 rfl rfl)
theorem dX0_slot_40 : decode cX0_slot 40 = .ok (.iload_n 2, 1) := dk_28 (dk_at dksX0_slot_1 18 rfl rfl)
theorem dX0_slot_41 : decode cX0_slot 41 = .ok (.putfield 129, 3) := dk_181 0 129 (dk_at dksX0_slot_1 19 rfl rfl)
theorem dX0_slot_44 : decode cX0_slot 44 = .ok (.aload 5, 2) := dk_25 5 (dk_at dksX0_slot_1 22 rfl rfl)
theorem dX0_slot_46 : decode cX0_slot 46 = .ok (.iload_n 2, 1) := dk_28 (dk_at dksX0_slot_2 0 rfl rfl)
theorem dX0_slot_47 : decode cX0_slot 47 = .ok (.bipush 8, 2) := dk_16 8 (dk_at dksX0_slot_2 1 rfl rfl)
theorem dX0_slot_49 : decode cX0_slot 49 = .ok (.if_icmp .ne 7, 3) := dk_160 0 7 (dk_at dksX0_slot_2 3 rfl rfl)
theorem dX0_slot_52 : decode cX0_slot 52 = .ok (.lconst 0, 1) := dk_9 (dk_at dksX0_slot_2 6 rfl rfl)
theorem dX0_slot_53 : decode cX0_slot 53 = .ok (.goto 4, 3) := dk_167 0 4 (dk_at dksX0_slot_2 7 rfl rfl)
theorem dX0_slot_56 : decode cX0_slot 56 = .ok (.lload_n 3, 1) := dk_33 (dk_at dksX0_slot_2 10 rfl rfl)
theorem dX0_slot_57 : decode cX0_slot 57 = .ok (.putfield 75, 3) := dk_181 0 75 (dk_at dksX0_slot_2 11 rfl rfl)
theorem dX0_slot_60 : decode cX0_slot 60 = .ok (.aload 5, 2) := dk_25 5 (dk_at dksX0_slot_2 14 rfl rfl)
theorem dX0_slot_62 : decode cX0_slot 62 = .ok (.iload_n 2, 1) := dk_28 (dk_at dksX0_slot_2 16 rfl rfl)
theorem dX0_slot_63 : decode cX0_slot 63 = .ok (.bipush 8, 2) := dk_16 8 (dk_at dksX0_slot_2 17 rfl rfl)
theorem dX0_slot_65 : decode cX0_slot 65 = .ok (.if_icmp .ne 12, 3) := dk_160 0 12 (dk_at dksX0_slot_2 19 rfl rfl)
theorem dX0_slot_68 : decode cX0_slot 68 = .ok (.aload_n 0, 1) := dk_42 (dk_at dksX0_slot_2 22 rfl rfl)
theorem dX0_slot_69 : decode cX0_slot 69 = .ok (.lload_n 3, 1) := dk_33 (dk_at dksX0_slot_2 23 rfl rfl)
theorem dX0_slot_70 : decode cX0_slot 70 = .ok (.l2i, 1) := dk_136 (dk_at dksX0_slot_3 0 rfl rfl)
theorem dX0_slot_71 : decode cX0_slot 71 = .ok (.invokevirtual 347, 3) := dk_182 1 91 (dk_at dksX0_slot_3 1 rfl rfl)
theorem dX0_slot_74 : decode cX0_slot 74 = .ok (.goto 4, 3) := dk_167 0 4 (dk_at dksX0_slot_3 4 rfl rfl)
theorem dX0_slot_77 : decode cX0_slot 77 = .ok (.aconst_null, 1) := dk_1 (dk_at dksX0_slot_3 7 rfl rfl)
theorem dX0_slot_78 : decode cX0_slot 78 = .ok (.putfield 125, 3) := dk_181 0 125 (dk_at dksX0_slot_3 8 rfl rfl)
theorem dX0_slot_81 : decode cX0_slot 81 = .ok (.iconst 1, 1) := dk_4 (dk_at dksX0_slot_3 11 rfl rfl)
theorem dX0_slot_82 : decode cX0_slot 82 = .ok (.ireturn, 1) := dk_172 (dk_at dksX0_slot_3 12 rfl rfl)
abbrev cX0_isSlot : ByteArray := prog_1_method_63_code
def yX0_isSlot : MethodName := ⟨RX0, "isSlot", "(I)Z"⟩
def dkwX0_isSlot_0 : List UInt8 := [26, 133, 9, 20, 2, 96, 184, 1, 163, 172]
abbrev dktX0_isSlot_0 : List UInt8 := dkwX0_isSlot_0 ++ []
theorem dksX0_isSlot_0 : cX0_isSlot.data.toList.drop 0 = dktX0_isSlot_0 := by decide +kernel
theorem dX0_isSlot_0 : decode cX0_isSlot 0 = .ok (.iload_n 0, 1) := dk_26 (dk_at dksX0_isSlot_0 0 rfl rfl)
theorem dX0_isSlot_1 : decode cX0_isSlot 1 = .ok (.i2l, 1) := dk_133 (dk_at dksX0_isSlot_0 1 rfl rfl)
theorem dX0_isSlot_2 : decode cX0_isSlot 2 = .ok (.lconst 0, 1) := dk_9 (dk_at dksX0_isSlot_0 2 rfl rfl)
theorem dX0_isSlot_3 : decode cX0_isSlot 3 = .ok (.ldc2_w 608, 3) := dk_20 2 96 (dk_at dksX0_isSlot_0 3 rfl rfl)
theorem dX0_isSlot_6 : decode cX0_isSlot 6 = .ok (.invokestatic 419, 3) := dk_184 1 163 (dk_at dksX0_isSlot_0 6 rfl rfl)
theorem dX0_isSlot_9 : decode cX0_isSlot 9 = .ok (.ireturn, 1) := dk_172 (dk_at dksX0_isSlot_0 9 rfl rfl)
abbrev cX0_isFit : ByteArray := prog_1_method_62_code
def yX0_isFit : MethodName := ⟨RX0, "isFit", "(IJ)Z"⟩
def dkwX0_isFit_7 : List UInt8 := [184, 1, 163, 172]
abbrev dktX0_isFit_7 : List UInt8 := dkwX0_isFit_7 ++ []
def dkwX0_isFit_6 : List UInt8 := [20, 2, 94, 148, 157, 0, 7, 4, 167, 0, 4, 3, 172, 32, 20, 1, 167, 42, 180, 1, 120, 4, 100, 133]
abbrev dktX0_isFit_6 : List UInt8 := dkwX0_isFit_6 ++ dktX0_isFit_7
def dkwX0_isFit_5 : List UInt8 := [32, 20, 2, 88, 127, 20, 2, 90, 148, 157, 0, 7, 4, 167, 0, 4, 3, 172, 32, 20, 2, 92, 127]
abbrev dktX0_isFit_5 : List UInt8 := dkwX0_isFit_5 ++ dktX0_isFit_6
def dkwX0_isFit_4 : List UInt8 := [32, 32, 136, 133, 148, 154, 0, 7, 4, 167, 0, 4, 3, 172, 4, 172, 32, 32, 136, 133, 148, 154, 0, 19]
abbrev dktX0_isFit_4 : List UInt8 := dkwX0_isFit_4 ++ dktX0_isFit_5
def dkwX0_isFit_3 : List UInt8 := [154, 0, 7, 4, 167, 0, 4, 3, 172, 32, 32, 136, 147, 133, 148, 154, 0, 7, 4, 167, 0, 4, 3, 172]
abbrev dktX0_isFit_3 : List UInt8 := dkwX0_isFit_3 ++ dktX0_isFit_4
def dkwX0_isFit_2 : List UInt8 := [32, 9, 10, 184, 1, 163, 172, 32, 9, 20, 2, 86, 184, 1, 163, 172, 32, 32, 136, 145, 133, 148]
abbrev dktX0_isFit_2 : List UInt8 := dkwX0_isFit_2 ++ dktX0_isFit_3
def dkwX0_isFit_1 : List UInt8 := [170, 0, 0, 0, 0, 0, 153, 0, 0, 0, 0, 0, 0, 0, 7, 0, 0, 0, 47, 0, 0, 0, 54, 0, 0, 0, 63, 0, 0, 0, 78, 0, 0, 0, 93, 0, 0, 0, 107, 0, 0, 0, 109, 0, 0, 0, 135]
abbrev dktX0_isFit_1 : List UInt8 := dkwX0_isFit_1 ++ dktX0_isFit_2
def dkwX0_isFit_0 : List UInt8 := [27]
abbrev dktX0_isFit_0 : List UInt8 := dkwX0_isFit_0 ++ dktX0_isFit_1
theorem dksX0_isFit_0 : cX0_isFit.data.toList.drop 0 = dktX0_isFit_0 := by decide +kernel
theorem dksX0_isFit_1 : cX0_isFit.data.toList.drop 1 = dktX0_isFit_1 := dk_seg dksX0_isFit_0 1 rfl rfl
theorem dksX0_isFit_2 : cX0_isFit.data.toList.drop 48 = dktX0_isFit_2 := dk_seg dksX0_isFit_1 47 rfl rfl
theorem dksX0_isFit_3 : cX0_isFit.data.toList.drop 70 = dktX0_isFit_3 := dk_seg dksX0_isFit_2 22 rfl rfl
theorem dksX0_isFit_4 : cX0_isFit.data.toList.drop 94 = dktX0_isFit_4 := dk_seg dksX0_isFit_3 24 rfl rfl
theorem dksX0_isFit_5 : cX0_isFit.data.toList.drop 118 = dktX0_isFit_5 := dk_seg dksX0_isFit_4 24 rfl rfl
theorem dksX0_isFit_6 : cX0_isFit.data.toList.drop 141 = dktX0_isFit_6 := dk_seg dksX0_isFit_5 23 rfl rfl
theorem dksX0_isFit_7 : cX0_isFit.data.toList.drop 165 = dktX0_isFit_7 := dk_seg dksX0_isFit_6 24 rfl rfl
theorem dX0_isFit_0 : decode cX0_isFit 0 = .ok (.iload_n 1, 1) := dk_27 (dk_at dksX0_isFit_0 0 rfl rfl)
theorem dX0_isFit_1 : decode cX0_isFit 1 = .ok (.tableswitch 153 0 7 #[47, 54, 63, 78, 93, 107, 109, 135], 47) := by decide +kernel
theorem dX0_isFit_48 : decode cX0_isFit 48 = .ok (.lload_n 2, 1) := dk_32 (dk_at dksX0_isFit_2 0 rfl rfl)
theorem dX0_isFit_49 : decode cX0_isFit 49 = .ok (.lconst 0, 1) := dk_9 (dk_at dksX0_isFit_2 1 rfl rfl)
theorem dX0_isFit_50 : decode cX0_isFit 50 = .ok (.lconst 1, 1) := dk_10 (dk_at dksX0_isFit_2 2 rfl rfl)
theorem dX0_isFit_51 : decode cX0_isFit 51 = .ok (.invokestatic 419, 3) := dk_184 1 163 (dk_at dksX0_isFit_2 3 rfl rfl)
theorem dX0_isFit_54 : decode cX0_isFit 54 = .ok (.ireturn, 1) := dk_172 (dk_at dksX0_isFit_2 6 rfl rfl)
theorem dX0_isFit_55 : decode cX0_isFit 55 = .ok (.lload_n 2, 1) := dk_32 (dk_at dksX0_isFit_2 7 rfl rfl)
theorem dX0_isFit_56 : decode cX0_isFit 56 = .ok (.lconst 0, 1) := dk_9 (dk_at dksX0_isFit_2 8 rfl rfl)
theorem dX0_isFit_57 : decode cX0_isFit 57 = .ok (.ldc2_w 598, 3) := dk_20 2 86 (dk_at dksX0_isFit_2 9 rfl rfl)
theorem dX0_isFit_60 : decode cX0_isFit 60 = .ok (.invokestatic 419, 3) := dk_184 1 163 (dk_at dksX0_isFit_2 12 rfl rfl)
theorem dX0_isFit_63 : decode cX0_isFit 63 = .ok (.ireturn, 1) := dk_172 (dk_at dksX0_isFit_2 15 rfl rfl)
theorem dX0_isFit_64 : decode cX0_isFit 64 = .ok (.lload_n 2, 1) := dk_32 (dk_at dksX0_isFit_2 16 rfl rfl)
theorem dX0_isFit_65 : decode cX0_isFit 65 = .ok (.lload_n 2, 1) := dk_32 (dk_at dksX0_isFit_2 17 rfl rfl)
theorem dX0_isFit_66 : decode cX0_isFit 66 = .ok (.l2i, 1) := dk_136 (dk_at dksX0_isFit_2 18 rfl rfl)
theorem dX0_isFit_67 : decode cX0_isFit 67 = .ok (.i2b, 1) := dk_145 (dk_at dksX0_isFit_2 19 rfl rfl)
theorem dX0_isFit_68 : decode cX0_isFit 68 = .ok (.i2l, 1) := dk_133 (dk_at dksX0_isFit_2 20 rfl rfl)
theorem dX0_isFit_69 : decode cX0_isFit 69 = .ok (.lcmp, 1) := dk_148 (dk_at dksX0_isFit_2 21 rfl rfl)
theorem dX0_isFit_70 : decode cX0_isFit 70 = .ok (.ifCond .ne 7, 3) := dk_154 0 7 (dk_at dksX0_isFit_3 0 rfl rfl)
theorem dX0_isFit_73 : decode cX0_isFit 73 = .ok (.iconst 1, 1) := dk_4 (dk_at dksX0_isFit_3 3 rfl rfl)
theorem dX0_isFit_74 : decode cX0_isFit 74 = .ok (.goto 4, 3) := dk_167 0 4 (dk_at dksX0_isFit_3 4 rfl rfl)
theorem dX0_isFit_77 : decode cX0_isFit 77 = .ok (.iconst 0, 1) := dk_3 (dk_at dksX0_isFit_3 7 rfl rfl)
theorem dX0_isFit_78 : decode cX0_isFit 78 = .ok (.ireturn, 1) := dk_172 (dk_at dksX0_isFit_3 8 rfl rfl)
theorem dX0_isFit_79 : decode cX0_isFit 79 = .ok (.lload_n 2, 1) := dk_32 (dk_at dksX0_isFit_3 9 rfl rfl)
theorem dX0_isFit_80 : decode cX0_isFit 80 = .ok (.lload_n 2, 1) := dk_32 (dk_at dksX0_isFit_3 10 rfl rfl)
theorem dX0_isFit_81 : decode cX0_isFit 81 = .ok (.l2i, 1) := dk_136 (dk_at dksX0_isFit_3 11 rfl rfl)
theorem dX0_isFit_82 : decode cX0_isFit 82 = .ok (.i2s, 1) := dk_147 (dk_at dksX0_isFit_3 12 rfl rfl)
theorem dX0_isFit_83 : decode cX0_isFit 83 = .ok (.i2l, 1) := dk_133 (dk_at dksX0_isFit_3 13 rfl rfl)
theorem dX0_isFit_84 : decode cX0_isFit 84 = .ok (.lcmp, 1) := dk_148 (dk_at dksX0_isFit_3 14 rfl rfl)
theorem dX0_isFit_85 : decode cX0_isFit 85 = .ok (.ifCond .ne 7, 3) := dk_154 0 7 (dk_at dksX0_isFit_3 15 rfl rfl)
theorem dX0_isFit_88 : decode cX0_isFit 88 = .ok (.iconst 1, 1) := dk_4 (dk_at dksX0_isFit_3 18 rfl rfl)
theorem dX0_isFit_89 : decode cX0_isFit 89 = .ok (.goto 4, 3) := dk_167 0 4 (dk_at dksX0_isFit_3 19 rfl rfl)
theorem dX0_isFit_92 : decode cX0_isFit 92 = .ok (.iconst 0, 1) := dk_3 (dk_at dksX0_isFit_3 22 rfl rfl)
theorem dX0_isFit_93 : decode cX0_isFit 93 = .ok (.ireturn, 1) := dk_172 (dk_at dksX0_isFit_3 23 rfl rfl)
theorem dX0_isFit_94 : decode cX0_isFit 94 = .ok (.lload_n 2, 1) := dk_32 (dk_at dksX0_isFit_4 0 rfl rfl)
theorem dX0_isFit_95 : decode cX0_isFit 95 = .ok (.lload_n 2, 1) := dk_32 (dk_at dksX0_isFit_4 1 rfl rfl)
theorem dX0_isFit_96 : decode cX0_isFit 96 = .ok (.l2i, 1) := dk_136 (dk_at dksX0_isFit_4 2 rfl rfl)
theorem dX0_isFit_97 : decode cX0_isFit 97 = .ok (.i2l, 1) := dk_133 (dk_at dksX0_isFit_4 3 rfl rfl)
theorem dX0_isFit_98 : decode cX0_isFit 98 = .ok (.lcmp, 1) := dk_148 (dk_at dksX0_isFit_4 4 rfl rfl)
theorem dX0_isFit_99 : decode cX0_isFit 99 = .ok (.ifCond .ne 7, 3) := dk_154 0 7 (dk_at dksX0_isFit_4 5 rfl rfl)
theorem dX0_isFit_102 : decode cX0_isFit 102 = .ok (.iconst 1, 1) := dk_4 (dk_at dksX0_isFit_4 8 rfl rfl)
theorem dX0_isFit_103 : decode cX0_isFit 103 = .ok (.goto 4, 3) := dk_167 0 4 (dk_at dksX0_isFit_4 9 rfl rfl)
theorem dX0_isFit_106 : decode cX0_isFit 106 = .ok (.iconst 0, 1) := dk_3 (dk_at dksX0_isFit_4 12 rfl rfl)
theorem dX0_isFit_107 : decode cX0_isFit 107 = .ok (.ireturn, 1) := dk_172 (dk_at dksX0_isFit_4 13 rfl rfl)
theorem dX0_isFit_108 : decode cX0_isFit 108 = .ok (.iconst 1, 1) := dk_4 (dk_at dksX0_isFit_4 14 rfl rfl)
theorem dX0_isFit_109 : decode cX0_isFit 109 = .ok (.ireturn, 1) := dk_172 (dk_at dksX0_isFit_4 15 rfl rfl)
theorem dX0_isFit_110 : decode cX0_isFit 110 = .ok (.lload_n 2, 1) := dk_32 (dk_at dksX0_isFit_4 16 rfl rfl)
theorem dX0_isFit_111 : decode cX0_isFit 111 = .ok (.lload_n 2, 1) := dk_32 (dk_at dksX0_isFit_4 17 rfl rfl)
theorem dX0_isFit_112 : decode cX0_isFit 112 = .ok (.l2i, 1) := dk_136 (dk_at dksX0_isFit_4 18 rfl rfl)
theorem dX0_isFit_113 : decode cX0_isFit 113 = .ok (.i2l, 1) := dk_133 (dk_at dksX0_isFit_4 19 rfl rfl)
theorem dX0_isFit_114 : decode cX0_isFit 114 = .ok (.lcmp, 1) := dk_148 (dk_at dksX0_isFit_4 20 rfl rfl)
theorem dX0_isFit_115 : decode cX0_isFit 115 = .ok (.ifCond .ne 19, 3) := dk_154 0 19 (dk_at dksX0_isFit_4 21 rfl rfl)
theorem dX0_isFit_118 : decode cX0_isFit 118 = .ok (.lload_n 2, 1) := dk_32 (dk_at dksX0_isFit_5 0 rfl rfl)
theorem dX0_isFit_119 : decode cX0_isFit 119 = .ok (.ldc2_w 600, 3) := dk_20 2 88 (dk_at dksX0_isFit_5 1 rfl rfl)
theorem dX0_isFit_122 : decode cX0_isFit 122 = .ok (.land, 1) := dk_127 (dk_at dksX0_isFit_5 4 rfl rfl)
theorem dX0_isFit_123 : decode cX0_isFit 123 = .ok (.ldc2_w 602, 3) := dk_20 2 90 (dk_at dksX0_isFit_5 5 rfl rfl)
theorem dX0_isFit_126 : decode cX0_isFit 126 = .ok (.lcmp, 1) := dk_148 (dk_at dksX0_isFit_5 8 rfl rfl)
theorem dX0_isFit_127 : decode cX0_isFit 127 = .ok (.ifCond .gt 7, 3) := dk_157 0 7 (dk_at dksX0_isFit_5 9 rfl rfl)
theorem dX0_isFit_130 : decode cX0_isFit 130 = .ok (.iconst 1, 1) := dk_4 (dk_at dksX0_isFit_5 12 rfl rfl)
theorem dX0_isFit_131 : decode cX0_isFit 131 = .ok (.goto 4, 3) := dk_167 0 4 (dk_at dksX0_isFit_5 13 rfl rfl)
theorem dX0_isFit_134 : decode cX0_isFit 134 = .ok (.iconst 0, 1) := dk_3 (dk_at dksX0_isFit_5 16 rfl rfl)
theorem dX0_isFit_135 : decode cX0_isFit 135 = .ok (.ireturn, 1) := dk_172 (dk_at dksX0_isFit_5 17 rfl rfl)
theorem dX0_isFit_136 : decode cX0_isFit 136 = .ok (.lload_n 2, 1) := dk_32 (dk_at dksX0_isFit_5 18 rfl rfl)
theorem dX0_isFit_137 : decode cX0_isFit 137 = .ok (.ldc2_w 604, 3) := dk_20 2 92 (dk_at dksX0_isFit_5 19 rfl rfl)
theorem dX0_isFit_140 : decode cX0_isFit 140 = .ok (.land, 1) := dk_127 (dk_at dksX0_isFit_5 22 rfl rfl)
theorem dX0_isFit_141 : decode cX0_isFit 141 = .ok (.ldc2_w 606, 3) := dk_20 2 94 (dk_at dksX0_isFit_6 0 rfl rfl)
theorem dX0_isFit_144 : decode cX0_isFit 144 = .ok (.lcmp, 1) := dk_148 (dk_at dksX0_isFit_6 3 rfl rfl)
theorem dX0_isFit_145 : decode cX0_isFit 145 = .ok (.ifCond .gt 7, 3) := dk_157 0 7 (dk_at dksX0_isFit_6 4 rfl rfl)
theorem dX0_isFit_148 : decode cX0_isFit 148 = .ok (.iconst 1, 1) := dk_4 (dk_at dksX0_isFit_6 7 rfl rfl)
theorem dX0_isFit_149 : decode cX0_isFit 149 = .ok (.goto 4, 3) := dk_167 0 4 (dk_at dksX0_isFit_6 8 rfl rfl)
theorem dX0_isFit_152 : decode cX0_isFit 152 = .ok (.iconst 0, 1) := dk_3 (dk_at dksX0_isFit_6 11 rfl rfl)
theorem dX0_isFit_153 : decode cX0_isFit 153 = .ok (.ireturn, 1) := dk_172 (dk_at dksX0_isFit_6 12 rfl rfl)
theorem dX0_isFit_154 : decode cX0_isFit 154 = .ok (.lload_n 2, 1) := dk_32 (dk_at dksX0_isFit_6 13 rfl rfl)
theorem dX0_isFit_155 : decode cX0_isFit 155 = .ok (.ldc2_w 423, 3) := dk_20 1 167 (dk_at dksX0_isFit_6 14 rfl rfl)
theorem dX0_isFit_158 : decode cX0_isFit 158 = .ok (.aload_n 0, 1) := dk_42 (dk_at dksX0_isFit_6 17 rfl rfl)
theorem dX0_isFit_159 : decode cX0_isFit 159 = .ok (.getfield 376, 3) := dk_180 1 120 (dk_at dksX0_isFit_6 18 rfl rfl)
theorem dX0_isFit_162 : decode cX0_isFit 162 = .ok (.iconst 1, 1) := dk_4 (dk_at dksX0_isFit_6 21 rfl rfl)
theorem dX0_isFit_163 : decode cX0_isFit 163 = .ok (.isub, 1) := dk_100 (dk_at dksX0_isFit_6 22 rfl rfl)
theorem dX0_isFit_164 : decode cX0_isFit 164 = .ok (.i2l, 1) := dk_133 (dk_at dksX0_isFit_6 23 rfl rfl)
theorem dX0_isFit_165 : decode cX0_isFit 165 = .ok (.invokestatic 419, 3) := dk_184 1 163 (dk_at dksX0_isFit_7 0 rfl rfl)
theorem dX0_isFit_168 : decode cX0_isFit 168 = .ok (.ireturn, 1) := dk_172 (dk_at dksX0_isFit_7 3 rfl rfl)
abbrev cX0_kind : ByteArray := prog_1_method_65_code
def yX0_kind : MethodName := ⟨RX0, "kind", "(I)I"⟩
def dkwX0_kind_0 : List UInt8 := [27, 184, 2, 98, 153, 0, 15, 42, 180, 1, 83, 27, 50, 180, 0, 129, 167, 0, 4, 2, 172]
abbrev dktX0_kind_0 : List UInt8 := dkwX0_kind_0 ++ []
theorem dksX0_kind_0 : cX0_kind.data.toList.drop 0 = dktX0_kind_0 := by decide +kernel
theorem dX0_kind_0 : decode cX0_kind 0 = .ok (.iload_n 1, 1) := dk_27 (dk_at dksX0_kind_0 0 rfl rfl)
theorem dX0_kind_1 : decode cX0_kind 1 = .ok (.invokestatic 610, 3) := dk_184 2 98 (dk_at dksX0_kind_0 1 rfl rfl)
theorem dX0_kind_4 : decode cX0_kind 4 = .ok (.ifCond .eq 15, 3) := dk_153 0 15 (dk_at dksX0_kind_0 4 rfl rfl)
theorem dX0_kind_7 : decode cX0_kind 7 = .ok (.aload_n 0, 1) := dk_42 (dk_at dksX0_kind_0 7 rfl rfl)
theorem dX0_kind_8 : decode cX0_kind 8 = .ok (.getfield 339, 3) := dk_180 1 83 (dk_at dksX0_kind_0 8 rfl rfl)
theorem dX0_kind_11 : decode cX0_kind 11 = .ok (.iload_n 1, 1) := dk_27 (dk_at dksX0_kind_0 11 rfl rfl)
theorem dX0_kind_12 : decode cX0_kind 12 = .ok (.aaload, 1) := dk_50 (dk_at dksX0_kind_0 12 rfl rfl)
theorem dX0_kind_13 : decode cX0_kind 13 = .ok (.getfield 129, 3) := dk_180 0 129 (dk_at dksX0_kind_0 13 rfl rfl)
theorem dX0_kind_16 : decode cX0_kind 16 = .ok (.goto 4, 3) := dk_167 0 4 (dk_at dksX0_kind_0 16 rfl rfl)
theorem dX0_kind_19 : decode cX0_kind 19 = .ok (.iconst (-1), 1) := dk_2 (dk_at dksX0_kind_0 19 rfl rfl)
theorem dX0_kind_20 : decode cX0_kind 20 = .ok (.ireturn, 1) := dk_172 (dk_at dksX0_kind_0 20 rfl rfl)
abbrev cX0_bits : ByteArray := prog_1_method_66_code
def yX0_bits : MethodName := ⟨RX0, "bits", "(I)J"⟩
def dkwX0_bits_2 : List UInt8 := [180, 0, 125, 182, 1, 147, 133, 173]
abbrev dktX0_bits_2 : List UInt8 := dkwX0_bits_2 ++ []
def dkwX0_bits_1 : List UInt8 := [159, 0, 10, 44, 180, 0, 75, 167, 0, 24, 44, 180, 0, 125, 199, 0, 9, 20, 1, 167, 167, 0, 11, 44]
abbrev dktX0_bits_1 : List UInt8 := dkwX0_bits_1 ++ dktX0_bits_2
def dkwX0_bits_0 : List UInt8 := [27, 184, 2, 98, 154, 0, 7, 20, 2, 106, 173, 42, 180, 1, 83, 27, 50, 77, 44, 180, 0, 129, 16, 8]
abbrev dktX0_bits_0 : List UInt8 := dkwX0_bits_0 ++ dktX0_bits_1
theorem dksX0_bits_0 : cX0_bits.data.toList.drop 0 = dktX0_bits_0 := by decide +kernel
theorem dksX0_bits_1 : cX0_bits.data.toList.drop 24 = dktX0_bits_1 := dk_seg dksX0_bits_0 24 rfl rfl
theorem dksX0_bits_2 : cX0_bits.data.toList.drop 48 = dktX0_bits_2 := dk_seg dksX0_bits_1 24 rfl rfl
theorem dX0_bits_0 : decode cX0_bits 0 = .ok (.iload_n 1, 1) := dk_27 (dk_at dksX0_bits_0 0 rfl rfl)
theorem dX0_bits_1 : decode cX0_bits 1 = .ok (.invokestatic 610, 3) := dk_184 2 98 (dk_at dksX0_bits_0 1 rfl rfl)
theorem dX0_bits_4 : decode cX0_bits 4 = .ok (.ifCond .ne 7, 3) := dk_154 0 7 (dk_at dksX0_bits_0 4 rfl rfl)
theorem dX0_bits_7 : decode cX0_bits 7 = .ok (.ldc2_w 618, 3) := dk_20 2 106 (dk_at dksX0_bits_0 7 rfl rfl)
theorem dX0_bits_10 : decode cX0_bits 10 = .ok (.lreturn, 1) := dk_173 (dk_at dksX0_bits_0 10 rfl rfl)
theorem dX0_bits_11 : decode cX0_bits 11 = .ok (.aload_n 0, 1) := dk_42 (dk_at dksX0_bits_0 11 rfl rfl)
theorem dX0_bits_12 : decode cX0_bits 12 = .ok (.getfield 339, 3) := dk_180 1 83 (dk_at dksX0_bits_0 12 rfl rfl)
theorem dX0_bits_15 : decode cX0_bits 15 = .ok (.iload_n 1, 1) := dk_27 (dk_at dksX0_bits_0 15 rfl rfl)
theorem dX0_bits_16 : decode cX0_bits 16 = .ok (.aaload, 1) := dk_50 (dk_at dksX0_bits_0 16 rfl rfl)
theorem dX0_bits_17 : decode cX0_bits 17 = .ok (.astore_n 2, 1) := dk_77 (dk_at dksX0_bits_0 17 rfl rfl)
theorem dX0_bits_18 : decode cX0_bits 18 = .ok (.aload_n 2, 1) := dk_44 (dk_at dksX0_bits_0 18 rfl rfl)
theorem dX0_bits_19 : decode cX0_bits 19 = .ok (.getfield 129, 3) := dk_180 0 129 (dk_at dksX0_bits_0 19 rfl rfl)
theorem dX0_bits_22 : decode cX0_bits 22 = .ok (.bipush 8, 2) := dk_16 8 (dk_at dksX0_bits_0 22 rfl rfl)
theorem dX0_bits_24 : decode cX0_bits 24 = .ok (.if_icmp .eq 10, 3) := dk_159 0 10 (dk_at dksX0_bits_1 0 rfl rfl)
theorem dX0_bits_27 : decode cX0_bits 27 = .ok (.aload_n 2, 1) := dk_44 (dk_at dksX0_bits_1 3 rfl rfl)
theorem dX0_bits_28 : decode cX0_bits 28 = .ok (.getfield 75, 3) := dk_180 0 75 (dk_at dksX0_bits_1 4 rfl rfl)
theorem dX0_bits_31 : decode cX0_bits 31 = .ok (.goto 24, 3) := dk_167 0 24 (dk_at dksX0_bits_1 7 rfl rfl)
theorem dX0_bits_34 : decode cX0_bits 34 = .ok (.aload_n 2, 1) := dk_44 (dk_at dksX0_bits_1 10 rfl rfl)
theorem dX0_bits_35 : decode cX0_bits 35 = .ok (.getfield 125, 3) := dk_180 0 125 (dk_at dksX0_bits_1 11 rfl rfl)
theorem dX0_bits_38 : decode cX0_bits 38 = .ok (.ifnonnull 9, 3) := dk_199 0 9 (dk_at dksX0_bits_1 14 rfl rfl)
theorem dX0_bits_41 : decode cX0_bits 41 = .ok (.ldc2_w 423, 3) := dk_20 1 167 (dk_at dksX0_bits_1 17 rfl rfl)
theorem dX0_bits_44 : decode cX0_bits 44 = .ok (.goto 11, 3) := dk_167 0 11 (dk_at dksX0_bits_1 20 rfl rfl)
theorem dX0_bits_47 : decode cX0_bits 47 = .ok (.aload_n 2, 1) := dk_44 (dk_at dksX0_bits_1 23 rfl rfl)
theorem dX0_bits_48 : decode cX0_bits 48 = .ok (.getfield 125, 3) := dk_180 0 125 (dk_at dksX0_bits_2 0 rfl rfl)
theorem dX0_bits_51 : decode cX0_bits 51 = .ok (.invokevirtual 403, 3) := dk_182 1 147 (dk_at dksX0_bits_2 3 rfl rfl)
theorem dX0_bits_54 : decode cX0_bits 54 = .ok (.i2l, 1) := dk_133 (dk_at dksX0_bits_2 6 rfl rfl)
theorem dX0_bits_55 : decode cX0_bits 55 = .ok (.lreturn, 1) := dk_173 (dk_at dksX0_bits_2 7 rfl rfl)
abbrev cX0_get_2 : ByteArray := prog_1_method_67_code
def yX0_get_2 : MethodName := ⟨RX0, "get", "(IIII)I"⟩
def dkwX0_get_2_2 : List UInt8 := [21, 4, 3, 182, 2, 74, 172]
abbrev dktX0_get_2_2 : List UInt8 := dkwX0_get_2_2 ++ []
def dkwX0_get_2_1 : List UInt8 := [184, 1, 163, 153, 0, 11, 21, 4, 184, 2, 98, 154, 0, 7, 2, 167, 0, 14, 42, 3, 27, 28, 29]
abbrev dktX0_get_2_1 : List UInt8 := dkwX0_get_2_1 ++ dktX0_get_2_2
def dkwX0_get_2_0 : List UInt8 := [42, 27, 182, 2, 108, 153, 0, 31, 42, 28, 182, 2, 68, 153, 0, 23, 29, 133, 9, 20, 2, 37]
abbrev dktX0_get_2_0 : List UInt8 := dkwX0_get_2_0 ++ dktX0_get_2_1
theorem dksX0_get_2_0 : cX0_get_2.data.toList.drop 0 = dktX0_get_2_0 := by decide +kernel
theorem dksX0_get_2_1 : cX0_get_2.data.toList.drop 22 = dktX0_get_2_1 := dk_seg dksX0_get_2_0 22 rfl rfl
theorem dksX0_get_2_2 : cX0_get_2.data.toList.drop 45 = dktX0_get_2_2 := dk_seg dksX0_get_2_1 23 rfl rfl
theorem dX0_get_2_0 : decode cX0_get_2 0 = .ok (.aload_n 0, 1) := dk_42 (dk_at dksX0_get_2_0 0 rfl rfl)
theorem dX0_get_2_1 : decode cX0_get_2 1 = .ok (.iload_n 1, 1) := dk_27 (dk_at dksX0_get_2_0 1 rfl rfl)
theorem dX0_get_2_2 : decode cX0_get_2 2 = .ok (.invokevirtual 620, 3) := dk_182 2 108 (dk_at dksX0_get_2_0 2 rfl rfl)
theorem dX0_get_2_5 : decode cX0_get_2 5 = .ok (.ifCond .eq 31, 3) := dk_153 0 31 (dk_at dksX0_get_2_0 5 rfl rfl)
theorem dX0_get_2_8 : decode cX0_get_2 8 = .ok (.aload_n 0, 1) := dk_42 (dk_at dksX0_get_2_0 8 rfl rfl)
theorem dX0_get_2_9 : decode cX0_get_2 9 = .ok (.iload_n 2, 1) := dk_28 (dk_at dksX0_get_2_0 9 rfl rfl)
theorem dX0_get_2_10 : decode cX0_get_2 10 = .ok (.invokevirtual 580, 3) := dk_182 2 68 (dk_at dksX0_get_2_0 10 rfl rfl)
theorem dX0_get_2_13 : decode cX0_get_2 13 = .ok (.ifCond .eq 23, 3) := dk_153 0 23 (dk_at dksX0_get_2_0 13 rfl rfl)
theorem dX0_get_2_16 : decode cX0_get_2 16 = .ok (.iload_n 3, 1) := dk_29 (dk_at dksX0_get_2_0 16 rfl rfl)
theorem dX0_get_2_17 : decode cX0_get_2 17 = .ok (.i2l, 1) := dk_133 (dk_at dksX0_get_2_0 17 rfl rfl)
theorem dX0_get_2_18 : decode cX0_get_2 18 = .ok (.lconst 0, 1) := dk_9 (dk_at dksX0_get_2_0 18 rfl rfl)
theorem dX0_get_2_19 : decode cX0_get_2 19 = .ok (.ldc2_w 549, 3) := dk_20 2 37 (dk_at dksX0_get_2_0 19 rfl rfl)
theorem dX0_get_2_22 : decode cX0_get_2 22 = .ok (.invokestatic 419, 3) := dk_184 1 163 (dk_at dksX0_get_2_1 0 rfl rfl)
theorem dX0_get_2_25 : decode cX0_get_2 25 = .ok (.ifCond .eq 11, 3) := dk_153 0 11 (dk_at dksX0_get_2_1 3 rfl rfl)
theorem dX0_get_2_28 : decode cX0_get_2 28 = .ok (.iload 4, 2) := dk_21 4 (dk_at dksX0_get_2_1 6 rfl rfl)
theorem dX0_get_2_30 : decode cX0_get_2 30 = .ok (.invokestatic 610, 3) := dk_184 2 98 (dk_at dksX0_get_2_1 8 rfl rfl)
theorem dX0_get_2_33 : decode cX0_get_2 33 = .ok (.ifCond .ne 7, 3) := dk_154 0 7 (dk_at dksX0_get_2_1 11 rfl rfl)
theorem dX0_get_2_36 : decode cX0_get_2 36 = .ok (.iconst (-1), 1) := dk_2 (dk_at dksX0_get_2_1 14 rfl rfl)
theorem dX0_get_2_37 : decode cX0_get_2 37 = .ok (.goto 14, 3) := dk_167 0 14 (dk_at dksX0_get_2_1 15 rfl rfl)
theorem dX0_get_2_40 : decode cX0_get_2 40 = .ok (.aload_n 0, 1) := dk_42 (dk_at dksX0_get_2_1 18 rfl rfl)
theorem dX0_get_2_41 : decode cX0_get_2 41 = .ok (.iconst 0, 1) := dk_3 (dk_at dksX0_get_2_1 19 rfl rfl)
theorem dX0_get_2_42 : decode cX0_get_2 42 = .ok (.iload_n 1, 1) := dk_27 (dk_at dksX0_get_2_1 20 rfl rfl)
theorem dX0_get_2_43 : decode cX0_get_2 43 = .ok (.iload_n 2, 1) := dk_28 (dk_at dksX0_get_2_1 21 rfl rfl)
theorem dX0_get_2_44 : decode cX0_get_2 44 = .ok (.iload_n 3, 1) := dk_29 (dk_at dksX0_get_2_1 22 rfl rfl)
theorem dX0_get_2_45 : decode cX0_get_2 45 = .ok (.iload 4, 2) := dk_21 4 (dk_at dksX0_get_2_2 0 rfl rfl)
theorem dX0_get_2_47 : decode cX0_get_2 47 = .ok (.iconst 0, 1) := dk_3 (dk_at dksX0_get_2_2 2 rfl rfl)
theorem dX0_get_2_48 : decode cX0_get_2 48 = .ok (.invokevirtual 586, 3) := dk_182 2 74 (dk_at dksX0_get_2_2 3 rfl rfl)
theorem dX0_get_2_51 : decode cX0_get_2 51 = .ok (.ireturn, 1) := dk_172 (dk_at dksX0_get_2_2 6 rfl rfl)
abbrev cX0_isField : ByteArray := prog_1_method_32_code
def yX0_isField : MethodName := ⟨RX0, "isField", "(I)Z"⟩
def dkwX0_isField_1 : List UInt8 := [3, 172]
abbrev dktX0_isField_1 : List UInt8 := dkwX0_isField_1 ++ []
def dkwX0_isField_0 : List UInt8 := [42, 27, 182, 1, 169, 153, 0, 19, 42, 180, 0, 20, 27, 50, 180, 0, 30, 153, 0, 7, 4, 167, 0, 4]
abbrev dktX0_isField_0 : List UInt8 := dkwX0_isField_0 ++ dktX0_isField_1
theorem dksX0_isField_0 : cX0_isField.data.toList.drop 0 = dktX0_isField_0 := by decide +kernel
theorem dksX0_isField_1 : cX0_isField.data.toList.drop 24 = dktX0_isField_1 := dk_seg dksX0_isField_0 24 rfl rfl
theorem dX0_isField_0 : decode cX0_isField 0 = .ok (.aload_n 0, 1) := dk_42 (dk_at dksX0_isField_0 0 rfl rfl)
theorem dX0_isField_1 : decode cX0_isField 1 = .ok (.iload_n 1, 1) := dk_27 (dk_at dksX0_isField_0 1 rfl rfl)
theorem dX0_isField_2 : decode cX0_isField 2 = .ok (.invokevirtual 425, 3) := dk_182 1 169 (dk_at dksX0_isField_0 2 rfl rfl)
theorem dX0_isField_5 : decode cX0_isField 5 = .ok (.ifCond .eq 19, 3) := dk_153 0 19 (dk_at dksX0_isField_0 5 rfl rfl)
theorem dX0_isField_8 : decode cX0_isField 8 = .ok (.aload_n 0, 1) := dk_42 (dk_at dksX0_isField_0 8 rfl rfl)
theorem dX0_isField_9 : decode cX0_isField 9 = .ok (.getfield 20, 3) := dk_180 0 20 (dk_at dksX0_isField_0 9 rfl rfl)
theorem dX0_isField_12 : decode cX0_isField 12 = .ok (.iload_n 1, 1) := dk_27 (dk_at dksX0_isField_0 12 rfl rfl)
theorem dX0_isField_13 : decode cX0_isField 13 = .ok (.aaload, 1) := dk_50 (dk_at dksX0_isField_0 13 rfl rfl)
theorem dX0_isField_14 : decode cX0_isField 14 = .ok (.getfield 30, 3) := dk_180 0 30 (dk_at dksX0_isField_0 14 rfl rfl)
theorem dX0_isField_17 : decode cX0_isField 17 = .ok (.ifCond .eq 7, 3) := dk_153 0 7 (dk_at dksX0_isField_0 17 rfl rfl)
theorem dX0_isField_20 : decode cX0_isField 20 = .ok (.iconst 1, 1) := dk_4 (dk_at dksX0_isField_0 20 rfl rfl)
theorem dX0_isField_21 : decode cX0_isField 21 = .ok (.goto 4, 3) := dk_167 0 4 (dk_at dksX0_isField_0 21 rfl rfl)
theorem dX0_isField_24 : decode cX0_isField 24 = .ok (.iconst 0, 1) := dk_3 (dk_at dksX0_isField_1 0 rfl rfl)
theorem dX0_isField_25 : decode cX0_isField 25 = .ok (.ireturn, 1) := dk_172 (dk_at dksX0_isField_1 1 rfl rfl)
abbrev cX0_set_2 : ByteArray := prog_1_method_68_code
def yX0_set_2 : MethodName := ⟨RX0, "set", "(III)I"⟩
def dkwX0_set_2_1 : List UInt8 := [167, 0, 13, 42, 4, 27, 28, 29, 3, 3, 182, 2, 74, 172]
abbrev dktX0_set_2_1 : List UInt8 := dkwX0_set_2_1 ++ []
def dkwX0_set_2_0 : List UInt8 := [42, 27, 182, 2, 108, 153, 0, 18, 42, 28, 182, 2, 68, 153, 0, 10, 29, 184, 2, 98, 154, 0, 7, 2]
abbrev dktX0_set_2_0 : List UInt8 := dkwX0_set_2_0 ++ dktX0_set_2_1
theorem dksX0_set_2_0 : cX0_set_2.data.toList.drop 0 = dktX0_set_2_0 := by decide +kernel
theorem dksX0_set_2_1 : cX0_set_2.data.toList.drop 24 = dktX0_set_2_1 := dk_seg dksX0_set_2_0 24 rfl rfl
theorem dX0_set_2_0 : decode cX0_set_2 0 = .ok (.aload_n 0, 1) := dk_42 (dk_at dksX0_set_2_0 0 rfl rfl)
theorem dX0_set_2_1 : decode cX0_set_2 1 = .ok (.iload_n 1, 1) := dk_27 (dk_at dksX0_set_2_0 1 rfl rfl)
theorem dX0_set_2_2 : decode cX0_set_2 2 = .ok (.invokevirtual 620, 3) := dk_182 2 108 (dk_at dksX0_set_2_0 2 rfl rfl)
theorem dX0_set_2_5 : decode cX0_set_2 5 = .ok (.ifCond .eq 18, 3) := dk_153 0 18 (dk_at dksX0_set_2_0 5 rfl rfl)
theorem dX0_set_2_8 : decode cX0_set_2 8 = .ok (.aload_n 0, 1) := dk_42 (dk_at dksX0_set_2_0 8 rfl rfl)
theorem dX0_set_2_9 : decode cX0_set_2 9 = .ok (.iload_n 2, 1) := dk_28 (dk_at dksX0_set_2_0 9 rfl rfl)
theorem dX0_set_2_10 : decode cX0_set_2 10 = .ok (.invokevirtual 580, 3) := dk_182 2 68 (dk_at dksX0_set_2_0 10 rfl rfl)
theorem dX0_set_2_13 : decode cX0_set_2 13 = .ok (.ifCond .eq 10, 3) := dk_153 0 10 (dk_at dksX0_set_2_0 13 rfl rfl)
theorem dX0_set_2_16 : decode cX0_set_2 16 = .ok (.iload_n 3, 1) := dk_29 (dk_at dksX0_set_2_0 16 rfl rfl)
theorem dX0_set_2_17 : decode cX0_set_2 17 = .ok (.invokestatic 610, 3) := dk_184 2 98 (dk_at dksX0_set_2_0 17 rfl rfl)
theorem dX0_set_2_20 : decode cX0_set_2 20 = .ok (.ifCond .ne 7, 3) := dk_154 0 7 (dk_at dksX0_set_2_0 20 rfl rfl)
theorem dX0_set_2_23 : decode cX0_set_2 23 = .ok (.iconst (-1), 1) := dk_2 (dk_at dksX0_set_2_0 23 rfl rfl)
theorem dX0_set_2_24 : decode cX0_set_2 24 = .ok (.goto 13, 3) := dk_167 0 13 (dk_at dksX0_set_2_1 0 rfl rfl)
theorem dX0_set_2_27 : decode cX0_set_2 27 = .ok (.aload_n 0, 1) := dk_42 (dk_at dksX0_set_2_1 3 rfl rfl)
theorem dX0_set_2_28 : decode cX0_set_2 28 = .ok (.iconst 1, 1) := dk_4 (dk_at dksX0_set_2_1 4 rfl rfl)
theorem dX0_set_2_29 : decode cX0_set_2 29 = .ok (.iload_n 1, 1) := dk_27 (dk_at dksX0_set_2_1 5 rfl rfl)
theorem dX0_set_2_30 : decode cX0_set_2 30 = .ok (.iload_n 2, 1) := dk_28 (dk_at dksX0_set_2_1 6 rfl rfl)
theorem dX0_set_2_31 : decode cX0_set_2 31 = .ok (.iload_n 3, 1) := dk_29 (dk_at dksX0_set_2_1 7 rfl rfl)
theorem dX0_set_2_32 : decode cX0_set_2 32 = .ok (.iconst 0, 1) := dk_3 (dk_at dksX0_set_2_1 8 rfl rfl)
theorem dX0_set_2_33 : decode cX0_set_2 33 = .ok (.iconst 0, 1) := dk_3 (dk_at dksX0_set_2_1 9 rfl rfl)
theorem dX0_set_2_34 : decode cX0_set_2 34 = .ok (.invokevirtual 586, 3) := dk_182 2 74 (dk_at dksX0_set_2_1 10 rfl rfl)
theorem dX0_set_2_37 : decode cX0_set_2 37 = .ok (.ireturn, 1) := dk_172 (dk_at dksX0_set_2_1 13 rfl rfl)
abbrev cX0_item_2 : ByteArray := prog_1_method_69_code
def yX0_item_2 : MethodName := ⟨RX0, "item", "(IIII)I"⟩
def dkwX0_item_2_1 : List UInt8 := [184, 2, 98, 154, 0, 7, 2, 167, 0, 14, 42, 5, 27, 28, 29, 21, 4, 3, 182, 2, 74, 172]
abbrev dktX0_item_2_1 : List UInt8 := dkwX0_item_2_1 ++ []
def dkwX0_item_2_0 : List UInt8 := [42, 27, 182, 2, 68, 153, 0, 23, 29, 133, 9, 20, 2, 37, 184, 1, 163, 153, 0, 11, 21, 4]
abbrev dktX0_item_2_0 : List UInt8 := dkwX0_item_2_0 ++ dktX0_item_2_1
theorem dksX0_item_2_0 : cX0_item_2.data.toList.drop 0 = dktX0_item_2_0 := by decide +kernel
theorem dksX0_item_2_1 : cX0_item_2.data.toList.drop 22 = dktX0_item_2_1 := dk_seg dksX0_item_2_0 22 rfl rfl
theorem dX0_item_2_0 : decode cX0_item_2 0 = .ok (.aload_n 0, 1) := dk_42 (dk_at dksX0_item_2_0 0 rfl rfl)
theorem dX0_item_2_1 : decode cX0_item_2 1 = .ok (.iload_n 1, 1) := dk_27 (dk_at dksX0_item_2_0 1 rfl rfl)
theorem dX0_item_2_2 : decode cX0_item_2 2 = .ok (.invokevirtual 580, 3) := dk_182 2 68 (dk_at dksX0_item_2_0 2 rfl rfl)
theorem dX0_item_2_5 : decode cX0_item_2 5 = .ok (.ifCond .eq 23, 3) := dk_153 0 23 (dk_at dksX0_item_2_0 5 rfl rfl)
theorem dX0_item_2_8 : decode cX0_item_2 8 = .ok (.iload_n 3, 1) := dk_29 (dk_at dksX0_item_2_0 8 rfl rfl)
theorem dX0_item_2_9 : decode cX0_item_2 9 = .ok (.i2l, 1) := dk_133 (dk_at dksX0_item_2_0 9 rfl rfl)
theorem dX0_item_2_10 : decode cX0_item_2 10 = .ok (.lconst 0, 1) := dk_9 (dk_at dksX0_item_2_0 10 rfl rfl)
theorem dX0_item_2_11 : decode cX0_item_2 11 = .ok (.ldc2_w 549, 3) := dk_20 2 37 (dk_at dksX0_item_2_0 11 rfl rfl)
theorem dX0_item_2_14 : decode cX0_item_2 14 = .ok (.invokestatic 419, 3) := dk_184 1 163 (dk_at dksX0_item_2_0 14 rfl rfl)
theorem dX0_item_2_17 : decode cX0_item_2 17 = .ok (.ifCond .eq 11, 3) := dk_153 0 11 (dk_at dksX0_item_2_0 17 rfl rfl)
theorem dX0_item_2_20 : decode cX0_item_2 20 = .ok (.iload 4, 2) := dk_21 4 (dk_at dksX0_item_2_0 20 rfl rfl)
theorem dX0_item_2_22 : decode cX0_item_2 22 = .ok (.invokestatic 610, 3) := dk_184 2 98 (dk_at dksX0_item_2_1 0 rfl rfl)
theorem dX0_item_2_25 : decode cX0_item_2 25 = .ok (.ifCond .ne 7, 3) := dk_154 0 7 (dk_at dksX0_item_2_1 3 rfl rfl)
theorem dX0_item_2_28 : decode cX0_item_2 28 = .ok (.iconst (-1), 1) := dk_2 (dk_at dksX0_item_2_1 6 rfl rfl)
theorem dX0_item_2_29 : decode cX0_item_2 29 = .ok (.goto 14, 3) := dk_167 0 14 (dk_at dksX0_item_2_1 7 rfl rfl)
theorem dX0_item_2_32 : decode cX0_item_2 32 = .ok (.aload_n 0, 1) := dk_42 (dk_at dksX0_item_2_1 10 rfl rfl)
theorem dX0_item_2_33 : decode cX0_item_2 33 = .ok (.iconst 2, 1) := dk_5 (dk_at dksX0_item_2_1 11 rfl rfl)
theorem dX0_item_2_34 : decode cX0_item_2 34 = .ok (.iload_n 1, 1) := dk_27 (dk_at dksX0_item_2_1 12 rfl rfl)
theorem dX0_item_2_35 : decode cX0_item_2 35 = .ok (.iload_n 2, 1) := dk_28 (dk_at dksX0_item_2_1 13 rfl rfl)
theorem dX0_item_2_36 : decode cX0_item_2 36 = .ok (.iload_n 3, 1) := dk_29 (dk_at dksX0_item_2_1 14 rfl rfl)
theorem dX0_item_2_37 : decode cX0_item_2 37 = .ok (.iload 4, 2) := dk_21 4 (dk_at dksX0_item_2_1 15 rfl rfl)
theorem dX0_item_2_39 : decode cX0_item_2 39 = .ok (.iconst 0, 1) := dk_3 (dk_at dksX0_item_2_1 17 rfl rfl)
theorem dX0_item_2_40 : decode cX0_item_2 40 = .ok (.invokevirtual 586, 3) := dk_182 2 74 (dk_at dksX0_item_2_1 18 rfl rfl)
theorem dX0_item_2_43 : decode cX0_item_2 43 = .ok (.ireturn, 1) := dk_172 (dk_at dksX0_item_2_1 21 rfl rfl)
abbrev cX0_put_2 : ByteArray := prog_1_method_70_code
def yX0_put_2 : MethodName := ⟨RX0, "put", "(III)I"⟩
def dkwX0_put_2_1 : List UInt8 := [3, 3, 182, 2, 74, 172]
abbrev dktX0_put_2_1 : List UInt8 := dkwX0_put_2_1 ++ []
def dkwX0_put_2_0 : List UInt8 := [42, 27, 182, 2, 68, 153, 0, 10, 29, 184, 2, 98, 154, 0, 7, 2, 167, 0, 13, 42, 6, 27, 28, 29]
abbrev dktX0_put_2_0 : List UInt8 := dkwX0_put_2_0 ++ dktX0_put_2_1
theorem dksX0_put_2_0 : cX0_put_2.data.toList.drop 0 = dktX0_put_2_0 := by decide +kernel
theorem dksX0_put_2_1 : cX0_put_2.data.toList.drop 24 = dktX0_put_2_1 := dk_seg dksX0_put_2_0 24 rfl rfl
theorem dX0_put_2_0 : decode cX0_put_2 0 = .ok (.aload_n 0, 1) := dk_42 (dk_at dksX0_put_2_0 0 rfl rfl)
theorem dX0_put_2_1 : decode cX0_put_2 1 = .ok (.iload_n 1, 1) := dk_27 (dk_at dksX0_put_2_0 1 rfl rfl)
theorem dX0_put_2_2 : decode cX0_put_2 2 = .ok (.invokevirtual 580, 3) := dk_182 2 68 (dk_at dksX0_put_2_0 2 rfl rfl)
theorem dX0_put_2_5 : decode cX0_put_2 5 = .ok (.ifCond .eq 10, 3) := dk_153 0 10 (dk_at dksX0_put_2_0 5 rfl rfl)
theorem dX0_put_2_8 : decode cX0_put_2 8 = .ok (.iload_n 3, 1) := dk_29 (dk_at dksX0_put_2_0 8 rfl rfl)
theorem dX0_put_2_9 : decode cX0_put_2 9 = .ok (.invokestatic 610, 3) := dk_184 2 98 (dk_at dksX0_put_2_0 9 rfl rfl)
theorem dX0_put_2_12 : decode cX0_put_2 12 = .ok (.ifCond .ne 7, 3) := dk_154 0 7 (dk_at dksX0_put_2_0 12 rfl rfl)
theorem dX0_put_2_15 : decode cX0_put_2 15 = .ok (.iconst (-1), 1) := dk_2 (dk_at dksX0_put_2_0 15 rfl rfl)
theorem dX0_put_2_16 : decode cX0_put_2 16 = .ok (.goto 13, 3) := dk_167 0 13 (dk_at dksX0_put_2_0 16 rfl rfl)
theorem dX0_put_2_19 : decode cX0_put_2 19 = .ok (.aload_n 0, 1) := dk_42 (dk_at dksX0_put_2_0 19 rfl rfl)
theorem dX0_put_2_20 : decode cX0_put_2 20 = .ok (.iconst 3, 1) := dk_6 (dk_at dksX0_put_2_0 20 rfl rfl)
theorem dX0_put_2_21 : decode cX0_put_2 21 = .ok (.iload_n 1, 1) := dk_27 (dk_at dksX0_put_2_0 21 rfl rfl)
theorem dX0_put_2_22 : decode cX0_put_2 22 = .ok (.iload_n 2, 1) := dk_28 (dk_at dksX0_put_2_0 22 rfl rfl)
theorem dX0_put_2_23 : decode cX0_put_2 23 = .ok (.iload_n 3, 1) := dk_29 (dk_at dksX0_put_2_0 23 rfl rfl)
theorem dX0_put_2_24 : decode cX0_put_2 24 = .ok (.iconst 0, 1) := dk_3 (dk_at dksX0_put_2_1 0 rfl rfl)
theorem dX0_put_2_25 : decode cX0_put_2 25 = .ok (.iconst 0, 1) := dk_3 (dk_at dksX0_put_2_1 1 rfl rfl)
theorem dX0_put_2_26 : decode cX0_put_2 26 = .ok (.invokevirtual 586, 3) := dk_182 2 74 (dk_at dksX0_put_2_1 2 rfl rfl)
theorem dX0_put_2_29 : decode cX0_put_2 29 = .ok (.ireturn, 1) := dk_172 (dk_at dksX0_put_2_1 5 rfl rfl)
abbrev cX0_store_2 : ByteArray := prog_1_method_71_code
def yX0_store_2 : MethodName := ⟨RX0, "store", "(III)I"⟩
def dkwX0_store_2_1 : List UInt8 := [16, 8, 159, 0, 7, 2, 167, 0, 13, 42, 7, 27, 28, 29, 3, 3, 182, 2, 74, 172]
abbrev dktX0_store_2_1 : List UInt8 := dkwX0_store_2_1 ++ []
def dkwX0_store_2_0 : List UInt8 := [42, 27, 182, 2, 68, 153, 0, 24, 29, 184, 2, 98, 153, 0, 17, 42, 180, 1, 83, 29, 50, 180, 0, 129]
abbrev dktX0_store_2_0 : List UInt8 := dkwX0_store_2_0 ++ dktX0_store_2_1
theorem dksX0_store_2_0 : cX0_store_2.data.toList.drop 0 = dktX0_store_2_0 := by decide +kernel
theorem dksX0_store_2_1 : cX0_store_2.data.toList.drop 24 = dktX0_store_2_1 := dk_seg dksX0_store_2_0 24 rfl rfl
theorem dX0_store_2_0 : decode cX0_store_2 0 = .ok (.aload_n 0, 1) := dk_42 (dk_at dksX0_store_2_0 0 rfl rfl)
theorem dX0_store_2_1 : decode cX0_store_2 1 = .ok (.iload_n 1, 1) := dk_27 (dk_at dksX0_store_2_0 1 rfl rfl)
theorem dX0_store_2_2 : decode cX0_store_2 2 = .ok (.invokevirtual 580, 3) := dk_182 2 68 (dk_at dksX0_store_2_0 2 rfl rfl)
theorem dX0_store_2_5 : decode cX0_store_2 5 = .ok (.ifCond .eq 24, 3) := dk_153 0 24 (dk_at dksX0_store_2_0 5 rfl rfl)
theorem dX0_store_2_8 : decode cX0_store_2 8 = .ok (.iload_n 3, 1) := dk_29 (dk_at dksX0_store_2_0 8 rfl rfl)
theorem dX0_store_2_9 : decode cX0_store_2 9 = .ok (.invokestatic 610, 3) := dk_184 2 98 (dk_at dksX0_store_2_0 9 rfl rfl)
theorem dX0_store_2_12 : decode cX0_store_2 12 = .ok (.ifCond .eq 17, 3) := dk_153 0 17 (dk_at dksX0_store_2_0 12 rfl rfl)
theorem dX0_store_2_15 : decode cX0_store_2 15 = .ok (.aload_n 0, 1) := dk_42 (dk_at dksX0_store_2_0 15 rfl rfl)
theorem dX0_store_2_16 : decode cX0_store_2 16 = .ok (.getfield 339, 3) := dk_180 1 83 (dk_at dksX0_store_2_0 16 rfl rfl)
theorem dX0_store_2_19 : decode cX0_store_2 19 = .ok (.iload_n 3, 1) := dk_29 (dk_at dksX0_store_2_0 19 rfl rfl)
theorem dX0_store_2_20 : decode cX0_store_2 20 = .ok (.aaload, 1) := dk_50 (dk_at dksX0_store_2_0 20 rfl rfl)
theorem dX0_store_2_21 : decode cX0_store_2 21 = .ok (.getfield 129, 3) := dk_180 0 129 (dk_at dksX0_store_2_0 21 rfl rfl)
theorem dX0_store_2_24 : decode cX0_store_2 24 = .ok (.bipush 8, 2) := dk_16 8 (dk_at dksX0_store_2_1 0 rfl rfl)
theorem dX0_store_2_26 : decode cX0_store_2 26 = .ok (.if_icmp .eq 7, 3) := dk_159 0 7 (dk_at dksX0_store_2_1 2 rfl rfl)
theorem dX0_store_2_29 : decode cX0_store_2 29 = .ok (.iconst (-1), 1) := dk_2 (dk_at dksX0_store_2_1 5 rfl rfl)
theorem dX0_store_2_30 : decode cX0_store_2 30 = .ok (.goto 13, 3) := dk_167 0 13 (dk_at dksX0_store_2_1 6 rfl rfl)
theorem dX0_store_2_33 : decode cX0_store_2 33 = .ok (.aload_n 0, 1) := dk_42 (dk_at dksX0_store_2_1 9 rfl rfl)
theorem dX0_store_2_34 : decode cX0_store_2 34 = .ok (.iconst 4, 1) := dk_7 (dk_at dksX0_store_2_1 10 rfl rfl)
theorem dX0_store_2_35 : decode cX0_store_2 35 = .ok (.iload_n 1, 1) := dk_27 (dk_at dksX0_store_2_1 11 rfl rfl)
theorem dX0_store_2_36 : decode cX0_store_2 36 = .ok (.iload_n 2, 1) := dk_28 (dk_at dksX0_store_2_1 12 rfl rfl)
theorem dX0_store_2_37 : decode cX0_store_2 37 = .ok (.iload_n 3, 1) := dk_29 (dk_at dksX0_store_2_1 13 rfl rfl)
theorem dX0_store_2_38 : decode cX0_store_2 38 = .ok (.iconst 0, 1) := dk_3 (dk_at dksX0_store_2_1 14 rfl rfl)
theorem dX0_store_2_39 : decode cX0_store_2 39 = .ok (.iconst 0, 1) := dk_3 (dk_at dksX0_store_2_1 15 rfl rfl)
theorem dX0_store_2_40 : decode cX0_store_2 40 = .ok (.invokevirtual 586, 3) := dk_182 2 74 (dk_at dksX0_store_2_1 16 rfl rfl)
theorem dX0_store_2_43 : decode cX0_store_2 43 = .ok (.ireturn, 1) := dk_172 (dk_at dksX0_store_2_1 19 rfl rfl)
abbrev cX0_copy_2 : ByteArray := prog_1_method_72_code
def yX0_copy_2 : MethodName := ⟨RX0, "copy", "(IIIII)I"⟩
def dkwX0_copy_2_1 : List UInt8 := [29, 21, 4, 21, 5, 182, 2, 74, 172]
abbrev dktX0_copy_2_1 : List UInt8 := dkwX0_copy_2_1 ++ []
def dkwX0_copy_2_0 : List UInt8 := [42, 27, 182, 2, 68, 153, 0, 11, 42, 29, 182, 2, 68, 154, 0, 7, 2, 167, 0, 15, 42, 8, 27, 28]
abbrev dktX0_copy_2_0 : List UInt8 := dkwX0_copy_2_0 ++ dktX0_copy_2_1
theorem dksX0_copy_2_0 : cX0_copy_2.data.toList.drop 0 = dktX0_copy_2_0 := by decide +kernel
theorem dksX0_copy_2_1 : cX0_copy_2.data.toList.drop 24 = dktX0_copy_2_1 := dk_seg dksX0_copy_2_0 24 rfl rfl
theorem dX0_copy_2_0 : decode cX0_copy_2 0 = .ok (.aload_n 0, 1) := dk_42 (dk_at dksX0_copy_2_0 0 rfl rfl)
theorem dX0_copy_2_1 : decode cX0_copy_2 1 = .ok (.iload_n 1, 1) := dk_27 (dk_at dksX0_copy_2_0 1 rfl rfl)
theorem dX0_copy_2_2 : decode cX0_copy_2 2 = .ok (.invokevirtual 580, 3) := dk_182 2 68 (dk_at dksX0_copy_2_0 2 rfl rfl)
theorem dX0_copy_2_5 : decode cX0_copy_2 5 = .ok (.ifCond .eq 11, 3) := dk_153 0 11 (dk_at dksX0_copy_2_0 5 rfl rfl)
theorem dX0_copy_2_8 : decode cX0_copy_2 8 = .ok (.aload_n 0, 1) := dk_42 (dk_at dksX0_copy_2_0 8 rfl rfl)
theorem dX0_copy_2_9 : decode cX0_copy_2 9 = .ok (.iload_n 3, 1) := dk_29 (dk_at dksX0_copy_2_0 9 rfl rfl)
theorem dX0_copy_2_10 : decode cX0_copy_2 10 = .ok (.invokevirtual 580, 3) := dk_182 2 68 (dk_at dksX0_copy_2_0 10 rfl rfl)
theorem dX0_copy_2_13 : decode cX0_copy_2 13 = .ok (.ifCond .ne 7, 3) := dk_154 0 7 (dk_at dksX0_copy_2_0 13 rfl rfl)
theorem dX0_copy_2_16 : decode cX0_copy_2 16 = .ok (.iconst (-1), 1) := dk_2 (dk_at dksX0_copy_2_0 16 rfl rfl)
theorem dX0_copy_2_17 : decode cX0_copy_2 17 = .ok (.goto 15, 3) := dk_167 0 15 (dk_at dksX0_copy_2_0 17 rfl rfl)
theorem dX0_copy_2_20 : decode cX0_copy_2 20 = .ok (.aload_n 0, 1) := dk_42 (dk_at dksX0_copy_2_0 20 rfl rfl)
theorem dX0_copy_2_21 : decode cX0_copy_2 21 = .ok (.iconst 5, 1) := dk_8 (dk_at dksX0_copy_2_0 21 rfl rfl)
theorem dX0_copy_2_22 : decode cX0_copy_2 22 = .ok (.iload_n 1, 1) := dk_27 (dk_at dksX0_copy_2_0 22 rfl rfl)
theorem dX0_copy_2_23 : decode cX0_copy_2 23 = .ok (.iload_n 2, 1) := dk_28 (dk_at dksX0_copy_2_0 23 rfl rfl)
theorem dX0_copy_2_24 : decode cX0_copy_2 24 = .ok (.iload_n 3, 1) := dk_29 (dk_at dksX0_copy_2_1 0 rfl rfl)
theorem dX0_copy_2_25 : decode cX0_copy_2 25 = .ok (.iload 4, 2) := dk_21 4 (dk_at dksX0_copy_2_1 1 rfl rfl)
theorem dX0_copy_2_27 : decode cX0_copy_2 27 = .ok (.iload 5, 2) := dk_21 5 (dk_at dksX0_copy_2_1 3 rfl rfl)
theorem dX0_copy_2_29 : decode cX0_copy_2 29 = .ok (.invokevirtual 586, 3) := dk_182 2 74 (dk_at dksX0_copy_2_1 5 rfl rfl)
theorem dX0_copy_2_32 : decode cX0_copy_2 32 = .ok (.ireturn, 1) := dk_172 (dk_at dksX0_copy_2_1 8 rfl rfl)
abbrev cX0_call_2 : ByteArray := prog_1_method_73_code
def yX0_call_2 : MethodName := ⟨RX0, "call", "(IIII)I"⟩
def dkwX0_call_2_2 : List UInt8 := [21, 4, 3, 182, 2, 74, 172]
abbrev dktX0_call_2_2 : List UInt8 := dkwX0_call_2_2 ++ []
def dkwX0_call_2_1 : List UInt8 := [184, 1, 163, 153, 0, 11, 21, 4, 184, 2, 98, 154, 0, 7, 2, 167, 0, 15, 42, 16, 6, 27, 28, 29]
abbrev dktX0_call_2_1 : List UInt8 := dkwX0_call_2_1 ++ dktX0_call_2_2
def dkwX0_call_2_0 : List UInt8 := [42, 27, 182, 2, 34, 153, 0, 31, 42, 28, 182, 2, 68, 153, 0, 23, 29, 133, 9, 20, 1, 179]
abbrev dktX0_call_2_0 : List UInt8 := dkwX0_call_2_0 ++ dktX0_call_2_1
theorem dksX0_call_2_0 : cX0_call_2.data.toList.drop 0 = dktX0_call_2_0 := by decide +kernel
theorem dksX0_call_2_1 : cX0_call_2.data.toList.drop 22 = dktX0_call_2_1 := dk_seg dksX0_call_2_0 22 rfl rfl
theorem dksX0_call_2_2 : cX0_call_2.data.toList.drop 46 = dktX0_call_2_2 := dk_seg dksX0_call_2_1 24 rfl rfl
theorem dX0_call_2_0 : decode cX0_call_2 0 = .ok (.aload_n 0, 1) := dk_42 (dk_at dksX0_call_2_0 0 rfl rfl)
theorem dX0_call_2_1 : decode cX0_call_2 1 = .ok (.iload_n 1, 1) := dk_27 (dk_at dksX0_call_2_0 1 rfl rfl)
theorem dX0_call_2_2 : decode cX0_call_2 2 = .ok (.invokevirtual 546, 3) := dk_182 2 34 (dk_at dksX0_call_2_0 2 rfl rfl)
theorem dX0_call_2_5 : decode cX0_call_2 5 = .ok (.ifCond .eq 31, 3) := dk_153 0 31 (dk_at dksX0_call_2_0 5 rfl rfl)
theorem dX0_call_2_8 : decode cX0_call_2 8 = .ok (.aload_n 0, 1) := dk_42 (dk_at dksX0_call_2_0 8 rfl rfl)
theorem dX0_call_2_9 : decode cX0_call_2 9 = .ok (.iload_n 2, 1) := dk_28 (dk_at dksX0_call_2_0 9 rfl rfl)
theorem dX0_call_2_10 : decode cX0_call_2 10 = .ok (.invokevirtual 580, 3) := dk_182 2 68 (dk_at dksX0_call_2_0 10 rfl rfl)
theorem dX0_call_2_13 : decode cX0_call_2 13 = .ok (.ifCond .eq 23, 3) := dk_153 0 23 (dk_at dksX0_call_2_0 13 rfl rfl)
theorem dX0_call_2_16 : decode cX0_call_2 16 = .ok (.iload_n 3, 1) := dk_29 (dk_at dksX0_call_2_0 16 rfl rfl)
theorem dX0_call_2_17 : decode cX0_call_2 17 = .ok (.i2l, 1) := dk_133 (dk_at dksX0_call_2_0 17 rfl rfl)
theorem dX0_call_2_18 : decode cX0_call_2 18 = .ok (.lconst 0, 1) := dk_9 (dk_at dksX0_call_2_0 18 rfl rfl)
theorem dX0_call_2_19 : decode cX0_call_2 19 = .ok (.ldc2_w 435, 3) := dk_20 1 179 (dk_at dksX0_call_2_0 19 rfl rfl)
theorem dX0_call_2_22 : decode cX0_call_2 22 = .ok (.invokestatic 419, 3) := dk_184 1 163 (dk_at dksX0_call_2_1 0 rfl rfl)
theorem dX0_call_2_25 : decode cX0_call_2 25 = .ok (.ifCond .eq 11, 3) := dk_153 0 11 (dk_at dksX0_call_2_1 3 rfl rfl)
theorem dX0_call_2_28 : decode cX0_call_2 28 = .ok (.iload 4, 2) := dk_21 4 (dk_at dksX0_call_2_1 6 rfl rfl)
theorem dX0_call_2_30 : decode cX0_call_2 30 = .ok (.invokestatic 610, 3) := dk_184 2 98 (dk_at dksX0_call_2_1 8 rfl rfl)
theorem dX0_call_2_33 : decode cX0_call_2 33 = .ok (.ifCond .ne 7, 3) := dk_154 0 7 (dk_at dksX0_call_2_1 11 rfl rfl)
theorem dX0_call_2_36 : decode cX0_call_2 36 = .ok (.iconst (-1), 1) := dk_2 (dk_at dksX0_call_2_1 14 rfl rfl)
theorem dX0_call_2_37 : decode cX0_call_2 37 = .ok (.goto 15, 3) := dk_167 0 15 (dk_at dksX0_call_2_1 15 rfl rfl)
theorem dX0_call_2_40 : decode cX0_call_2 40 = .ok (.aload_n 0, 1) := dk_42 (dk_at dksX0_call_2_1 18 rfl rfl)
theorem dX0_call_2_41 : decode cX0_call_2 41 = .ok (.bipush 6, 2) := dk_16 6 (dk_at dksX0_call_2_1 19 rfl rfl)
theorem dX0_call_2_43 : decode cX0_call_2 43 = .ok (.iload_n 1, 1) := dk_27 (dk_at dksX0_call_2_1 21 rfl rfl)
theorem dX0_call_2_44 : decode cX0_call_2 44 = .ok (.iload_n 2, 1) := dk_28 (dk_at dksX0_call_2_1 22 rfl rfl)
theorem dX0_call_2_45 : decode cX0_call_2 45 = .ok (.iload_n 3, 1) := dk_29 (dk_at dksX0_call_2_1 23 rfl rfl)
theorem dX0_call_2_46 : decode cX0_call_2 46 = .ok (.iload 4, 2) := dk_21 4 (dk_at dksX0_call_2_2 0 rfl rfl)
theorem dX0_call_2_48 : decode cX0_call_2 48 = .ok (.iconst 0, 1) := dk_3 (dk_at dksX0_call_2_2 2 rfl rfl)
theorem dX0_call_2_49 : decode cX0_call_2 49 = .ok (.invokevirtual 586, 3) := dk_182 2 74 (dk_at dksX0_call_2_2 3 rfl rfl)
theorem dX0_call_2_52 : decode cX0_call_2 52 = .ok (.ireturn, 1) := dk_172 (dk_at dksX0_call_2_2 6 rfl rfl)
abbrev cX0_cause_2 : ByteArray := prog_1_method_74_code
def yX0_cause_2 : MethodName := ⟨RX0, "cause", "(I)I"⟩
def dkwX0_cause_2_1 : List UInt8 := [5, 160, 0, 10, 42, 180, 1, 25, 167, 0, 4, 2, 172]
abbrev dktX0_cause_2_1 : List UInt8 := dkwX0_cause_2_1 ++ []
def dkwX0_cause_2_0 : List UInt8 := [27, 154, 0, 10, 42, 180, 1, 19, 167, 0, 28, 27, 4, 160, 0, 10, 42, 180, 1, 22, 167, 0, 16, 27]
abbrev dktX0_cause_2_0 : List UInt8 := dkwX0_cause_2_0 ++ dktX0_cause_2_1
theorem dksX0_cause_2_0 : cX0_cause_2.data.toList.drop 0 = dktX0_cause_2_0 := by decide +kernel
theorem dksX0_cause_2_1 : cX0_cause_2.data.toList.drop 24 = dktX0_cause_2_1 := dk_seg dksX0_cause_2_0 24 rfl rfl
theorem dX0_cause_2_0 : decode cX0_cause_2 0 = .ok (.iload_n 1, 1) := dk_27 (dk_at dksX0_cause_2_0 0 rfl rfl)
theorem dX0_cause_2_1 : decode cX0_cause_2 1 = .ok (.ifCond .ne 10, 3) := dk_154 0 10 (dk_at dksX0_cause_2_0 1 rfl rfl)
theorem dX0_cause_2_4 : decode cX0_cause_2 4 = .ok (.aload_n 0, 1) := dk_42 (dk_at dksX0_cause_2_0 4 rfl rfl)
theorem dX0_cause_2_5 : decode cX0_cause_2 5 = .ok (.getfield 275, 3) := dk_180 1 19 (dk_at dksX0_cause_2_0 5 rfl rfl)
theorem dX0_cause_2_8 : decode cX0_cause_2 8 = .ok (.goto 28, 3) := dk_167 0 28 (dk_at dksX0_cause_2_0 8 rfl rfl)
theorem dX0_cause_2_11 : decode cX0_cause_2 11 = .ok (.iload_n 1, 1) := dk_27 (dk_at dksX0_cause_2_0 11 rfl rfl)
theorem dX0_cause_2_12 : decode cX0_cause_2 12 = .ok (.iconst 1, 1) := dk_4 (dk_at dksX0_cause_2_0 12 rfl rfl)
theorem dX0_cause_2_13 : decode cX0_cause_2 13 = .ok (.if_icmp .ne 10, 3) := dk_160 0 10 (dk_at dksX0_cause_2_0 13 rfl rfl)
theorem dX0_cause_2_16 : decode cX0_cause_2 16 = .ok (.aload_n 0, 1) := dk_42 (dk_at dksX0_cause_2_0 16 rfl rfl)
theorem dX0_cause_2_17 : decode cX0_cause_2 17 = .ok (.getfield 278, 3) := dk_180 1 22 (dk_at dksX0_cause_2_0 17 rfl rfl)
theorem dX0_cause_2_20 : decode cX0_cause_2 20 = .ok (.goto 16, 3) := dk_167 0 16 (dk_at dksX0_cause_2_0 20 rfl rfl)
theorem dX0_cause_2_23 : decode cX0_cause_2 23 = .ok (.iload_n 1, 1) := dk_27 (dk_at dksX0_cause_2_0 23 rfl rfl)
theorem dX0_cause_2_24 : decode cX0_cause_2 24 = .ok (.iconst 2, 1) := dk_5 (dk_at dksX0_cause_2_1 0 rfl rfl)
theorem dX0_cause_2_25 : decode cX0_cause_2 25 = .ok (.if_icmp .ne 10, 3) := dk_160 0 10 (dk_at dksX0_cause_2_1 1 rfl rfl)
theorem dX0_cause_2_28 : decode cX0_cause_2 28 = .ok (.aload_n 0, 1) := dk_42 (dk_at dksX0_cause_2_1 4 rfl rfl)
theorem dX0_cause_2_29 : decode cX0_cause_2 29 = .ok (.getfield 281, 3) := dk_180 1 25 (dk_at dksX0_cause_2_1 5 rfl rfl)
theorem dX0_cause_2_32 : decode cX0_cause_2 32 = .ok (.goto 4, 3) := dk_167 0 4 (dk_at dksX0_cause_2_1 8 rfl rfl)
theorem dX0_cause_2_35 : decode cX0_cause_2 35 = .ok (.iconst (-1), 1) := dk_2 (dk_at dksX0_cause_2_1 11 rfl rfl)
theorem dX0_cause_2_36 : decode cX0_cause_2 36 = .ok (.ireturn, 1) := dk_172 (dk_at dksX0_cause_2_1 12 rfl rfl)
abbrev cX0_count : ByteArray := prog_1_method_75_code
def yX0_count : MethodName := ⟨RX0, "count", "(I)I"⟩
def dkwX0_count_3 : List UInt8 := [180, 1, 137, 182, 2, 110, 172, 42, 180, 1, 234, 172, 2, 172]
abbrev dktX0_count_3 : List UInt8 := dkwX0_count_3 ++ []
def dkwX0_count_2 : List UInt8 := [42, 180, 0, 1, 172, 42, 180, 0, 17, 172, 42, 180, 1, 120, 172, 42, 180, 1, 39, 182, 2, 110, 172, 42]
abbrev dktX0_count_2 : List UInt8 := dkwX0_count_2 ++ dktX0_count_3
def dkwX0_count_1 : List UInt8 := [170, 0, 0, 0, 0, 0, 75, 0, 0, 0, 0, 0, 0, 0, 5, 0, 0, 0, 39, 0, 0, 0, 44, 0, 0, 0, 49, 0, 0, 0, 54, 0, 0, 0, 62, 0, 0, 0, 70]
abbrev dktX0_count_1 : List UInt8 := dkwX0_count_1 ++ dktX0_count_2
def dkwX0_count_0 : List UInt8 := [27]
abbrev dktX0_count_0 : List UInt8 := dkwX0_count_0 ++ dktX0_count_1
theorem dksX0_count_0 : cX0_count.data.toList.drop 0 = dktX0_count_0 := by decide +kernel
theorem dksX0_count_1 : cX0_count.data.toList.drop 1 = dktX0_count_1 := dk_seg dksX0_count_0 1 rfl rfl
theorem dksX0_count_2 : cX0_count.data.toList.drop 40 = dktX0_count_2 := dk_seg dksX0_count_1 39 rfl rfl
theorem dksX0_count_3 : cX0_count.data.toList.drop 64 = dktX0_count_3 := dk_seg dksX0_count_2 24 rfl rfl
theorem dX0_count_0 : decode cX0_count 0 = .ok (.iload_n 1, 1) := dk_27 (dk_at dksX0_count_0 0 rfl rfl)
theorem dX0_count_1 : decode cX0_count 1 = .ok (.tableswitch 75 0 5 #[39, 44, 49, 54, 62, 70], 39) := by decide +kernel
theorem dX0_count_40 : decode cX0_count 40 = .ok (.aload_n 0, 1) := dk_42 (dk_at dksX0_count_2 0 rfl rfl)
theorem dX0_count_41 : decode cX0_count 41 = .ok (.getfield 1, 3) := dk_180 0 1 (dk_at dksX0_count_2 1 rfl rfl)
theorem dX0_count_44 : decode cX0_count 44 = .ok (.ireturn, 1) := dk_172 (dk_at dksX0_count_2 4 rfl rfl)
theorem dX0_count_45 : decode cX0_count 45 = .ok (.aload_n 0, 1) := dk_42 (dk_at dksX0_count_2 5 rfl rfl)
theorem dX0_count_46 : decode cX0_count 46 = .ok (.getfield 17, 3) := dk_180 0 17 (dk_at dksX0_count_2 6 rfl rfl)
theorem dX0_count_49 : decode cX0_count 49 = .ok (.ireturn, 1) := dk_172 (dk_at dksX0_count_2 9 rfl rfl)
theorem dX0_count_50 : decode cX0_count 50 = .ok (.aload_n 0, 1) := dk_42 (dk_at dksX0_count_2 10 rfl rfl)
theorem dX0_count_51 : decode cX0_count 51 = .ok (.getfield 376, 3) := dk_180 1 120 (dk_at dksX0_count_2 11 rfl rfl)
theorem dX0_count_54 : decode cX0_count 54 = .ok (.ireturn, 1) := dk_172 (dk_at dksX0_count_2 14 rfl rfl)
theorem dX0_count_55 : decode cX0_count 55 = .ok (.aload_n 0, 1) := dk_42 (dk_at dksX0_count_2 15 rfl rfl)
theorem dX0_count_56 : decode cX0_count 56 = .ok (.getfield 295, 3) := dk_180 1 39 (dk_at dksX0_count_2 16 rfl rfl)
theorem dX0_count_59 : decode cX0_count 59 = .ok (.invokevirtual 622, 3) := dk_182 2 110 (dk_at dksX0_count_2 19 rfl rfl)
theorem dX0_count_62 : decode cX0_count 62 = .ok (.ireturn, 1) := dk_172 (dk_at dksX0_count_2 22 rfl rfl)
theorem dX0_count_63 : decode cX0_count 63 = .ok (.aload_n 0, 1) := dk_42 (dk_at dksX0_count_2 23 rfl rfl)
theorem dX0_count_64 : decode cX0_count 64 = .ok (.getfield 393, 3) := dk_180 1 137 (dk_at dksX0_count_3 0 rfl rfl)
theorem dX0_count_67 : decode cX0_count 67 = .ok (.invokevirtual 622, 3) := dk_182 2 110 (dk_at dksX0_count_3 3 rfl rfl)
theorem dX0_count_70 : decode cX0_count 70 = .ok (.ireturn, 1) := dk_172 (dk_at dksX0_count_3 6 rfl rfl)
theorem dX0_count_71 : decode cX0_count 71 = .ok (.aload_n 0, 1) := dk_42 (dk_at dksX0_count_3 7 rfl rfl)
theorem dX0_count_72 : decode cX0_count 72 = .ok (.getfield 490, 3) := dk_180 1 234 (dk_at dksX0_count_3 8 rfl rfl)
theorem dX0_count_75 : decode cX0_count 75 = .ok (.ireturn, 1) := dk_172 (dk_at dksX0_count_3 11 rfl rfl)
theorem dX0_count_76 : decode cX0_count 76 = .ok (.iconst (-1), 1) := dk_2 (dk_at dksX0_count_3 12 rfl rfl)
theorem dX0_count_77 : decode cX0_count 77 = .ok (.ireturn, 1) := dk_172 (dk_at dksX0_count_3 13 rfl rfl)
theorem q90 : (Jvm.Cond.initialized "ReflectMirror") ∈ lw_all := lw_g (lw_at lw_m1 1 rfl) rfl
theorem q140 : (Jvm.Cond.instantiable "ReflectMirror" (14 : Nat)) ∈ lw_all := lw_g (lw_at lw_m1 51 rfl) rfl
theorem q142 : (Jvm.Cond.instanceMethod ({ cls := "ReflectMirror", name := "<init>", desc := "()V" } : Jvm.MethodName)) ∈ lw_all := lw_g (lw_at lw_m1 53 rfl) rfl
theorem q143 : (Jvm.Cond.code ({ cls := "ReflectMirror", name := "<init>", desc := "()V" } : Jvm.MethodName) prog_1_method_27_code (2 : Nat) (Option.none : Option Jvm.ClassFile.FieldType)) ∈ lw_all := lw_g (lw_at lw_m1 54 rfl) rfl
theorem q144 : (Jvm.Cond.methodLink "ReflectMirror" (405 : Nat) ({ cls := "java/lang/Object", name := "<init>", desc := "()V" } : Jvm.MethodName)) ∈ lw_all := lw_g (lw_at lw_m1 55 rfl) rfl
theorem q147 : (Jvm.Cond.classLink "ReflectMirror" (12 : Nat) "ReflectMirror$Type") ∈ lw_all := lw_g (lw_at lw_m1 58 rfl) rfl
theorem q149 : (Jvm.Cond.classLink "ReflectMirror" (25 : Nat) "ReflectMirror$Member") ∈ lw_all := lw_g (lw_at lw_m1 60 rfl) rfl
theorem q151 : (Jvm.Cond.classLink "ReflectMirror" (193 : Nat) "ReflectMirror$Thing") ∈ lw_all := lw_g (lw_at lw_m1 62 rfl) rfl
theorem q153 : (Jvm.Cond.classLink "ReflectMirror" (76 : Nat) "ReflectMirror$Cell") ∈ lw_all := lw_g (lw_at lw_m1 64 rfl) rfl
theorem q155 : (Jvm.Cond.classLink "ReflectMirror" (300 : Nat) "ReflectMirror$Tally") ∈ lw_all := lw_g (lw_at lw_m1 66 rfl) rfl
theorem q157 : (Jvm.Cond.methodLinkNest "ReflectMirror" (408 : Nat) ({ cls := "ReflectMirror$Tally", name := "<init>", desc := "()V" } : Jvm.MethodName) "ReflectMirror") ∈ lw_tbl := lw_at lw_m1 68 rfl
theorem q165 : (Jvm.Cond.classLink "ReflectMirror" (409 : Nat) "ReflectMirror$Primitive") ∈ lw_all := lw_g (lw_at lw_m1 76 rfl) rfl
theorem q167 : (Jvm.Cond.methodLink "ReflectMirror" (411 : Nat) ({ cls := "ReflectMirror$Primitive", name := "<init>", desc := "(I)V" } : Jvm.MethodName)) ∈ lw_all := lw_g (lw_at lw_m1 78 rfl) rfl
theorem q179 : (Jvm.Cond.fieldLink "ReflectMirror" (206 : Nat) "ReflectMirror$Type" "pack" "I") ∈ lw_all := lw_g (lw_at lw_m1 90 rfl) rfl
theorem q186 : (Jvm.Cond.fieldLink "ReflectMirror" (463 : Nat) "ReflectMirror$Type" "faces" "[LReflectMirror$Type;") ∈ lw_all := lw_g (lw_at lw_m1 97 rfl) rfl
theorem q192 : (Jvm.Cond.fieldLink "ReflectMirror" (460 : Nat) "ReflectMirror$Type" "faceMany" "I") ∈ lw_all := lw_g (lw_at lw_m1 103 rfl) rfl
theorem q194 : (Jvm.Cond.fieldLink "ReflectMirror" (66 : Nat) "ReflectMirror$Type" "above" "[LReflectMirror$Type;") ∈ lw_all := lw_g (lw_at lw_m1 105 rfl) rfl
theorem q195 : (Jvm.Cond.fieldLink "ReflectMirror" (63 : Nat) "ReflectMirror$Type" "aboveMany" "I") ∈ lw_all := lw_g (lw_at lw_m1 106 rfl) rfl
theorem q198 : (Jvm.Cond.fieldLink "ReflectMirror" (445 : Nat) "ReflectMirror$Type" "rows" "LReflectMirror$Type;") ∈ lw_all := lw_g (lw_at lw_m1 109 rfl) rfl
theorem q217 : (Jvm.Cond.classLink "ReflectMirror" (412 : Nat) "ReflectMirror$Plain") ∈ lw_all := lw_g (lw_at lw_m1 128 rfl) rfl
theorem q219 : (Jvm.Cond.methodLink "ReflectMirror" (414 : Nat) ({ cls := "ReflectMirror$Plain", name := "<init>", desc := "(IILReflectMirror$Type;Z)V" } : Jvm.MethodName)) ∈ lw_all := lw_g (lw_at lw_m1 130 rfl) rfl
theorem q242 : (Jvm.Cond.methodLinkNest "ReflectMirror" (233 : Nat) ({ cls := "ReflectMirror$Cell", name := "<init>", desc := "()V" } : Jvm.MethodName) "ReflectMirror") ∈ lw_tbl := lw_at lw_m1 153 rfl
theorem q247 : (Jvm.Cond.fieldLink "ReflectMirror" (129 : Nat) "ReflectMirror$Cell" "as" "I") ∈ lw_all := lw_g (lw_at lw_m1 158 rfl) rfl
theorem q250 : (Jvm.Cond.fieldLink "ReflectMirror" (75 : Nat) "ReflectMirror$Cell" "bits" "J") ∈ lw_all := lw_g (lw_at lw_m1 161 rfl) rfl
theorem q254 : (Jvm.Cond.fieldLink "ReflectMirror" (125 : Nat) "ReflectMirror$Cell" "thing" "LReflectMirror$Thing;") ∈ lw_all := lw_g (lw_at lw_m1 165 rfl) rfl
theorem q262 : (Jvm.Cond.methodLink "ReflectMirror" (417 : Nat) ({ cls := "ReflectMirror", name := "climb", desc := "()V" } : Jvm.MethodName)) ∈ lw_all := lw_g (lw_at lw_m1 173 rfl) rfl
theorem q263 : (Jvm.Cond.privateMethod ({ cls := "ReflectMirror", name := "climb", desc := "()V" } : Jvm.MethodName)) ∈ lw_tbl := lw_at lw_m1 174 rfl
theorem q264 : (Jvm.Cond.instanceMethod ({ cls := "ReflectMirror", name := "climb", desc := "()V" } : Jvm.MethodName)) ∈ lw_all := lw_g (lw_at lw_m1 175 rfl) rfl
theorem q265 : (Jvm.Cond.code ({ cls := "ReflectMirror", name := "climb", desc := "()V" } : Jvm.MethodName) prog_1_method_2_code (2 : Nat) (Option.none : Option Jvm.ClassFile.FieldType)) ∈ lw_all := lw_g (lw_at lw_m1 176 rfl) rfl
theorem q266 : (Jvm.Cond.methodLink "ReflectMirror" (11 : Nat) ({ cls := "ReflectMirror$Type", name := "climb", desc := "(LReflectMirror$Type;)V" } : Jvm.MethodName)) ∈ lw_all := lw_g (lw_at lw_m1 177 rfl) rfl
theorem q325 : (Jvm.Cond.fieldLink "ReflectMirror" (7 : Nat) "ReflectMirror" "types" "[LReflectMirror$Type;") ∈ lw_all := lw_g (lw_at lw_m1 236 rfl) rfl
theorem q328 : (Jvm.Cond.fieldLink "ReflectMirror" (1 : Nat) "ReflectMirror" "typeMany" "I") ∈ lw_all := lw_g (lw_at lw_m1 239 rfl) rfl
theorem q329 : (Jvm.Cond.fieldLink "ReflectMirror" (20 : Nat) "ReflectMirror" "members" "[LReflectMirror$Member;") ∈ lw_all := lw_g (lw_at lw_m2 0 rfl) rfl
theorem q330 : (Jvm.Cond.fieldLink "ReflectMirror" (17 : Nat) "ReflectMirror" "memberMany" "I") ∈ lw_all := lw_g (lw_at lw_m2 1 rfl) rfl
theorem q331 : (Jvm.Cond.fieldLink "ReflectMirror" (490 : Nat) "ReflectMirror" "fieldMany" "I") ∈ lw_all := lw_g (lw_at lw_m2 2 rfl) rfl
theorem q332 : (Jvm.Cond.fieldLink "ReflectMirror" (400 : Nat) "ReflectMirror" "things" "[LReflectMirror$Thing;") ∈ lw_all := lw_g (lw_at lw_m2 3 rfl) rfl
theorem q333 : (Jvm.Cond.fieldLink "ReflectMirror" (376 : Nat) "ReflectMirror" "thingMany" "I") ∈ lw_all := lw_g (lw_at lw_m2 4 rfl) rfl
theorem q334 : (Jvm.Cond.fieldLink "ReflectMirror" (339 : Nat) "ReflectMirror" "slots" "[LReflectMirror$Cell;") ∈ lw_all := lw_g (lw_at lw_m2 5 rfl) rfl
theorem q335 : (Jvm.Cond.fieldLink "ReflectMirror" (198 : Nat) "ReflectMirror" "caller" "LReflectMirror$Type;") ∈ lw_all := lw_g (lw_at lw_m2 6 rfl) rfl
theorem q336 : (Jvm.Cond.fieldLink "ReflectMirror" (295 : Nat) "ReflectMirror" "begun" "LReflectMirror$Tally;") ∈ lw_all := lw_g (lw_at lw_m2 7 rfl) rfl
theorem q337 : (Jvm.Cond.fieldLink "ReflectMirror" (393 : Nat) "ReflectMirror" "ended" "LReflectMirror$Tally;") ∈ lw_all := lw_g (lw_at lw_m2 8 rfl) rfl
theorem q338 : (Jvm.Cond.fieldLink "ReflectMirror" (275 : Nat) "ReflectMirror" "causeKind" "I") ∈ lw_all := lw_g (lw_at lw_m2 9 rfl) rfl
theorem q339 : (Jvm.Cond.fieldLink "ReflectMirror" (278 : Nat) "ReflectMirror" "causeMethod" "I") ∈ lw_all := lw_g (lw_at lw_m2 10 rfl) rfl
theorem q340 : (Jvm.Cond.fieldLink "ReflectMirror" (281 : Nat) "ReflectMirror" "causeWithin" "I") ∈ lw_all := lw_g (lw_at lw_m2 11 rfl) rfl
theorem q341 : (Jvm.Cond.laysFinal "ReflectMirror" "ReflectMirror" "types" "[LReflectMirror$Type;") ∈ lw_all := lw_g (lw_at lw_m2 12 rfl) rfl
theorem q342 : (Jvm.Cond.soleField "ReflectMirror" "types") ∈ lw_all := lw_g (lw_at lw_m2 13 rfl) rfl
theorem q343 : (Jvm.Cond.lays "ReflectMirror" "ReflectMirror" "typeMany" "I") ∈ lw_all := lw_g (lw_at lw_m2 14 rfl) rfl
theorem q344 : (Jvm.Cond.soleField "ReflectMirror" "typeMany") ∈ lw_all := lw_g (lw_at lw_m2 15 rfl) rfl
theorem q345 : (Jvm.Cond.laysFinal "ReflectMirror" "ReflectMirror" "members" "[LReflectMirror$Member;") ∈ lw_all := lw_g (lw_at lw_m2 16 rfl) rfl
theorem q346 : (Jvm.Cond.soleField "ReflectMirror" "members") ∈ lw_all := lw_g (lw_at lw_m2 17 rfl) rfl
theorem q347 : (Jvm.Cond.lays "ReflectMirror" "ReflectMirror" "memberMany" "I") ∈ lw_all := lw_g (lw_at lw_m2 18 rfl) rfl
theorem q348 : (Jvm.Cond.soleField "ReflectMirror" "memberMany") ∈ lw_all := lw_g (lw_at lw_m2 19 rfl) rfl
theorem q349 : (Jvm.Cond.lays "ReflectMirror" "ReflectMirror" "fieldMany" "I") ∈ lw_all := lw_g (lw_at lw_m2 20 rfl) rfl
theorem q350 : (Jvm.Cond.soleField "ReflectMirror" "fieldMany") ∈ lw_all := lw_g (lw_at lw_m2 21 rfl) rfl
theorem q351 : (Jvm.Cond.laysFinal "ReflectMirror" "ReflectMirror" "things" "[LReflectMirror$Thing;") ∈ lw_all := lw_g (lw_at lw_m2 22 rfl) rfl
theorem q352 : (Jvm.Cond.soleField "ReflectMirror" "things") ∈ lw_all := lw_g (lw_at lw_m2 23 rfl) rfl
theorem q353 : (Jvm.Cond.lays "ReflectMirror" "ReflectMirror" "thingMany" "I") ∈ lw_all := lw_g (lw_at lw_m2 24 rfl) rfl
theorem q354 : (Jvm.Cond.soleField "ReflectMirror" "thingMany") ∈ lw_all := lw_g (lw_at lw_m2 25 rfl) rfl
theorem q355 : (Jvm.Cond.laysFinal "ReflectMirror" "ReflectMirror" "slots" "[LReflectMirror$Cell;") ∈ lw_all := lw_g (lw_at lw_m2 26 rfl) rfl
theorem q356 : (Jvm.Cond.soleField "ReflectMirror" "slots") ∈ lw_all := lw_g (lw_at lw_m2 27 rfl) rfl
theorem q357 : (Jvm.Cond.lays "ReflectMirror" "ReflectMirror" "caller" "LReflectMirror$Type;") ∈ lw_all := lw_g (lw_at lw_m2 28 rfl) rfl
theorem q358 : (Jvm.Cond.soleField "ReflectMirror" "caller") ∈ lw_all := lw_g (lw_at lw_m2 29 rfl) rfl
theorem q359 : (Jvm.Cond.laysFinal "ReflectMirror" "ReflectMirror" "begun" "LReflectMirror$Tally;") ∈ lw_all := lw_g (lw_at lw_m2 30 rfl) rfl
theorem q360 : (Jvm.Cond.soleField "ReflectMirror" "begun") ∈ lw_all := lw_g (lw_at lw_m2 31 rfl) rfl
theorem q361 : (Jvm.Cond.laysFinal "ReflectMirror" "ReflectMirror" "ended" "LReflectMirror$Tally;") ∈ lw_all := lw_g (lw_at lw_m2 32 rfl) rfl
theorem q362 : (Jvm.Cond.soleField "ReflectMirror" "ended") ∈ lw_all := lw_g (lw_at lw_m2 33 rfl) rfl
theorem q363 : (Jvm.Cond.lays "ReflectMirror" "ReflectMirror" "causeKind" "I") ∈ lw_all := lw_g (lw_at lw_m2 34 rfl) rfl
theorem q364 : (Jvm.Cond.soleField "ReflectMirror" "causeKind") ∈ lw_all := lw_g (lw_at lw_m2 35 rfl) rfl
theorem q365 : (Jvm.Cond.lays "ReflectMirror" "ReflectMirror" "causeMethod" "I") ∈ lw_all := lw_g (lw_at lw_m2 36 rfl) rfl
theorem q366 : (Jvm.Cond.soleField "ReflectMirror" "causeMethod") ∈ lw_all := lw_g (lw_at lw_m2 37 rfl) rfl
theorem q367 : (Jvm.Cond.lays "ReflectMirror" "ReflectMirror" "causeWithin" "I") ∈ lw_all := lw_g (lw_at lw_m2 38 rfl) rfl
theorem q368 : (Jvm.Cond.soleField "ReflectMirror" "causeWithin") ∈ lw_all := lw_g (lw_at lw_m2 39 rfl) rfl
theorem q369 : (Jvm.Cond.superclass "ReflectMirror" "java/lang/Object") ∈ lw_all := lw_g (lw_at lw_m2 40 rfl) rfl
theorem q371 : (Jvm.Cond.instanceMethod ({ cls := "ReflectMirror", name := "type", desc := "(IIZ)I" } : Jvm.MethodName)) ∈ lw_all := lw_g (lw_at lw_m2 42 rfl) rfl
theorem q372 : (Jvm.Cond.selects "ReflectMirror" ({ cls := "ReflectMirror", name := "type", desc := "(IIZ)I" } : Jvm.MethodName) ({ cls := "ReflectMirror", name := "type", desc := "(IIZ)I" } : Jvm.MethodName)) ∈ lw_all := lw_g (lw_at lw_m2 43 rfl) rfl
theorem q373 : (Jvm.Cond.code ({ cls := "ReflectMirror", name := "type", desc := "(IIZ)I" } : Jvm.MethodName) prog_1_method_34_code (4 : Nat) (Option.some Jvm.ClassFile.FieldType.int)) ∈ lw_all := lw_g (lw_at lw_m2 44 rfl) rfl
theorem q374 : (Jvm.Cond.methodLink "ReflectMirror" (429 : Nat) ({ cls := "ReflectMirror", name := "isType", desc := "(I)Z" } : Jvm.MethodName)) ∈ lw_all := lw_g (lw_at lw_m2 45 rfl) rfl
theorem q375 : (Jvm.Cond.privateMethod ({ cls := "ReflectMirror", name := "isType", desc := "(I)Z" } : Jvm.MethodName)) ∈ lw_tbl := lw_at lw_m2 46 rfl
theorem q376 : (Jvm.Cond.instanceMethod ({ cls := "ReflectMirror", name := "isType", desc := "(I)Z" } : Jvm.MethodName)) ∈ lw_all := lw_g (lw_at lw_m2 47 rfl) rfl
theorem q377 : (Jvm.Cond.code ({ cls := "ReflectMirror", name := "isType", desc := "(I)Z" } : Jvm.MethodName) prog_1_method_28_code (2 : Nat) (Option.some Jvm.ClassFile.FieldType.boolean)) ∈ lw_all := lw_g (lw_at lw_m2 48 rfl) rfl
theorem q378 : (Jvm.Cond.methodLink "ReflectMirror" (419 : Nat) ({ cls := "ReflectMirror", name := "isIn", desc := "(JJJ)Z" } : Jvm.MethodName)) ∈ lw_all := lw_g (lw_at lw_m2 49 rfl) rfl
theorem q379 : (Jvm.Cond.static ({ cls := "ReflectMirror", name := "isIn", desc := "(JJJ)Z" } : Jvm.MethodName)) ∈ lw_all := lw_g (lw_at lw_m2 50 rfl) rfl
theorem q380 : (Jvm.Cond.code ({ cls := "ReflectMirror", name := "isIn", desc := "(JJJ)Z" } : Jvm.MethodName) prog_1_method_1_code (6 : Nat) (Option.some Jvm.ClassFile.FieldType.boolean)) ∈ lw_all := lw_g (lw_at lw_m2 51 rfl) rfl
theorem q381 : (Jvm.Cond.methodLink "ReflectMirror" (432 : Nat) ({ cls := "ReflectMirror$Type", name := "isClass", desc := "()Z" } : Jvm.MethodName)) ∈ lw_all := lw_g (lw_at lw_m2 52 rfl) rfl
theorem q391 : (Jvm.Cond.constantLong "ReflectMirror" (435 : Nat) (3 : Int64)) ∈ lw_all := lw_g (lw_at lw_m2 62 rfl) rfl
theorem q392 : (Jvm.Cond.methodLink "ReflectMirror" (437 : Nat) ({ cls := "ReflectMirror", name := "add", desc := "(LReflectMirror$Type;)I" } : Jvm.MethodName)) ∈ lw_all := lw_g (lw_at lw_m2 63 rfl) rfl
theorem q393 : (Jvm.Cond.privateMethod ({ cls := "ReflectMirror", name := "add", desc := "(LReflectMirror$Type;)I" } : Jvm.MethodName)) ∈ lw_tbl := lw_at lw_m2 64 rfl
theorem q394 : (Jvm.Cond.instanceMethod ({ cls := "ReflectMirror", name := "add", desc := "(LReflectMirror$Type;)I" } : Jvm.MethodName)) ∈ lw_all := lw_g (lw_at lw_m2 65 rfl) rfl
theorem q395 : (Jvm.Cond.code ({ cls := "ReflectMirror", name := "add", desc := "(LReflectMirror$Type;)I" } : Jvm.MethodName) prog_1_method_33_code (2 : Nat) (Option.some Jvm.ClassFile.FieldType.int)) ∈ lw_all := lw_g (lw_at lw_m2 66 rfl) rfl
theorem q396 : (Jvm.Cond.methodLink "ReflectMirror" (428 : Nat) ({ cls := "ReflectMirror$Type", name := "number", desc := "()I" } : Jvm.MethodName)) ∈ lw_all := lw_g (lw_at lw_m2 67 rfl) rfl
theorem q405 : (Jvm.Cond.instanceMethod ({ cls := "ReflectMirror", name := "face", desc := "(I)I" } : Jvm.MethodName)) ∈ lw_all := lw_g (lw_at lw_m2 76 rfl) rfl
theorem q406 : (Jvm.Cond.selects "ReflectMirror" ({ cls := "ReflectMirror", name := "face", desc := "(I)I" } : Jvm.MethodName) ({ cls := "ReflectMirror", name := "face", desc := "(I)I" } : Jvm.MethodName)) ∈ lw_all := lw_g (lw_at lw_m2 77 rfl) rfl
theorem q407 : (Jvm.Cond.code ({ cls := "ReflectMirror", name := "face", desc := "(I)I" } : Jvm.MethodName) prog_1_method_35_code (2 : Nat) (Option.some Jvm.ClassFile.FieldType.int)) ∈ lw_all := lw_g (lw_at lw_m2 78 rfl) rfl
theorem q408 : (Jvm.Cond.classLink "ReflectMirror" (440 : Nat) "ReflectMirror$Face") ∈ lw_all := lw_g (lw_at lw_m2 79 rfl) rfl
theorem q410 : (Jvm.Cond.methodLink "ReflectMirror" (442 : Nat) ({ cls := "ReflectMirror$Face", name := "<init>", desc := "(II)V" } : Jvm.MethodName)) ∈ lw_all := lw_g (lw_at lw_m2 81 rfl) rfl
theorem q420 : (Jvm.Cond.instanceMethod ({ cls := "ReflectMirror", name := "rows", desc := "(I)I" } : Jvm.MethodName)) ∈ lw_all := lw_g (lw_at lw_m2 91 rfl) rfl
theorem q421 : (Jvm.Cond.selects "ReflectMirror" ({ cls := "ReflectMirror", name := "rows", desc := "(I)I" } : Jvm.MethodName) ({ cls := "ReflectMirror", name := "rows", desc := "(I)I" } : Jvm.MethodName)) ∈ lw_all := lw_g (lw_at lw_m2 92 rfl) rfl
theorem q422 : (Jvm.Cond.code ({ cls := "ReflectMirror", name := "rows", desc := "(I)I" } : Jvm.MethodName) prog_1_method_36_code (3 : Nat) (Option.some Jvm.ClassFile.FieldType.int)) ∈ lw_all := lw_g (lw_at lw_m2 93 rfl) rfl
theorem q423 : (Jvm.Cond.classLink "ReflectMirror" (448 : Nat) "ReflectMirror$Rows") ∈ lw_all := lw_g (lw_at lw_m2 94 rfl) rfl
theorem q425 : (Jvm.Cond.methodLink "ReflectMirror" (450 : Nat) ({ cls := "ReflectMirror$Rows", name := "<init>", desc := "(ILReflectMirror$Type;LReflectMirror$Type;)V" } : Jvm.MethodName)) ∈ lw_all := lw_g (lw_at lw_m2 96 rfl) rfl
theorem q444 : (Jvm.Cond.instanceMethod ({ cls := "ReflectMirror", name := "implement", desc := "(II)I" } : Jvm.MethodName)) ∈ lw_all := lw_g (lw_at lw_m2 115 rfl) rfl
theorem q445 : (Jvm.Cond.selects "ReflectMirror" ({ cls := "ReflectMirror", name := "implement", desc := "(II)I" } : Jvm.MethodName) ({ cls := "ReflectMirror", name := "implement", desc := "(II)I" } : Jvm.MethodName)) ∈ lw_all := lw_g (lw_at lw_m2 116 rfl) rfl
theorem q446 : (Jvm.Cond.code ({ cls := "ReflectMirror", name := "implement", desc := "(II)I" } : Jvm.MethodName) prog_1_method_37_code (5 : Nat) (Option.some Jvm.ClassFile.FieldType.int)) ∈ lw_all := lw_g (lw_at lw_m2 117 rfl) rfl
theorem q447 : (Jvm.Cond.methodLink "ReflectMirror" (453 : Nat) ({ cls := "ReflectMirror$Type", name := "declares", desc := "()Z" } : Jvm.MethodName)) ∈ lw_all := lw_g (lw_at lw_m2 118 rfl) rfl
theorem q459 : (Jvm.Cond.methodLink "ReflectMirror" (41 : Nat) ({ cls := "ReflectMirror$Type", name := "what", desc := "()I" } : Jvm.MethodName)) ∈ lw_all := lw_g (lw_at lw_m2 130 rfl) rfl
theorem q516 : (Jvm.Cond.instanceMethod ({ cls := "ReflectMirror", name := "about", desc := "(II)I" } : Jvm.MethodName)) ∈ lw_all := lw_g (lw_at lw_m2 187 rfl) rfl
theorem q517 : (Jvm.Cond.selects "ReflectMirror" ({ cls := "ReflectMirror", name := "about", desc := "(II)I" } : Jvm.MethodName) ({ cls := "ReflectMirror", name := "about", desc := "(II)I" } : Jvm.MethodName)) ∈ lw_all := lw_g (lw_at lw_m2 188 rfl) rfl
theorem q518 : (Jvm.Cond.code ({ cls := "ReflectMirror", name := "about", desc := "(II)I" } : Jvm.MethodName) prog_1_method_39_code (4 : Nat) (Option.some Jvm.ClassFile.FieldType.int)) ∈ lw_all := lw_g (lw_at lw_m2 189 rfl) rfl
theorem q519 : (Jvm.Cond.constantLong "ReflectMirror" (466 : Nat) (9 : Int64)) ∈ lw_all := lw_g (lw_at lw_m2 190 rfl) rfl
theorem q520 : (Jvm.Cond.methodLink "ReflectMirror" (59 : Nat) ({ cls := "ReflectMirror$Type", name := "parent", desc := "()LReflectMirror$Type;" } : Jvm.MethodName)) ∈ lw_all := lw_g (lw_at lw_m2 191 rfl) rfl
theorem q532 : (Jvm.Cond.methodLink "ReflectMirror" (264 : Nat) ({ cls := "ReflectMirror$Type", name := "of", desc := "()LReflectMirror$Type;" } : Jvm.MethodName)) ∈ lw_all := lw_g (lw_at lw_m2 203 rfl) rfl
theorem q542 : (Jvm.Cond.methodLink "ReflectMirror" (188 : Nat) ({ cls := "ReflectMirror$Type", name := "isReference", desc := "()Z" } : Jvm.MethodName)) ∈ lw_all := lw_g (lw_at lw_m2 213 rfl) rfl
theorem q552 : (Jvm.Cond.methodLink "ReflectMirror" (468 : Nat) ({ cls := "ReflectMirror", name := "isClosed", desc := "(LReflectMirror$Type;)Z" } : Jvm.MethodName)) ∈ lw_all := lw_g (lw_at lw_m2 223 rfl) rfl
theorem q553 : (Jvm.Cond.privateMethod ({ cls := "ReflectMirror", name := "isClosed", desc := "(LReflectMirror$Type;)Z" } : Jvm.MethodName)) ∈ lw_tbl := lw_at lw_m2 224 rfl
theorem q554 : (Jvm.Cond.instanceMethod ({ cls := "ReflectMirror", name := "isClosed", desc := "(LReflectMirror$Type;)Z" } : Jvm.MethodName)) ∈ lw_all := lw_g (lw_at lw_m2 225 rfl) rfl
theorem q555 : (Jvm.Cond.code ({ cls := "ReflectMirror", name := "isClosed", desc := "(LReflectMirror$Type;)Z" } : Jvm.MethodName) prog_1_method_38_code (4 : Nat) (Option.some Jvm.ClassFile.FieldType.boolean)) ∈ lw_all := lw_g (lw_at lw_m2 226 rfl) rfl
theorem q556 : (Jvm.Cond.classLink "ReflectMirror" (204 : Nat) "ReflectMirror$One") ∈ lw_all := lw_g (lw_at lw_m2 227 rfl) rfl
theorem q557 : (Jvm.Cond.methodLink "ReflectMirror" (184 : Nat) ({ cls := "ReflectMirror$Type", name := "is", desc := "(LReflectMirror$Type;)Z" } : Jvm.MethodName)) ∈ lw_all := lw_g (lw_at lw_m2 228 rfl) rfl
theorem q580 : (Jvm.Cond.instanceMethod ({ cls := "ReflectMirror", name := "ancestor", desc := "(II)I" } : Jvm.MethodName)) ∈ lw_all := lw_g (lw_at lw_m3 11 rfl) rfl
theorem q581 : (Jvm.Cond.selects "ReflectMirror" ({ cls := "ReflectMirror", name := "ancestor", desc := "(II)I" } : Jvm.MethodName) ({ cls := "ReflectMirror", name := "ancestor", desc := "(II)I" } : Jvm.MethodName)) ∈ lw_all := lw_g (lw_at lw_m3 12 rfl) rfl
theorem q582 : (Jvm.Cond.code ({ cls := "ReflectMirror", name := "ancestor", desc := "(II)I" } : Jvm.MethodName) prog_1_method_40_code (4 : Nat) (Option.some Jvm.ClassFile.FieldType.int)) ∈ lw_all := lw_g (lw_at lw_m3 13 rfl) rfl
theorem q584 : (Jvm.Cond.instanceMethod ({ cls := "ReflectMirror", name := "is", desc := "(II)I" } : Jvm.MethodName)) ∈ lw_all := lw_g (lw_at lw_m3 15 rfl) rfl
theorem q585 : (Jvm.Cond.selects "ReflectMirror" ({ cls := "ReflectMirror", name := "is", desc := "(II)I" } : Jvm.MethodName) ({ cls := "ReflectMirror", name := "is", desc := "(II)I" } : Jvm.MethodName)) ∈ lw_all := lw_g (lw_at lw_m3 16 rfl) rfl
theorem q586 : (Jvm.Cond.code ({ cls := "ReflectMirror", name := "is", desc := "(II)I" } : Jvm.MethodName) prog_1_method_41_code (3 : Nat) (Option.some Jvm.ClassFile.FieldType.int)) ∈ lw_all := lw_g (lw_at lw_m3 17 rfl) rfl
theorem q588 : (Jvm.Cond.instanceMethod ({ cls := "ReflectMirror", name := "meet", desc := "(II)I" } : Jvm.MethodName)) ∈ lw_all := lw_g (lw_at lw_m3 19 rfl) rfl
theorem q589 : (Jvm.Cond.selects "ReflectMirror" ({ cls := "ReflectMirror", name := "meet", desc := "(II)I" } : Jvm.MethodName) ({ cls := "ReflectMirror", name := "meet", desc := "(II)I" } : Jvm.MethodName)) ∈ lw_all := lw_g (lw_at lw_m3 20 rfl) rfl
theorem q590 : (Jvm.Cond.code ({ cls := "ReflectMirror", name := "meet", desc := "(II)I" } : Jvm.MethodName) prog_1_method_42_code (4 : Nat) (Option.some Jvm.ClassFile.FieldType.int)) ∈ lw_all := lw_g (lw_at lw_m3 21 rfl) rfl
theorem q592 : (Jvm.Cond.instanceMethod ({ cls := "ReflectMirror", name := "letter", desc := "(II)I" } : Jvm.MethodName)) ∈ lw_all := lw_g (lw_at lw_m3 23 rfl) rfl
theorem q593 : (Jvm.Cond.selects "ReflectMirror" ({ cls := "ReflectMirror", name := "letter", desc := "(II)I" } : Jvm.MethodName) ({ cls := "ReflectMirror", name := "letter", desc := "(II)I" } : Jvm.MethodName)) ∈ lw_all := lw_g (lw_at lw_m3 24 rfl) rfl
theorem q594 : (Jvm.Cond.code ({ cls := "ReflectMirror", name := "letter", desc := "(II)I" } : Jvm.MethodName) prog_1_method_43_code (8 : Nat) (Option.some Jvm.ClassFile.FieldType.int)) ∈ lw_all := lw_g (lw_at lw_m3 25 rfl) rfl
theorem q595 : (Jvm.Cond.stringRef "ReflectMirror" (471 : Nat) "ZCBSIJFD") ∈ lw_tbl := lw_at lw_m3 26 rfl
theorem q596 : (Jvm.Cond.methodLink "ReflectMirror" (473 : Nat) ({ cls := "java/lang/String", name := "charAt", desc := "(I)C" } : Jvm.MethodName)) ∈ lw_all := lw_g (lw_at lw_m3 27 rfl) rfl
theorem q638 : (Jvm.Cond.instanceMethod ({ cls := "ReflectMirror", name := "field", desc := "(IIII)I" } : Jvm.MethodName)) ∈ lw_all := lw_g (lw_at lw_m3 69 rfl) rfl
theorem q639 : (Jvm.Cond.selects "ReflectMirror" ({ cls := "ReflectMirror", name := "field", desc := "(IIII)I" } : Jvm.MethodName) ({ cls := "ReflectMirror", name := "field", desc := "(IIII)I" } : Jvm.MethodName)) ∈ lw_all := lw_g (lw_at lw_m3 70 rfl) rfl
theorem q640 : (Jvm.Cond.code ({ cls := "ReflectMirror", name := "field", desc := "(IIII)I" } : Jvm.MethodName) prog_1_method_44_code (7 : Nat) (Option.some Jvm.ClassFile.FieldType.int)) ∈ lw_all := lw_g (lw_at lw_m3 71 rfl) rfl
theorem q641 : (Jvm.Cond.constantLong "ReflectMirror" (479 : Nat) (19 : Int64)) ∈ lw_all := lw_g (lw_at lw_m3 72 rfl) rfl
theorem q642 : (Jvm.Cond.constantLong "ReflectMirror" (481 : Nat) (15 : Int64)) ∈ lw_all := lw_g (lw_at lw_m3 73 rfl) rfl
theorem q643 : (Jvm.Cond.methodLink "ReflectMirror" (483 : Nat) ({ cls := "ReflectMirror", name := "ownField", desc := "(LReflectMirror$Type;I)LReflectMirror$Member;" } : Jvm.MethodName)) ∈ lw_all := lw_g (lw_at lw_m3 74 rfl) rfl
theorem q644 : (Jvm.Cond.privateMethod ({ cls := "ReflectMirror", name := "ownField", desc := "(LReflectMirror$Type;I)LReflectMirror$Member;" } : Jvm.MethodName)) ∈ lw_tbl := lw_at lw_m3 75 rfl
theorem q645 : (Jvm.Cond.instanceMethod ({ cls := "ReflectMirror", name := "ownField", desc := "(LReflectMirror$Type;I)LReflectMirror$Member;" } : Jvm.MethodName)) ∈ lw_all := lw_g (lw_at lw_m3 76 rfl) rfl
theorem q646 : (Jvm.Cond.code ({ cls := "ReflectMirror", name := "ownField", desc := "(LReflectMirror$Type;I)LReflectMirror$Member;" } : Jvm.MethodName) prog_1_method_3_code (4 : Nat) (Option.some (Jvm.ClassFile.FieldType.object "ReflectMirror$Member"))) ∈ lw_all := lw_g (lw_at lw_m3 77 rfl) rfl
theorem q648 : (Jvm.Cond.methodLink "ReflectMirror" (487 : Nat) ({ cls := "ReflectMirror$Member", name := "<init>", desc := "(ILReflectMirror$Type;IIZLReflectMirror$Type;)V" } : Jvm.MethodName)) ∈ lw_all := lw_g (lw_at lw_m3 79 rfl) rfl
theorem q655 : (Jvm.Cond.fieldLinkNest "ReflectMirror" (222 : Nat) "ReflectMirror$Member" "number" "I" "ReflectMirror") ∈ lw_tbl := lw_at lw_m3 86 rfl
theorem q657 : (Jvm.Cond.fieldLink "ReflectMirror" (24 : Nat) "ReflectMirror$Member" "type" "LReflectMirror$Type;") ∈ lw_all := lw_g (lw_at lw_m3 88 rfl) rfl
theorem q660 : (Jvm.Cond.fieldLink "ReflectMirror" (34 : Nat) "ReflectMirror$Member" "name" "I") ∈ lw_all := lw_g (lw_at lw_m3 91 rfl) rfl
theorem q662 : (Jvm.Cond.fieldLink "ReflectMirror" (563 : Nat) "ReflectMirror$Member" "marks" "I") ∈ lw_all := lw_g (lw_at lw_m3 93 rfl) rfl
theorem q664 : (Jvm.Cond.fieldLink "ReflectMirror" (30 : Nat) "ReflectMirror$Member" "isField" "Z") ∈ lw_all := lw_g (lw_at lw_m3 95 rfl) rfl
theorem q672 : (Jvm.Cond.fieldLink "ReflectMirror" (246 : Nat) "ReflectMirror$Member" "of" "LReflectMirror$Type;") ∈ lw_all := lw_g (lw_at lw_m3 103 rfl) rfl
theorem q676 : (Jvm.Cond.fieldLink "ReflectMirror" (307 : Nat) "ReflectMirror$Member" "params" "[LReflectMirror$Type;") ∈ lw_all := lw_g (lw_at lw_m3 107 rfl) rfl
theorem q680 : (Jvm.Cond.fieldLink "ReflectMirror" (304 : Nat) "ReflectMirror$Member" "many" "I") ∈ lw_all := lw_g (lw_at lw_m3 111 rfl) rfl
theorem q681 : (Jvm.Cond.fieldLink "ReflectMirror" (195 : Nat) "ReflectMirror$Member" "isOpen" "Z") ∈ lw_all := lw_g (lw_at lw_m3 112 rfl) rfl
theorem q682 : (Jvm.Cond.fieldLink "ReflectMirror" (558 : Nat) "ReflectMirror$Member" "isTold" "Z") ∈ lw_all := lw_g (lw_at lw_m3 113 rfl) rfl
theorem q683 : (Jvm.Cond.fieldLink "ReflectMirror" (318 : Nat) "ReflectMirror$Member" "body" "LReflectMirror$Body;") ∈ lw_all := lw_g (lw_at lw_m3 114 rfl) rfl
theorem q685 : (Jvm.Cond.fieldLink "ReflectMirror" (214 : Nat) "ReflectMirror$Member" "row" "Ljava/lang/Object;") ∈ lw_all := lw_g (lw_at lw_m3 116 rfl) rfl
theorem q711 : (Jvm.Cond.methodLink "ReflectMirror" (55 : Nat) ({ cls := "ReflectMirror$Member", name := "has", desc := "(I)Z" } : Jvm.MethodName)) ∈ lw_all := lw_g (lw_at lw_m3 142 rfl) rfl
theorem q715 : (Jvm.Cond.methodLink "ReflectMirror" (379 : Nat) ({ cls := "ReflectMirror$Type", name := "row", desc := "(I)Ljava/lang/Object;" } : Jvm.MethodName)) ∈ lw_all := lw_g (lw_at lw_m3 146 rfl) rfl
theorem q738 : (Jvm.Cond.methodLink "ReflectMirror" (493 : Nat) ({ cls := "ReflectMirror$Member", name := "number", desc := "()I" } : Jvm.MethodName)) ∈ lw_all := lw_g (lw_at lw_m3 169 rfl) rfl
theorem q746 : (Jvm.Cond.instanceMethod ({ cls := "ReflectMirror", name := "method", desc := "(IIIIIIII)I" } : Jvm.MethodName)) ∈ lw_all := lw_g (lw_at lw_m3 177 rfl) rfl
theorem q747 : (Jvm.Cond.selects "ReflectMirror" ({ cls := "ReflectMirror", name := "method", desc := "(IIIIIIII)I" } : Jvm.MethodName) ({ cls := "ReflectMirror", name := "method", desc := "(IIIIIIII)I" } : Jvm.MethodName)) ∈ lw_all := lw_g (lw_at lw_m3 178 rfl) rfl
theorem q748 : (Jvm.Cond.code ({ cls := "ReflectMirror", name := "method", desc := "(IIIIIIII)I" } : Jvm.MethodName) prog_1_method_46_code (11 : Nat) (Option.some Jvm.ClassFile.FieldType.int)) ∈ lw_all := lw_g (lw_at lw_m3 179 rfl) rfl
theorem q749 : (Jvm.Cond.constantLong "ReflectMirror" (494 : Nat) (31 : Int64)) ∈ lw_all := lw_g (lw_at lw_m3 180 rfl) rfl
theorem q750 : (Jvm.Cond.methodLink "ReflectMirror" (496 : Nat) ({ cls := "ReflectMirror", name := "canBe", desc := "(LReflectMirror$Type;I)Z" } : Jvm.MethodName)) ∈ lw_all := lw_g (lw_at lw_m3 181 rfl) rfl
theorem q751 : (Jvm.Cond.static ({ cls := "ReflectMirror", name := "canBe", desc := "(LReflectMirror$Type;I)Z" } : Jvm.MethodName)) ∈ lw_all := lw_g (lw_at lw_m3 182 rfl) rfl
theorem q752 : (Jvm.Cond.code ({ cls := "ReflectMirror", name := "canBe", desc := "(LReflectMirror$Type;I)Z" } : Jvm.MethodName) prog_1_method_45_code (4 : Nat) (Option.some Jvm.ClassFile.FieldType.boolean)) ∈ lw_all := lw_g (lw_at lw_m3 183 rfl) rfl
theorem q753 : (Jvm.Cond.constantLong "ReflectMirror" (423 : Nat) (-1 : Int64)) ∈ lw_all := lw_g (lw_at lw_m3 184 rfl) rfl
theorem q754 : (Jvm.Cond.methodLink "ReflectMirror" (45 : Nat) ({ cls := "ReflectMirror", name := "ownMethod", desc := "(LReflectMirror$Type;LReflectMirror$Member;)LReflectMirror$Member;" } : Jvm.MethodName)) ∈ lw_all := lw_g (lw_at lw_m3 185 rfl) rfl
theorem q755 : (Jvm.Cond.privateMethod ({ cls := "ReflectMirror", name := "ownMethod", desc := "(LReflectMirror$Type;LReflectMirror$Member;)LReflectMirror$Member;" } : Jvm.MethodName)) ∈ lw_tbl := lw_at lw_m3 186 rfl
theorem q756 : (Jvm.Cond.instanceMethod ({ cls := "ReflectMirror", name := "ownMethod", desc := "(LReflectMirror$Type;LReflectMirror$Member;)LReflectMirror$Member;" } : Jvm.MethodName)) ∈ lw_all := lw_g (lw_at lw_m3 187 rfl) rfl
theorem q757 : (Jvm.Cond.code ({ cls := "ReflectMirror", name := "ownMethod", desc := "(LReflectMirror$Type;LReflectMirror$Member;)LReflectMirror$Member;" } : Jvm.MethodName) prog_1_method_4_code (4 : Nat) (Option.some (Jvm.ClassFile.FieldType.object "ReflectMirror$Member"))) ∈ lw_all := lw_g (lw_at lw_m3 188 rfl) rfl
theorem q758 : (Jvm.Cond.methodLink "ReflectMirror" (37 : Nat) ({ cls := "ReflectMirror$Member", name := "isLike", desc := "(LReflectMirror$Member;)Z" } : Jvm.MethodName)) ∈ lw_all := lw_g (lw_at lw_m3 189 rfl) rfl
theorem q762 : (Jvm.Cond.classLink "ReflectMirror" (500 : Nat) "ReflectMirror$Plainly") ∈ lw_all := lw_g (lw_at lw_m3 193 rfl) rfl
theorem q764 : (Jvm.Cond.methodLink "ReflectMirror" (502 : Nat) ({ cls := "ReflectMirror$Plainly", name := "<init>", desc := "(LReflectMirror;LReflectMirror$Member;)V" } : Jvm.MethodName)) ∈ lw_all := lw_g (lw_at lw_m3 195 rfl) rfl
theorem q788 : (Jvm.Cond.instanceMethod ({ cls := "ReflectMirror", name := "body", desc := "(IIII)I" } : Jvm.MethodName)) ∈ lw_all := lw_g (lw_at lw_m3 219 rfl) rfl
theorem q789 : (Jvm.Cond.selects "ReflectMirror" ({ cls := "ReflectMirror", name := "body", desc := "(IIII)I" } : Jvm.MethodName) ({ cls := "ReflectMirror", name := "body", desc := "(IIII)I" } : Jvm.MethodName)) ∈ lw_all := lw_g (lw_at lw_m3 220 rfl) rfl
theorem q790 : (Jvm.Cond.code ({ cls := "ReflectMirror", name := "body", desc := "(IIII)I" } : Jvm.MethodName) prog_1_method_48_code (7 : Nat) (Option.some Jvm.ClassFile.FieldType.int)) ∈ lw_all := lw_g (lw_at lw_m3 221 rfl) rfl
theorem q791 : (Jvm.Cond.methodLink "ReflectMirror" (546 : Nat) ({ cls := "ReflectMirror", name := "isMethod", desc := "(I)Z" } : Jvm.MethodName)) ∈ lw_all := lw_g (lw_at lw_m3 222 rfl) rfl
theorem q792 : (Jvm.Cond.privateMethod ({ cls := "ReflectMirror", name := "isMethod", desc := "(I)Z" } : Jvm.MethodName)) ∈ lw_tbl := lw_at lw_m3 223 rfl
theorem q793 : (Jvm.Cond.instanceMethod ({ cls := "ReflectMirror", name := "isMethod", desc := "(I)Z" } : Jvm.MethodName)) ∈ lw_all := lw_g (lw_at lw_m3 224 rfl) rfl
theorem q794 : (Jvm.Cond.code ({ cls := "ReflectMirror", name := "isMethod", desc := "(I)Z" } : Jvm.MethodName) prog_1_method_31_code (2 : Nat) (Option.some Jvm.ClassFile.FieldType.boolean)) ∈ lw_all := lw_g (lw_at lw_m3 225 rfl) rfl
theorem q795 : (Jvm.Cond.methodLink "ReflectMirror" (425 : Nat) ({ cls := "ReflectMirror", name := "isMember", desc := "(I)Z" } : Jvm.MethodName)) ∈ lw_all := lw_g (lw_at lw_m3 226 rfl) rfl
theorem q796 : (Jvm.Cond.privateMethod ({ cls := "ReflectMirror", name := "isMember", desc := "(I)Z" } : Jvm.MethodName)) ∈ lw_tbl := lw_at lw_m3 227 rfl
theorem q797 : (Jvm.Cond.instanceMethod ({ cls := "ReflectMirror", name := "isMember", desc := "(I)Z" } : Jvm.MethodName)) ∈ lw_all := lw_g (lw_at lw_m3 228 rfl) rfl
theorem q798 : (Jvm.Cond.code ({ cls := "ReflectMirror", name := "isMember", desc := "(I)Z" } : Jvm.MethodName) prog_1_method_30_code (2 : Nat) (Option.some Jvm.ClassFile.FieldType.boolean)) ∈ lw_all := lw_g (lw_at lw_m3 229 rfl) rfl
theorem q799 : (Jvm.Cond.constantLong "ReflectMirror" (549 : Nat) (8 : Int64)) ∈ lw_all := lw_g (lw_at lw_m3 230 rfl) rfl
theorem q800 : (Jvm.Cond.methodLink "ReflectMirror" (551 : Nat) ({ cls := "ReflectMirror", name := "bodyOf", desc := "(LReflectMirror$Member;III)LReflectMirror$Body;" } : Jvm.MethodName)) ∈ lw_all := lw_g (lw_at lw_m3 231 rfl) rfl
theorem q801 : (Jvm.Cond.privateMethod ({ cls := "ReflectMirror", name := "bodyOf", desc := "(LReflectMirror$Member;III)LReflectMirror$Body;" } : Jvm.MethodName)) ∈ lw_tbl := lw_at lw_m3 232 rfl
theorem q802 : (Jvm.Cond.instanceMethod ({ cls := "ReflectMirror", name := "bodyOf", desc := "(LReflectMirror$Member;III)LReflectMirror$Body;" } : Jvm.MethodName)) ∈ lw_all := lw_g (lw_at lw_m3 233 rfl) rfl
theorem q803 : (Jvm.Cond.code ({ cls := "ReflectMirror", name := "bodyOf", desc := "(LReflectMirror$Member;III)LReflectMirror$Body;" } : Jvm.MethodName) prog_1_method_47_code (6 : Nat) (Option.some (Jvm.ClassFile.FieldType.object "ReflectMirror$Body"))) ∈ lw_all := lw_g (lw_at lw_m3 234 rfl) rfl
theorem q804 : (Jvm.Cond.classLink "ReflectMirror" (505 : Nat) "ReflectMirror$Param") ∈ lw_all := lw_g (lw_at lw_m3 235 rfl) rfl
theorem q806 : (Jvm.Cond.methodLink "ReflectMirror" (507 : Nat) ({ cls := "ReflectMirror$Param", name := "<init>", desc := "(LReflectMirror;LReflectMirror$Member;I)V" } : Jvm.MethodName)) ∈ lw_all := lw_g (lw_at lw_m3 237 rfl) rfl
theorem q823 : (Jvm.Cond.classLink "ReflectMirror" (510 : Nat) "ReflectMirror$Reading") ∈ lw_all := lw_g (lw_at lw_m4 14 rfl) rfl
theorem q825 : (Jvm.Cond.methodLink "ReflectMirror" (512 : Nat) ({ cls := "ReflectMirror$Reading", name := "<init>", desc := "(LReflectMirror;LReflectMirror$Member;LReflectMirror$Member;)V" } : Jvm.MethodName)) ∈ lw_all := lw_g (lw_at lw_m4 16 rfl) rfl
theorem q840 : (Jvm.Cond.classLink "ReflectMirror" (515 : Nat) "ReflectMirror$Writing") ∈ lw_all := lw_g (lw_at lw_m4 31 rfl) rfl
theorem q842 : (Jvm.Cond.methodLink "ReflectMirror" (517 : Nat) ({ cls := "ReflectMirror$Writing", name := "<init>", desc := "(LReflectMirror;LReflectMirror$Member;LReflectMirror$Member;I)V" } : Jvm.MethodName)) ∈ lw_all := lw_g (lw_at lw_m4 33 rfl) rfl
theorem q857 : (Jvm.Cond.classLink "ReflectMirror" (520 : Nat) "ReflectMirror$Failing") ∈ lw_all := lw_g (lw_at lw_m4 48 rfl) rfl
theorem q859 : (Jvm.Cond.methodLink "ReflectMirror" (522 : Nat) ({ cls := "ReflectMirror$Failing", name := "<init>", desc := "(LReflectMirror;LReflectMirror$Member;I)V" } : Jvm.MethodName)) ∈ lw_all := lw_g (lw_at lw_m4 50 rfl) rfl
theorem q872 : (Jvm.Cond.classLink "ReflectMirror" (523 : Nat) "ReflectMirror$Calling") ∈ lw_all := lw_g (lw_at lw_m4 63 rfl) rfl
theorem q874 : (Jvm.Cond.methodLink "ReflectMirror" (525 : Nat) ({ cls := "ReflectMirror$Calling", name := "<init>", desc := "(LReflectMirror;LReflectMirror$Member;LReflectMirror$Member;)V" } : Jvm.MethodName)) ∈ lw_all := lw_g (lw_at lw_m4 65 rfl) rfl
theorem q889 : (Jvm.Cond.classLink "ReflectMirror" (526 : Nat) "ReflectMirror$Adding") ∈ lw_all := lw_g (lw_at lw_m4 80 rfl) rfl
theorem q891 : (Jvm.Cond.methodLink "ReflectMirror" (528 : Nat) ({ cls := "ReflectMirror$Adding", name := "<init>", desc := "(LReflectMirror;LReflectMirror$Member;II)V" } : Jvm.MethodName)) ∈ lw_all := lw_g (lw_at lw_m4 82 rfl) rfl
theorem q906 : (Jvm.Cond.classLink "ReflectMirror" (531 : Nat) "ReflectMirror$Above") ∈ lw_all := lw_g (lw_at lw_m4 97 rfl) rfl
theorem q908 : (Jvm.Cond.classLink "ReflectMirror" (533 : Nat) "ReflectMirror$MethodSearch") ∈ lw_all := lw_g (lw_at lw_m4 99 rfl) rfl
theorem q910 : (Jvm.Cond.methodLink "ReflectMirror" (535 : Nat) ({ cls := "ReflectMirror$MethodSearch", name := "<init>", desc := "(LReflectMirror;ILReflectMirror$Member;LReflectMirror$Type;)V" } : Jvm.MethodName)) ∈ lw_all := lw_g (lw_at lw_m4 101 rfl) rfl
theorem q940 : (Jvm.Cond.methodLink "ReflectMirror" (538 : Nat) ({ cls := "ReflectMirror$MethodSearch", name := "from", desc := "(LReflectMirror$Type;)LReflectMirror$Member;" } : Jvm.MethodName)) ∈ lw_all := lw_g (lw_at lw_m4 131 rfl) rfl
theorem q983 : (Jvm.Cond.methodLink "ReflectMirror" (542 : Nat) ({ cls := "ReflectMirror$Above", name := "<init>", desc := "(LReflectMirror;LReflectMirror$Member;LReflectMirror$Member;)V" } : Jvm.MethodName)) ∈ lw_all := lw_g (lw_at lw_m4 174 rfl) rfl
theorem q995 : (Jvm.Cond.classLink "ReflectMirror" (543 : Nat) "ReflectMirror$Item") ∈ lw_all := lw_g (lw_at lw_m4 186 rfl) rfl
theorem q997 : (Jvm.Cond.methodLink "ReflectMirror" (545 : Nat) ({ cls := "ReflectMirror$Item", name := "<init>", desc := "(LReflectMirror;LReflectMirror$Member;II)V" } : Jvm.MethodName)) ∈ lw_all := lw_g (lw_at lw_m4 188 rfl) rfl
theorem q1012 : (Jvm.Cond.methodLink "ReflectMirror" (555 : Nat) ({ cls := "ReflectMirror$Body", name := "isFit", desc := "()Z" } : Jvm.MethodName)) ∈ lw_all := lw_g (lw_at lw_m4 203 rfl) rfl
theorem q1140 : (Jvm.Cond.instanceMethod ({ cls := "ReflectMirror", name := "member", desc := "(II)I" } : Jvm.MethodName)) ∈ lw_all := lw_g (lw_at lw_m5 91 rfl) rfl
theorem q1141 : (Jvm.Cond.selects "ReflectMirror" ({ cls := "ReflectMirror", name := "member", desc := "(II)I" } : Jvm.MethodName) ({ cls := "ReflectMirror", name := "member", desc := "(II)I" } : Jvm.MethodName)) ∈ lw_all := lw_g (lw_at lw_m5 92 rfl) rfl
theorem q1142 : (Jvm.Cond.code ({ cls := "ReflectMirror", name := "member", desc := "(II)I" } : Jvm.MethodName) prog_1_method_49_code (4 : Nat) (Option.some Jvm.ClassFile.FieldType.int)) ∈ lw_all := lw_g (lw_at lw_m5 93 rfl) rfl
theorem q1143 : (Jvm.Cond.constantLong "ReflectMirror" (561 : Nat) (10 : Int64)) ∈ lw_all := lw_g (lw_at lw_m5 94 rfl) rfl
theorem q1144 : (Jvm.Cond.methodLink "ReflectMirror" (566 : Nat) ({ cls := "ReflectMirror$Body", name := "kind", desc := "()I" } : Jvm.MethodName)) ∈ lw_all := lw_g (lw_at lw_m5 95 rfl) rfl
theorem q1174 : (Jvm.Cond.instanceMethod ({ cls := "ReflectMirror", name := "declared", desc := "(II)I" } : Jvm.MethodName)) ∈ lw_all := lw_g (lw_at lw_m5 125 rfl) rfl
theorem q1175 : (Jvm.Cond.selects "ReflectMirror" ({ cls := "ReflectMirror", name := "declared", desc := "(II)I" } : Jvm.MethodName) ({ cls := "ReflectMirror", name := "declared", desc := "(II)I" } : Jvm.MethodName)) ∈ lw_all := lw_g (lw_at lw_m5 126 rfl) rfl
theorem q1176 : (Jvm.Cond.code ({ cls := "ReflectMirror", name := "declared", desc := "(II)I" } : Jvm.MethodName) prog_1_method_50_code (5 : Nat) (Option.some Jvm.ClassFile.FieldType.int)) ∈ lw_all := lw_g (lw_at lw_m5 127 rfl) rfl
theorem q1178 : (Jvm.Cond.instanceMethod ({ cls := "ReflectMirror", name := "findField", desc := "(III)I" } : Jvm.MethodName)) ∈ lw_all := lw_g (lw_at lw_m5 129 rfl) rfl
theorem q1179 : (Jvm.Cond.selects "ReflectMirror" ({ cls := "ReflectMirror", name := "findField", desc := "(III)I" } : Jvm.MethodName) ({ cls := "ReflectMirror", name := "findField", desc := "(III)I" } : Jvm.MethodName)) ∈ lw_all := lw_g (lw_at lw_m5 130 rfl) rfl
theorem q1180 : (Jvm.Cond.code ({ cls := "ReflectMirror", name := "findField", desc := "(III)I" } : Jvm.MethodName) prog_1_method_52_code (4 : Nat) (Option.some Jvm.ClassFile.FieldType.int)) ∈ lw_all := lw_g (lw_at lw_m5 131 rfl) rfl
theorem q1181 : (Jvm.Cond.constantLong "ReflectMirror" (568 : Nat) (2 : Int64)) ∈ lw_all := lw_g (lw_at lw_m5 132 rfl) rfl
theorem q1182 : (Jvm.Cond.classLink "ReflectMirror" (570 : Nat) "ReflectMirror$FieldSearch") ∈ lw_all := lw_g (lw_at lw_m5 133 rfl) rfl
theorem q1184 : (Jvm.Cond.methodLink "ReflectMirror" (572 : Nat) ({ cls := "ReflectMirror$FieldSearch", name := "<init>", desc := "(LReflectMirror;II)V" } : Jvm.MethodName)) ∈ lw_all := lw_g (lw_at lw_m5 135 rfl) rfl
theorem q1198 : (Jvm.Cond.methodLink "ReflectMirror" (575 : Nat) ({ cls := "ReflectMirror$FieldSearch", name := "from", desc := "(LReflectMirror$Type;)LReflectMirror$Member;" } : Jvm.MethodName)) ∈ lw_all := lw_g (lw_at lw_m5 149 rfl) rfl
theorem q1201 : (Jvm.Cond.methodLink "ReflectMirror" (576 : Nat) ({ cls := "ReflectMirror", name := "told", desc := "(LReflectMirror$Member;)I" } : Jvm.MethodName)) ∈ lw_all := lw_g (lw_at lw_m5 152 rfl) rfl
theorem q1202 : (Jvm.Cond.static ({ cls := "ReflectMirror", name := "told", desc := "(LReflectMirror$Member;)I" } : Jvm.MethodName)) ∈ lw_all := lw_g (lw_at lw_m5 153 rfl) rfl
theorem q1203 : (Jvm.Cond.code ({ cls := "ReflectMirror", name := "told", desc := "(LReflectMirror$Member;)I" } : Jvm.MethodName) prog_1_method_51_code (1 : Nat) (Option.some Jvm.ClassFile.FieldType.int)) ∈ lw_all := lw_g (lw_at lw_m5 154 rfl) rfl
theorem q1205 : (Jvm.Cond.instanceMethod ({ cls := "ReflectMirror", name := "findMethod", desc := "(III)I" } : Jvm.MethodName)) ∈ lw_all := lw_g (lw_at lw_m5 156 rfl) rfl
theorem q1206 : (Jvm.Cond.selects "ReflectMirror" ({ cls := "ReflectMirror", name := "findMethod", desc := "(III)I" } : Jvm.MethodName) ({ cls := "ReflectMirror", name := "findMethod", desc := "(III)I" } : Jvm.MethodName)) ∈ lw_all := lw_g (lw_at lw_m5 157 rfl) rfl
theorem q1207 : (Jvm.Cond.code ({ cls := "ReflectMirror", name := "findMethod", desc := "(III)I" } : Jvm.MethodName) prog_1_method_53_code (4 : Nat) (Option.some Jvm.ClassFile.FieldType.int)) ∈ lw_all := lw_g (lw_at lw_m5 158 rfl) rfl
theorem q1209 : (Jvm.Cond.instanceMethod ({ cls := "ReflectMirror", name := "overrides", desc := "(II)I" } : Jvm.MethodName)) ∈ lw_all := lw_g (lw_at lw_m5 160 rfl) rfl
theorem q1210 : (Jvm.Cond.selects "ReflectMirror" ({ cls := "ReflectMirror", name := "overrides", desc := "(II)I" } : Jvm.MethodName) ({ cls := "ReflectMirror", name := "overrides", desc := "(II)I" } : Jvm.MethodName)) ∈ lw_all := lw_g (lw_at lw_m5 161 rfl) rfl
theorem q1211 : (Jvm.Cond.code ({ cls := "ReflectMirror", name := "overrides", desc := "(II)I" } : Jvm.MethodName) prog_1_method_54_code (5 : Nat) (Option.some Jvm.ClassFile.FieldType.int)) ∈ lw_all := lw_g (lw_at lw_m5 162 rfl) rfl
theorem q1212 : (Jvm.Cond.methodLink "ReflectMirror" (49 : Nat) ({ cls := "ReflectMirror$Member", name := "overrides", desc := "(LReflectMirror$Member;)Z" } : Jvm.MethodName)) ∈ lw_all := lw_g (lw_at lw_m5 163 rfl) rfl
theorem q1220 : (Jvm.Cond.instanceMethod ({ cls := "ReflectMirror", name := "inForce", desc := "(II)I" } : Jvm.MethodName)) ∈ lw_all := lw_g (lw_at lw_m5 171 rfl) rfl
theorem q1221 : (Jvm.Cond.selects "ReflectMirror" ({ cls := "ReflectMirror", name := "inForce", desc := "(II)I" } : Jvm.MethodName) ({ cls := "ReflectMirror", name := "inForce", desc := "(II)I" } : Jvm.MethodName)) ∈ lw_all := lw_g (lw_at lw_m5 172 rfl) rfl
theorem q1222 : (Jvm.Cond.code ({ cls := "ReflectMirror", name := "inForce", desc := "(II)I" } : Jvm.MethodName) prog_1_method_55_code (3 : Nat) (Option.some Jvm.ClassFile.FieldType.int)) ∈ lw_all := lw_g (lw_at lw_m5 173 rfl) rfl
theorem q1223 : (Jvm.Cond.methodLink "ReflectMirror" (288 : Nat) ({ cls := "ReflectMirror$Member", name := "isMet", desc := "()Z" } : Jvm.MethodName)) ∈ lw_all := lw_g (lw_at lw_m5 174 rfl) rfl
theorem q1224 : (Jvm.Cond.methodLink "ReflectMirror" (292 : Nat) ({ cls := "ReflectMirror", name := "inForce", desc := "(LReflectMirror$Type;LReflectMirror$Member;)LReflectMirror$Member;" } : Jvm.MethodName)) ∈ lw_all := lw_g (lw_at lw_m5 175 rfl) rfl
theorem q1225 : (Jvm.Cond.privateMethod ({ cls := "ReflectMirror", name := "inForce", desc := "(LReflectMirror$Type;LReflectMirror$Member;)LReflectMirror$Member;" } : Jvm.MethodName)) ∈ lw_tbl := lw_at lw_m5 176 rfl
theorem q1226 : (Jvm.Cond.instanceMethod ({ cls := "ReflectMirror", name := "inForce", desc := "(LReflectMirror$Type;LReflectMirror$Member;)LReflectMirror$Member;" } : Jvm.MethodName)) ∈ lw_all := lw_g (lw_at lw_m5 177 rfl) rfl
theorem q1227 : (Jvm.Cond.code ({ cls := "ReflectMirror", name := "inForce", desc := "(LReflectMirror$Type;LReflectMirror$Member;)LReflectMirror$Member;" } : Jvm.MethodName) prog_1_method_5_code (8 : Nat) (Option.some (Jvm.ClassFile.FieldType.object "ReflectMirror$Member"))) ∈ lw_all := lw_g (lw_at lw_m5 178 rfl) rfl
theorem q1228 : (Jvm.Cond.methodLink "ReflectMirror" (52 : Nat) ({ cls := "ReflectMirror$Member", name := "who", desc := "()I" } : Jvm.MethodName)) ∈ lw_all := lw_g (lw_at lw_m5 179 rfl) rfl
theorem q1230 : (Jvm.Cond.instanceMethod ({ cls := "ReflectMirror", name := "open", desc := "(IZ)I" } : Jvm.MethodName)) ∈ lw_all := lw_g (lw_at lw_m5 181 rfl) rfl
theorem q1231 : (Jvm.Cond.selects "ReflectMirror" ({ cls := "ReflectMirror", name := "open", desc := "(IZ)I" } : Jvm.MethodName) ({ cls := "ReflectMirror", name := "open", desc := "(IZ)I" } : Jvm.MethodName)) ∈ lw_all := lw_g (lw_at lw_m5 182 rfl) rfl
theorem q1232 : (Jvm.Cond.code ({ cls := "ReflectMirror", name := "open", desc := "(IZ)I" } : Jvm.MethodName) prog_1_method_56_code (4 : Nat) (Option.some Jvm.ClassFile.FieldType.int)) ∈ lw_all := lw_g (lw_at lw_m5 183 rfl) rfl
theorem q1234 : (Jvm.Cond.instanceMethod ({ cls := "ReflectMirror", name := "caller", desc := "(I)I" } : Jvm.MethodName)) ∈ lw_all := lw_g (lw_at lw_m5 185 rfl) rfl
theorem q1235 : (Jvm.Cond.selects "ReflectMirror" ({ cls := "ReflectMirror", name := "caller", desc := "(I)I" } : Jvm.MethodName) ({ cls := "ReflectMirror", name := "caller", desc := "(I)I" } : Jvm.MethodName)) ∈ lw_all := lw_g (lw_at lw_m5 186 rfl) rfl
theorem q1236 : (Jvm.Cond.code ({ cls := "ReflectMirror", name := "caller", desc := "(I)I" } : Jvm.MethodName) prog_1_method_57_code (3 : Nat) (Option.some Jvm.ClassFile.FieldType.int)) ∈ lw_all := lw_g (lw_at lw_m5 187 rfl) rfl
theorem q1238 : (Jvm.Cond.instanceMethod ({ cls := "ReflectMirror", name := "may", desc := "(II)I" } : Jvm.MethodName)) ∈ lw_all := lw_g (lw_at lw_m5 189 rfl) rfl
theorem q1239 : (Jvm.Cond.selects "ReflectMirror" ({ cls := "ReflectMirror", name := "may", desc := "(II)I" } : Jvm.MethodName) ({ cls := "ReflectMirror", name := "may", desc := "(II)I" } : Jvm.MethodName)) ∈ lw_all := lw_g (lw_at lw_m5 190 rfl) rfl
theorem q1240 : (Jvm.Cond.code ({ cls := "ReflectMirror", name := "may", desc := "(II)I" } : Jvm.MethodName) prog_1_method_58_code (3 : Nat) (Option.some Jvm.ClassFile.FieldType.int)) ∈ lw_all := lw_g (lw_at lw_m5 191 rfl) rfl
theorem q1241 : (Jvm.Cond.methodLink "ReflectMirror" (580 : Nat) ({ cls := "ReflectMirror", name := "isThing", desc := "(I)Z" } : Jvm.MethodName)) ∈ lw_all := lw_g (lw_at lw_m5 192 rfl) rfl
theorem q1242 : (Jvm.Cond.privateMethod ({ cls := "ReflectMirror", name := "isThing", desc := "(I)Z" } : Jvm.MethodName)) ∈ lw_tbl := lw_at lw_m5 193 rfl
theorem q1243 : (Jvm.Cond.instanceMethod ({ cls := "ReflectMirror", name := "isThing", desc := "(I)Z" } : Jvm.MethodName)) ∈ lw_all := lw_g (lw_at lw_m5 194 rfl) rfl
theorem q1244 : (Jvm.Cond.code ({ cls := "ReflectMirror", name := "isThing", desc := "(I)Z" } : Jvm.MethodName) prog_1_method_29_code (2 : Nat) (Option.some Jvm.ClassFile.FieldType.boolean)) ∈ lw_all := lw_g (lw_at lw_m5 195 rfl) rfl
theorem q1245 : (Jvm.Cond.methodLink "ReflectMirror" (347 : Nat) ({ cls := "ReflectMirror", name := "thingAt", desc := "(I)LReflectMirror$Thing;" } : Jvm.MethodName)) ∈ lw_all := lw_g (lw_at lw_m5 196 rfl) rfl
theorem q1246 : (Jvm.Cond.privateMethod ({ cls := "ReflectMirror", name := "thingAt", desc := "(I)LReflectMirror$Thing;" } : Jvm.MethodName)) ∈ lw_tbl := lw_at lw_m5 197 rfl
theorem q1247 : (Jvm.Cond.instanceMethod ({ cls := "ReflectMirror", name := "thingAt", desc := "(I)LReflectMirror$Thing;" } : Jvm.MethodName)) ∈ lw_all := lw_g (lw_at lw_m5 198 rfl) rfl
theorem q1248 : (Jvm.Cond.code ({ cls := "ReflectMirror", name := "thingAt", desc := "(I)LReflectMirror$Thing;" } : Jvm.MethodName) prog_1_method_25_code (2 : Nat) (Option.some (Jvm.ClassFile.FieldType.object "ReflectMirror$Thing"))) ∈ lw_all := lw_g (lw_at lw_m5 199 rfl) rfl
theorem q1249 : (Jvm.Cond.methodLink "ReflectMirror" (225 : Nat) ({ cls := "ReflectMirror", name := "mayBe", desc := "(LReflectMirror$Member;LReflectMirror$Thing;)Z" } : Jvm.MethodName)) ∈ lw_all := lw_g (lw_at lw_m5 200 rfl) rfl
theorem q1250 : (Jvm.Cond.privateMethod ({ cls := "ReflectMirror", name := "mayBe", desc := "(LReflectMirror$Member;LReflectMirror$Thing;)Z" } : Jvm.MethodName)) ∈ lw_tbl := lw_at lw_m5 201 rfl
theorem q1251 : (Jvm.Cond.instanceMethod ({ cls := "ReflectMirror", name := "mayBe", desc := "(LReflectMirror$Member;LReflectMirror$Thing;)Z" } : Jvm.MethodName)) ∈ lw_all := lw_g (lw_at lw_m5 202 rfl) rfl
theorem q1252 : (Jvm.Cond.code ({ cls := "ReflectMirror", name := "mayBe", desc := "(LReflectMirror$Member;LReflectMirror$Thing;)Z" } : Jvm.MethodName) prog_1_method_10_code (5 : Nat) (Option.some Jvm.ClassFile.FieldType.boolean)) ∈ lw_all := lw_g (lw_at lw_m5 203 rfl) rfl
theorem q1253 : (Jvm.Cond.methodLink "ReflectMirror" (201 : Nat) ({ cls := "ReflectMirror$Member", name := "isPrivate", desc := "()Z" } : Jvm.MethodName)) ∈ lw_all := lw_g (lw_at lw_m5 204 rfl) rfl
theorem q1255 : (Jvm.Cond.instanceMethod ({ cls := "ReflectMirror", name := "object", desc := "(I)I" } : Jvm.MethodName)) ∈ lw_all := lw_g (lw_at lw_m5 206 rfl) rfl
theorem q1256 : (Jvm.Cond.selects "ReflectMirror" ({ cls := "ReflectMirror", name := "object", desc := "(I)I" } : Jvm.MethodName) ({ cls := "ReflectMirror", name := "object", desc := "(I)I" } : Jvm.MethodName)) ∈ lw_all := lw_g (lw_at lw_m5 207 rfl) rfl
theorem q1257 : (Jvm.Cond.code ({ cls := "ReflectMirror", name := "object", desc := "(I)I" } : Jvm.MethodName) prog_1_method_59_code (5 : Nat) (Option.some Jvm.ClassFile.FieldType.int)) ∈ lw_all := lw_g (lw_at lw_m5 208 rfl) rfl
theorem q1259 : (Jvm.Cond.methodLink "ReflectMirror" (583 : Nat) ({ cls := "ReflectMirror$One", name := "<init>", desc := "(ILReflectMirror$Type;)V" } : Jvm.MethodName)) ∈ lw_all := lw_g (lw_at lw_m5 210 rfl) rfl
theorem q1270 : (Jvm.Cond.fieldLink "ReflectMirror" (218 : Nat) "ReflectMirror$One" "values" "[Ljava/lang/Object;") ∈ lw_all := lw_g (lw_at lw_m5 221 rfl) rfl
theorem q1274 : (Jvm.Cond.fieldLink "ReflectMirror" (192 : Nat) "ReflectMirror$Thing" "type" "LReflectMirror$Type;") ∈ lw_all := lw_g (lw_at lw_m5 225 rfl) rfl
theorem q1275 : (Jvm.Cond.fieldLink "ReflectMirror" (291 : Nat) "ReflectMirror$One" "type" "LReflectMirror$Type;") ∈ lw_all := lw_g (lw_at lw_m5 226 rfl) rfl
theorem q1287 : (Jvm.Cond.methodLink "ReflectMirror" (385 : Nat) ({ cls := "ReflectMirror", name := "add", desc := "(LReflectMirror$Thing;)I" } : Jvm.MethodName)) ∈ lw_all := lw_g (lw_at lw_m5 238 rfl) rfl
theorem q1288 : (Jvm.Cond.privateMethod ({ cls := "ReflectMirror", name := "add", desc := "(LReflectMirror$Thing;)I" } : Jvm.MethodName)) ∈ lw_tbl := lw_at lw_m5 239 rfl
theorem q1289 : (Jvm.Cond.instanceMethod ({ cls := "ReflectMirror", name := "add", desc := "(LReflectMirror$Thing;)I" } : Jvm.MethodName)) ∈ lw_all := lw_g (lw_at lw_m6 0 rfl) rfl
theorem q1290 : (Jvm.Cond.code ({ cls := "ReflectMirror", name := "add", desc := "(LReflectMirror$Thing;)I" } : Jvm.MethodName) prog_1_method_26_code (2 : Nat) (Option.some Jvm.ClassFile.FieldType.int)) ∈ lw_all := lw_g (lw_at lw_m6 1 rfl) rfl
theorem q1291 : (Jvm.Cond.methodLink "ReflectMirror" (403 : Nat) ({ cls := "ReflectMirror$Thing", name := "number", desc := "()I" } : Jvm.MethodName)) ∈ lw_all := lw_g (lw_at lw_m6 2 rfl) rfl
theorem q1293 : (Jvm.Cond.instanceMethod ({ cls := "ReflectMirror", name := "row", desc := "(II)I" } : Jvm.MethodName)) ∈ lw_all := lw_g (lw_at lw_m6 4 rfl) rfl
theorem q1294 : (Jvm.Cond.selects "ReflectMirror" ({ cls := "ReflectMirror", name := "row", desc := "(II)I" } : Jvm.MethodName) ({ cls := "ReflectMirror", name := "row", desc := "(II)I" } : Jvm.MethodName)) ∈ lw_all := lw_g (lw_at lw_m6 5 rfl) rfl
theorem q1295 : (Jvm.Cond.code ({ cls := "ReflectMirror", name := "row", desc := "(II)I" } : Jvm.MethodName) prog_1_method_60_code (3 : Nat) (Option.some Jvm.ClassFile.FieldType.int)) ∈ lw_all := lw_g (lw_at lw_m6 6 rfl) rfl
theorem q1296 : (Jvm.Cond.methodLink "ReflectMirror" (586 : Nat) ({ cls := "ReflectMirror", name := "act", desc := "(IIIIII)I" } : Jvm.MethodName)) ∈ lw_all := lw_g (lw_at lw_m6 7 rfl) rfl
theorem q1297 : (Jvm.Cond.privateMethod ({ cls := "ReflectMirror", name := "act", desc := "(IIIIII)I" } : Jvm.MethodName)) ∈ lw_tbl := lw_at lw_m6 8 rfl
theorem q1298 : (Jvm.Cond.instanceMethod ({ cls := "ReflectMirror", name := "act", desc := "(IIIIII)I" } : Jvm.MethodName)) ∈ lw_all := lw_g (lw_at lw_m6 9 rfl) rfl
theorem q1299 : (Jvm.Cond.codeWith ({ cls := "ReflectMirror", name := "act", desc := "(IIIIII)I" } : Jvm.MethodName) prog_1_method_24_code (9 : Nat) (Option.some Jvm.ClassFile.FieldType.int) [((0 : Nat), (13 : Nat), (14 : Nat), (209 : Nat)), ((0 : Nat), (13 : Nat), (48 : Nat), (331 : Nat)), ((0 : Nat), (13 : Nat), (53 : Nat), (134 : Nat)), ((0 : Nat), (13 : Nat), (58 : Nat), (333 : Nat)), ((0 : Nat), (13 : Nat), (63 : Nat), (266 : Nat)), ((0 : Nat), (13 : Nat), (68 : Nat), (396 : Nat)), ((0 : Nat), (13 : Nat), (73 : Nat), (398 : Nat))]) ∈ lw_all := lw_g (lw_at lw_m6 10 rfl) rfl
theorem q1300 : (Jvm.Cond.classLink "ReflectMirror" (209 : Nat) "ReflectMirror$Refusal") ∈ lw_all := lw_g (lw_at lw_m6 11 rfl) rfl
theorem q1301 : (Jvm.Cond.classLink "ReflectMirror" (331 : Nat) "java/lang/NullPointerException") ∈ lw_all := lw_g (lw_at lw_m6 12 rfl) rfl
theorem q1386 : (Jvm.Cond.classLink "ReflectMirror" (134 : Nat) "java/lang/IllegalArgumentException") ∈ lw_all := lw_g (lw_at lw_m6 97 rfl) rfl
theorem q1416 : (Jvm.Cond.classLink "ReflectMirror" (333 : Nat) "java/lang/IndexOutOfBoundsException") ∈ lw_all := lw_g (lw_at lw_m6 127 rfl) rfl
theorem q1441 : (Jvm.Cond.classLink "ReflectMirror" (266 : Nat) "java/lang/ArrayStoreException") ∈ lw_all := lw_g (lw_at lw_m6 152 rfl) rfl
theorem q1455 : (Jvm.Cond.classLink "ReflectMirror" (396 : Nat) "java/lang/NegativeArraySizeException") ∈ lw_all := lw_g (lw_at lw_m6 166 rfl) rfl
theorem q1469 : (Jvm.Cond.classLink "ReflectMirror" (398 : Nat) "java/lang/ClassCastException") ∈ lw_all := lw_g (lw_at lw_m6 180 rfl) rfl
theorem q1483 : (Jvm.Cond.methodLink "ReflectMirror" (389 : Nat) ({ cls := "ReflectMirror", name := "does", desc := "(IIIIII)I" } : Jvm.MethodName)) ∈ lw_all := lw_g (lw_at lw_m6 194 rfl) rfl
theorem q1484 : (Jvm.Cond.privateMethod ({ cls := "ReflectMirror", name := "does", desc := "(IIIIII)I" } : Jvm.MethodName)) ∈ lw_tbl := lw_at lw_m6 195 rfl
theorem q1485 : (Jvm.Cond.instanceMethod ({ cls := "ReflectMirror", name := "does", desc := "(IIIIII)I" } : Jvm.MethodName)) ∈ lw_all := lw_g (lw_at lw_m6 196 rfl) rfl
theorem q1486 : (Jvm.Cond.code ({ cls := "ReflectMirror", name := "does", desc := "(IIIIII)I" } : Jvm.MethodName) prog_1_method_23_code (7 : Nat) (Option.some Jvm.ClassFile.FieldType.int)) ∈ lw_all := lw_g (lw_at lw_m6 197 rfl) rfl
theorem q1487 : (Jvm.Cond.methodLink "ReflectMirror" (351 : Nat) ({ cls := "ReflectMirror", name := "get", desc := "(LReflectMirror$Member;LReflectMirror$Thing;ILReflectMirror$Cell;)V" } : Jvm.MethodName)) ∈ lw_all := lw_g (lw_at lw_m6 198 rfl) rfl
theorem q1488 : (Jvm.Cond.privateMethod ({ cls := "ReflectMirror", name := "get", desc := "(LReflectMirror$Member;LReflectMirror$Thing;ILReflectMirror$Cell;)V" } : Jvm.MethodName)) ∈ lw_tbl := lw_at lw_m6 199 rfl
theorem q1489 : (Jvm.Cond.instanceMethod ({ cls := "ReflectMirror", name := "get", desc := "(LReflectMirror$Member;LReflectMirror$Thing;ILReflectMirror$Cell;)V" } : Jvm.MethodName)) ∈ lw_all := lw_g (lw_at lw_m6 200 rfl) rfl
theorem q1490 : (Jvm.Cond.code ({ cls := "ReflectMirror", name := "get", desc := "(LReflectMirror$Member;LReflectMirror$Thing;ILReflectMirror$Cell;)V" } : Jvm.MethodName) prog_1_method_13_code (6 : Nat) (Option.none : Option Jvm.ClassFile.FieldType)) ∈ lw_all := lw_g (lw_at lw_m6 201 rfl) rfl
theorem q1491 : (Jvm.Cond.methodLink "ReflectMirror" (229 : Nat) ({ cls := "ReflectMirror", name := "need", desc := "(ZI)V" } : Jvm.MethodName)) ∈ lw_all := lw_g (lw_at lw_m6 202 rfl) rfl
theorem q1492 : (Jvm.Cond.privateMethod ({ cls := "ReflectMirror", name := "need", desc := "(ZI)V" } : Jvm.MethodName)) ∈ lw_tbl := lw_at lw_m6 203 rfl
theorem q1493 : (Jvm.Cond.instanceMethod ({ cls := "ReflectMirror", name := "need", desc := "(ZI)V" } : Jvm.MethodName)) ∈ lw_all := lw_g (lw_at lw_m6 204 rfl) rfl
theorem q1494 : (Jvm.Cond.code ({ cls := "ReflectMirror", name := "need", desc := "(ZI)V" } : Jvm.MethodName) prog_1_method_11_code (3 : Nat) (Option.none : Option Jvm.ClassFile.FieldType)) ∈ lw_all := lw_g (lw_at lw_m6 205 rfl) rfl
theorem q1503 : (Jvm.Cond.methodLink "ReflectMirror" (211 : Nat) ({ cls := "ReflectMirror$Refusal", name := "<init>", desc := "(I)V" } : Jvm.MethodName)) ∈ lw_all := lw_g (lw_at lw_m6 214 rfl) rfl
theorem q1513 : (Jvm.Cond.fieldLink "ReflectMirror" (328 : Nat) "ReflectMirror$Refusal" "kind" "I") ∈ lw_all := lw_g (lw_at lw_m6 224 rfl) rfl
theorem q1518 : (Jvm.Cond.methodLink "ReflectMirror" (234 : Nat) ({ cls := "ReflectMirror", name := "rowOf", desc := "(LReflectMirror$Member;LReflectMirror$Thing;)Ljava/lang/Object;" } : Jvm.MethodName)) ∈ lw_all := lw_g (lw_at lw_m6 229 rfl) rfl
theorem q1519 : (Jvm.Cond.privateMethod ({ cls := "ReflectMirror", name := "rowOf", desc := "(LReflectMirror$Member;LReflectMirror$Thing;)Ljava/lang/Object;" } : Jvm.MethodName)) ∈ lw_tbl := lw_at lw_m6 230 rfl
theorem q1520 : (Jvm.Cond.instanceMethod ({ cls := "ReflectMirror", name := "rowOf", desc := "(LReflectMirror$Member;LReflectMirror$Thing;)Ljava/lang/Object;" } : Jvm.MethodName)) ∈ lw_all := lw_g (lw_at lw_m6 231 rfl) rfl
theorem q1521 : (Jvm.Cond.code ({ cls := "ReflectMirror", name := "rowOf", desc := "(LReflectMirror$Member;LReflectMirror$Thing;)Ljava/lang/Object;" } : Jvm.MethodName) prog_1_method_12_code (3 : Nat) (Option.some (Jvm.ClassFile.FieldType.object "java/lang/Object"))) ∈ lw_all := lw_g (lw_at lw_m6 232 rfl) rfl
theorem q1522 : (Jvm.Cond.methodLink "ReflectMirror" (136 : Nat) ({ cls := "java/lang/IllegalArgumentException", name := "<init>", desc := "()V" } : Jvm.MethodName)) ∈ lw_all := lw_g (lw_at lw_m6 233 rfl) rfl
theorem q1523 : (Jvm.Cond.methodLink "ReflectMirror" (238 : Nat) ({ cls := "ReflectMirror", name := "load", desc := "(Ljava/lang/Object;IILReflectMirror$Cell;)V" } : Jvm.MethodName)) ∈ lw_all := lw_g (lw_at lw_m6 234 rfl) rfl
theorem q1524 : (Jvm.Cond.static ({ cls := "ReflectMirror", name := "load", desc := "(Ljava/lang/Object;IILReflectMirror$Cell;)V" } : Jvm.MethodName)) ∈ lw_all := lw_g (lw_at lw_m6 235 rfl) rfl
theorem q1525 : (Jvm.Cond.code ({ cls := "ReflectMirror", name := "load", desc := "(Ljava/lang/Object;IILReflectMirror$Cell;)V" } : Jvm.MethodName) prog_1_method_6_code (4 : Nat) (Option.none : Option Jvm.ClassFile.FieldType)) ∈ lw_all := lw_g (lw_at lw_m6 236 rfl) rfl
theorem q1526 : (Jvm.Cond.methodLink "ReflectMirror" (69 : Nat) ({ cls := "java/lang/reflect/Array", name := "getBoolean", desc := "(Ljava/lang/Object;I)Z" } : Jvm.MethodName)) ∈ lw_all := lw_g (lw_at lw_m6 237 rfl) rfl
theorem q1529 : (Jvm.Cond.methodLink "ReflectMirror" (81 : Nat) ({ cls := "java/lang/reflect/Array", name := "getChar", desc := "(Ljava/lang/Object;I)C" } : Jvm.MethodName)) ∈ lw_all := lw_g (lw_at lw_m7 0 rfl) rfl
theorem q1532 : (Jvm.Cond.methodLink "ReflectMirror" (85 : Nat) ({ cls := "java/lang/reflect/Array", name := "getByte", desc := "(Ljava/lang/Object;I)B" } : Jvm.MethodName)) ∈ lw_all := lw_g (lw_at lw_m7 3 rfl) rfl
theorem q1535 : (Jvm.Cond.methodLink "ReflectMirror" (89 : Nat) ({ cls := "java/lang/reflect/Array", name := "getShort", desc := "(Ljava/lang/Object;I)S" } : Jvm.MethodName)) ∈ lw_all := lw_g (lw_at lw_m7 6 rfl) rfl
theorem q1538 : (Jvm.Cond.methodLink "ReflectMirror" (93 : Nat) ({ cls := "java/lang/reflect/Array", name := "getInt", desc := "(Ljava/lang/Object;I)I" } : Jvm.MethodName)) ∈ lw_all := lw_g (lw_at lw_m7 9 rfl) rfl
theorem q1541 : (Jvm.Cond.methodLink "ReflectMirror" (97 : Nat) ({ cls := "java/lang/reflect/Array", name := "getLong", desc := "(Ljava/lang/Object;I)J" } : Jvm.MethodName)) ∈ lw_all := lw_g (lw_at lw_m7 12 rfl) rfl
theorem q1544 : (Jvm.Cond.methodLink "ReflectMirror" (101 : Nat) ({ cls := "java/lang/reflect/Array", name := "getFloat", desc := "(Ljava/lang/Object;I)F" } : Jvm.MethodName)) ∈ lw_all := lw_g (lw_at lw_m7 15 rfl) rfl
theorem q1547 : (Jvm.Cond.methodLink "ReflectMirror" (105 : Nat) ({ cls := "java/lang/Float", name := "floatToIntBits", desc := "(F)I" } : Jvm.MethodName)) ∈ lw_all := lw_g (lw_at lw_m7 18 rfl) rfl
theorem q1557 : (Jvm.Cond.methodLink "ReflectMirror" (111 : Nat) ({ cls := "java/lang/reflect/Array", name := "getDouble", desc := "(Ljava/lang/Object;I)D" } : Jvm.MethodName)) ∈ lw_all := lw_g (lw_at lw_m7 28 rfl) rfl
theorem q1560 : (Jvm.Cond.methodLink "ReflectMirror" (115 : Nat) ({ cls := "java/lang/Double", name := "doubleToLongBits", desc := "(D)J" } : Jvm.MethodName)) ∈ lw_all := lw_g (lw_at lw_m7 31 rfl) rfl
theorem q1570 : (Jvm.Cond.methodLink "ReflectMirror" (121 : Nat) ({ cls := "ReflectMirror", name := "references", desc := "(Ljava/lang/Object;)[LReflectMirror$Thing;" } : Jvm.MethodName)) ∈ lw_all := lw_g (lw_at lw_m7 41 rfl) rfl
theorem q1571 : (Jvm.Cond.static ({ cls := "ReflectMirror", name := "references", desc := "(Ljava/lang/Object;)[LReflectMirror$Thing;" } : Jvm.MethodName)) ∈ lw_all := lw_g (lw_at lw_m7 42 rfl) rfl
theorem q1572 : (Jvm.Cond.code ({ cls := "ReflectMirror", name := "references", desc := "(Ljava/lang/Object;)[LReflectMirror$Thing;" } : Jvm.MethodName) prog_1_method_7_code (1 : Nat) (Option.some (Jvm.ClassFile.FieldType.array (Jvm.ClassFile.FieldType.object "ReflectMirror$Thing")))) ∈ lw_all := lw_g (lw_at lw_m7 43 rfl) rfl
theorem q1573 : (Jvm.Cond.classLink "ReflectMirror" (132 : Nat) "[LReflectMirror$Thing;") ∈ lw_all := lw_g (lw_at lw_m7 44 rfl) rfl
theorem q1574 : (Jvm.Cond.methodLink "ReflectMirror" (242 : Nat) ({ cls := "ReflectMirror$Cell", name := "become", desc := "(LReflectMirror$Cell;)V" } : Jvm.MethodName)) ∈ lw_all := lw_g (lw_at lw_m7 45 rfl) rfl
theorem q1578 : (Jvm.Cond.methodLink "ReflectMirror" (355 : Nat) ({ cls := "ReflectMirror", name := "set", desc := "(LReflectMirror$Member;LReflectMirror$Thing;LReflectMirror$Cell;)V" } : Jvm.MethodName)) ∈ lw_all := lw_g (lw_at lw_m7 49 rfl) rfl
theorem q1579 : (Jvm.Cond.privateMethod ({ cls := "ReflectMirror", name := "set", desc := "(LReflectMirror$Member;LReflectMirror$Thing;LReflectMirror$Cell;)V" } : Jvm.MethodName)) ∈ lw_tbl := lw_at lw_m7 50 rfl
theorem q1580 : (Jvm.Cond.instanceMethod ({ cls := "ReflectMirror", name := "set", desc := "(LReflectMirror$Member;LReflectMirror$Thing;LReflectMirror$Cell;)V" } : Jvm.MethodName)) ∈ lw_all := lw_g (lw_at lw_m7 51 rfl) rfl
theorem q1581 : (Jvm.Cond.code ({ cls := "ReflectMirror", name := "set", desc := "(LReflectMirror$Member;LReflectMirror$Thing;LReflectMirror$Cell;)V" } : Jvm.MethodName) prog_1_method_14_code (5 : Nat) (Option.none : Option Jvm.ClassFile.FieldType)) ∈ lw_all := lw_g (lw_at lw_m7 52 rfl) rfl
theorem q1582 : (Jvm.Cond.methodLink "ReflectMirror" (249 : Nat) ({ cls := "ReflectMirror", name := "goesInto", desc := "(LReflectMirror$Cell;LReflectMirror$Type;)Z" } : Jvm.MethodName)) ∈ lw_all := lw_g (lw_at lw_m7 53 rfl) rfl
theorem q1583 : (Jvm.Cond.privateMethod ({ cls := "ReflectMirror", name := "goesInto", desc := "(LReflectMirror$Cell;LReflectMirror$Type;)Z" } : Jvm.MethodName)) ∈ lw_tbl := lw_at lw_m7 54 rfl
theorem q1584 : (Jvm.Cond.instanceMethod ({ cls := "ReflectMirror", name := "goesInto", desc := "(LReflectMirror$Cell;LReflectMirror$Type;)Z" } : Jvm.MethodName)) ∈ lw_all := lw_g (lw_at lw_m7 55 rfl) rfl
theorem q1585 : (Jvm.Cond.code ({ cls := "ReflectMirror", name := "goesInto", desc := "(LReflectMirror$Cell;LReflectMirror$Type;)Z" } : Jvm.MethodName) prog_1_method_9_code (3 : Nat) (Option.some Jvm.ClassFile.FieldType.boolean)) ∈ lw_all := lw_g (lw_at lw_m7 56 rfl) rfl
theorem q1586 : (Jvm.Cond.methodLink "ReflectMirror" (253 : Nat) ({ cls := "ReflectMirror", name := "save", desc := "(Ljava/lang/Object;ILReflectMirror$Cell;)V" } : Jvm.MethodName)) ∈ lw_all := lw_g (lw_at lw_m7 57 rfl) rfl
theorem q1587 : (Jvm.Cond.static ({ cls := "ReflectMirror", name := "save", desc := "(Ljava/lang/Object;ILReflectMirror$Cell;)V" } : Jvm.MethodName)) ∈ lw_all := lw_g (lw_at lw_m7 58 rfl) rfl
theorem q1588 : (Jvm.Cond.code ({ cls := "ReflectMirror", name := "save", desc := "(Ljava/lang/Object;ILReflectMirror$Cell;)V" } : Jvm.MethodName) prog_1_method_8_code (3 : Nat) (Option.none : Option Jvm.ClassFile.FieldType)) ∈ lw_all := lw_g (lw_at lw_m7 59 rfl) rfl
theorem q1589 : (Jvm.Cond.methodLink "ReflectMirror" (140 : Nat) ({ cls := "java/lang/reflect/Array", name := "setBoolean", desc := "(Ljava/lang/Object;IZ)V" } : Jvm.MethodName)) ∈ lw_all := lw_g (lw_at lw_m7 60 rfl) rfl
theorem q1592 : (Jvm.Cond.methodLink "ReflectMirror" (144 : Nat) ({ cls := "java/lang/reflect/Array", name := "setChar", desc := "(Ljava/lang/Object;IC)V" } : Jvm.MethodName)) ∈ lw_all := lw_g (lw_at lw_m7 63 rfl) rfl
theorem q1595 : (Jvm.Cond.methodLink "ReflectMirror" (148 : Nat) ({ cls := "java/lang/reflect/Array", name := "setByte", desc := "(Ljava/lang/Object;IB)V" } : Jvm.MethodName)) ∈ lw_all := lw_g (lw_at lw_m7 66 rfl) rfl
theorem q1598 : (Jvm.Cond.methodLink "ReflectMirror" (152 : Nat) ({ cls := "java/lang/reflect/Array", name := "setShort", desc := "(Ljava/lang/Object;IS)V" } : Jvm.MethodName)) ∈ lw_all := lw_g (lw_at lw_m7 69 rfl) rfl
theorem q1601 : (Jvm.Cond.methodLink "ReflectMirror" (156 : Nat) ({ cls := "java/lang/reflect/Array", name := "setInt", desc := "(Ljava/lang/Object;II)V" } : Jvm.MethodName)) ∈ lw_all := lw_g (lw_at lw_m7 72 rfl) rfl
theorem q1604 : (Jvm.Cond.methodLink "ReflectMirror" (160 : Nat) ({ cls := "java/lang/reflect/Array", name := "setLong", desc := "(Ljava/lang/Object;IJ)V" } : Jvm.MethodName)) ∈ lw_all := lw_g (lw_at lw_m7 75 rfl) rfl
theorem q1607 : (Jvm.Cond.methodLink "ReflectMirror" (164 : Nat) ({ cls := "ReflectMirror$Cell", name := "single", desc := "()F" } : Jvm.MethodName)) ∈ lw_all := lw_g (lw_at lw_m7 78 rfl) rfl
theorem q1614 : (Jvm.Cond.methodLink "ReflectMirror" (168 : Nat) ({ cls := "java/lang/reflect/Array", name := "setFloat", desc := "(Ljava/lang/Object;IF)V" } : Jvm.MethodName)) ∈ lw_all := lw_g (lw_at lw_m7 85 rfl) rfl
theorem q1617 : (Jvm.Cond.methodLink "ReflectMirror" (172 : Nat) ({ cls := "ReflectMirror$Cell", name := "real", desc := "()D" } : Jvm.MethodName)) ∈ lw_all := lw_g (lw_at lw_m7 88 rfl) rfl
theorem q1624 : (Jvm.Cond.methodLink "ReflectMirror" (176 : Nat) ({ cls := "java/lang/reflect/Array", name := "setDouble", desc := "(Ljava/lang/Object;ID)V" } : Jvm.MethodName)) ∈ lw_all := lw_g (lw_at lw_m7 95 rfl) rfl
theorem q1627 : (Jvm.Cond.methodLink "ReflectMirror" (180 : Nat) ({ cls := "java/lang/reflect/Array", name := "set", desc := "(Ljava/lang/Object;ILjava/lang/Object;)V" } : Jvm.MethodName)) ∈ lw_all := lw_g (lw_at lw_m7 98 rfl) rfl
theorem q1667 : (Jvm.Cond.methodLink "ReflectMirror" (358 : Nat) ({ cls := "ReflectMirror", name := "item", desc := "(LReflectMirror$Thing;IILReflectMirror$Cell;)V" } : Jvm.MethodName)) ∈ lw_all := lw_g (lw_at lw_m7 138 rfl) rfl
theorem q1668 : (Jvm.Cond.privateMethod ({ cls := "ReflectMirror", name := "item", desc := "(LReflectMirror$Thing;IILReflectMirror$Cell;)V" } : Jvm.MethodName)) ∈ lw_tbl := lw_at lw_m7 139 rfl
theorem q1669 : (Jvm.Cond.instanceMethod ({ cls := "ReflectMirror", name := "item", desc := "(LReflectMirror$Thing;IILReflectMirror$Cell;)V" } : Jvm.MethodName)) ∈ lw_all := lw_g (lw_at lw_m7 140 rfl) rfl
theorem q1670 : (Jvm.Cond.code ({ cls := "ReflectMirror", name := "item", desc := "(LReflectMirror$Thing;IILReflectMirror$Cell;)V" } : Jvm.MethodName) prog_1_method_16_code (6 : Nat) (Option.none : Option Jvm.ClassFile.FieldType)) ∈ lw_all := lw_g (lw_at lw_m7 141 rfl) rfl
theorem q1671 : (Jvm.Cond.methodLink "ReflectMirror" (260 : Nat) ({ cls := "ReflectMirror", name := "itemsOf", desc := "(LReflectMirror$Thing;)Ljava/lang/Object;" } : Jvm.MethodName)) ∈ lw_all := lw_g (lw_at lw_m7 142 rfl) rfl
theorem q1672 : (Jvm.Cond.static ({ cls := "ReflectMirror", name := "itemsOf", desc := "(LReflectMirror$Thing;)Ljava/lang/Object;" } : Jvm.MethodName)) ∈ lw_all := lw_g (lw_at lw_m7 143 rfl) rfl
theorem q1673 : (Jvm.Cond.code ({ cls := "ReflectMirror", name := "itemsOf", desc := "(LReflectMirror$Thing;)Ljava/lang/Object;" } : Jvm.MethodName) prog_1_method_15_code (2 : Nat) (Option.some (Jvm.ClassFile.FieldType.object "java/lang/Object"))) ∈ lw_all := lw_g (lw_at lw_m7 144 rfl) rfl
theorem q1674 : (Jvm.Cond.classLink "ReflectMirror" (257 : Nat) "ReflectMirror$Many") ∈ lw_all := lw_g (lw_at lw_m7 145 rfl) rfl
theorem q1675 : (Jvm.Cond.methodLink "ReflectMirror" (362 : Nat) ({ cls := "ReflectMirror", name := "put", desc := "(LReflectMirror$Thing;ILReflectMirror$Cell;)V" } : Jvm.MethodName)) ∈ lw_all := lw_g (lw_at lw_m7 146 rfl) rfl
theorem q1676 : (Jvm.Cond.privateMethod ({ cls := "ReflectMirror", name := "put", desc := "(LReflectMirror$Thing;ILReflectMirror$Cell;)V" } : Jvm.MethodName)) ∈ lw_tbl := lw_at lw_m7 147 rfl
theorem q1677 : (Jvm.Cond.instanceMethod ({ cls := "ReflectMirror", name := "put", desc := "(LReflectMirror$Thing;ILReflectMirror$Cell;)V" } : Jvm.MethodName)) ∈ lw_all := lw_g (lw_at lw_m7 148 rfl) rfl
theorem q1678 : (Jvm.Cond.code ({ cls := "ReflectMirror", name := "put", desc := "(LReflectMirror$Thing;ILReflectMirror$Cell;)V" } : Jvm.MethodName) prog_1_method_17_code (6 : Nat) (Option.none : Option Jvm.ClassFile.FieldType)) ∈ lw_all := lw_g (lw_at lw_m7 149 rfl) rfl
theorem q1679 : (Jvm.Cond.methodLink "ReflectMirror" (366 : Nat) ({ cls := "ReflectMirror", name := "store", desc := "(LReflectMirror$Thing;ILReflectMirror$Cell;)V" } : Jvm.MethodName)) ∈ lw_all := lw_g (lw_at lw_m7 150 rfl) rfl
theorem q1680 : (Jvm.Cond.privateMethod ({ cls := "ReflectMirror", name := "store", desc := "(LReflectMirror$Thing;ILReflectMirror$Cell;)V" } : Jvm.MethodName)) ∈ lw_tbl := lw_at lw_m7 151 rfl
theorem q1681 : (Jvm.Cond.instanceMethod ({ cls := "ReflectMirror", name := "store", desc := "(LReflectMirror$Thing;ILReflectMirror$Cell;)V" } : Jvm.MethodName)) ∈ lw_all := lw_g (lw_at lw_m7 152 rfl) rfl
theorem q1682 : (Jvm.Cond.code ({ cls := "ReflectMirror", name := "store", desc := "(LReflectMirror$Thing;ILReflectMirror$Cell;)V" } : Jvm.MethodName) prog_1_method_18_code (6 : Nat) (Option.none : Option Jvm.ClassFile.FieldType)) ∈ lw_all := lw_g (lw_at lw_m7 153 rfl) rfl
theorem q1683 : (Jvm.Cond.methodLink "ReflectMirror" (268 : Nat) ({ cls := "java/lang/ArrayStoreException", name := "<init>", desc := "()V" } : Jvm.MethodName)) ∈ lw_all := lw_g (lw_at lw_m7 154 rfl) rfl
theorem q1687 : (Jvm.Cond.methodLink "ReflectMirror" (369 : Nat) ({ cls := "ReflectMirror", name := "copy", desc := "(LReflectMirror$Thing;ILReflectMirror$Thing;II)V" } : Jvm.MethodName)) ∈ lw_all := lw_g (lw_at lw_m7 158 rfl) rfl
theorem q1688 : (Jvm.Cond.privateMethod ({ cls := "ReflectMirror", name := "copy", desc := "(LReflectMirror$Thing;ILReflectMirror$Thing;II)V" } : Jvm.MethodName)) ∈ lw_tbl := lw_at lw_m7 159 rfl
theorem q1689 : (Jvm.Cond.instanceMethod ({ cls := "ReflectMirror", name := "copy", desc := "(LReflectMirror$Thing;ILReflectMirror$Thing;II)V" } : Jvm.MethodName)) ∈ lw_all := lw_g (lw_at lw_m7 160 rfl) rfl
theorem q1690 : (Jvm.Cond.code ({ cls := "ReflectMirror", name := "copy", desc := "(LReflectMirror$Thing;ILReflectMirror$Thing;II)V" } : Jvm.MethodName) prog_1_method_19_code (13 : Nat) (Option.none : Option Jvm.ClassFile.FieldType)) ∈ lw_all := lw_g (lw_at lw_m7 161 rfl) rfl
theorem q1691 : (Jvm.Cond.methodLink "ReflectMirror" (269 : Nat) ({ cls := "java/lang/System", name := "arraycopy", desc := "(Ljava/lang/Object;ILjava/lang/Object;II)V" } : Jvm.MethodName)) ∈ lw_all := lw_g (lw_at lw_m7 162 rfl) rfl
theorem q1694 : (Jvm.Cond.methodLink "ReflectMirror" (373 : Nat) ({ cls := "ReflectMirror", name := "call", desc := "(LReflectMirror$Member;LReflectMirror$Thing;ILReflectMirror$Cell;)V" } : Jvm.MethodName)) ∈ lw_all := lw_g (lw_at lw_m7 165 rfl) rfl
theorem q1695 : (Jvm.Cond.privateMethod ({ cls := "ReflectMirror", name := "call", desc := "(LReflectMirror$Member;LReflectMirror$Thing;ILReflectMirror$Cell;)V" } : Jvm.MethodName)) ∈ lw_tbl := lw_at lw_m7 166 rfl
theorem q1696 : (Jvm.Cond.instanceMethod ({ cls := "ReflectMirror", name := "call", desc := "(LReflectMirror$Member;LReflectMirror$Thing;ILReflectMirror$Cell;)V" } : Jvm.MethodName)) ∈ lw_all := lw_g (lw_at lw_m7 167 rfl) rfl
theorem q1697 : (Jvm.Cond.code ({ cls := "ReflectMirror", name := "call", desc := "(LReflectMirror$Member;LReflectMirror$Thing;ILReflectMirror$Cell;)V" } : Jvm.MethodName) prog_1_method_22_code (6 : Nat) (Option.none : Option Jvm.ClassFile.FieldType)) ∈ lw_all := lw_g (lw_at lw_m7 168 rfl) rfl
theorem q1698 : (Jvm.Cond.methodLink "ReflectMirror" (343 : Nat) ({ cls := "ReflectMirror", name := "run", desc := "(LReflectMirror$Member;LReflectMirror$One;[LReflectMirror$Cell;IZLReflectMirror$Cell;)V" } : Jvm.MethodName)) ∈ lw_all := lw_g (lw_at lw_m7 169 rfl) rfl
theorem q1699 : (Jvm.Cond.privateMethod ({ cls := "ReflectMirror", name := "run", desc := "(LReflectMirror$Member;LReflectMirror$One;[LReflectMirror$Cell;IZLReflectMirror$Cell;)V" } : Jvm.MethodName)) ∈ lw_tbl := lw_at lw_m7 170 rfl
theorem q1700 : (Jvm.Cond.instanceMethod ({ cls := "ReflectMirror", name := "run", desc := "(LReflectMirror$Member;LReflectMirror$One;[LReflectMirror$Cell;IZLReflectMirror$Cell;)V" } : Jvm.MethodName)) ∈ lw_all := lw_g (lw_at lw_m7 171 rfl) rfl
theorem q1701 : (Jvm.Cond.codeWith ({ cls := "ReflectMirror", name := "run", desc := "(LReflectMirror$Member;LReflectMirror$One;[LReflectMirror$Cell;IZLReflectMirror$Cell;)V" } : Jvm.MethodName) prog_1_method_21_code (12 : Nat) (Option.none : Option Jvm.ClassFile.FieldType) [((147 : Nat), (157 : Nat), (160 : Nat), (209 : Nat)), ((147 : Nat), (157 : Nat), (191 : Nat), (331 : Nat)), ((147 : Nat), (157 : Nat), (203 : Nat), (333 : Nat))]) ∈ lw_all := lw_g (lw_at lw_m7 172 rfl) rfl
theorem q1702 : (Jvm.Cond.methodLink "ReflectMirror" (284 : Nat) ({ cls := "ReflectMirror", name := "cause", desc := "(ILReflectMirror$Member;I)LReflectMirror$Refusal;" } : Jvm.MethodName)) ∈ lw_all := lw_g (lw_at lw_m7 173 rfl) rfl
theorem q1703 : (Jvm.Cond.privateMethod ({ cls := "ReflectMirror", name := "cause", desc := "(ILReflectMirror$Member;I)LReflectMirror$Refusal;" } : Jvm.MethodName)) ∈ lw_tbl := lw_at lw_m7 174 rfl
theorem q1704 : (Jvm.Cond.instanceMethod ({ cls := "ReflectMirror", name := "cause", desc := "(ILReflectMirror$Member;I)LReflectMirror$Refusal;" } : Jvm.MethodName)) ∈ lw_all := lw_g (lw_at lw_m7 175 rfl) rfl
theorem q1705 : (Jvm.Cond.code ({ cls := "ReflectMirror", name := "cause", desc := "(ILReflectMirror$Member;I)LReflectMirror$Refusal;" } : Jvm.MethodName) prog_1_method_20_code (4 : Nat) (Option.some (Jvm.ClassFile.FieldType.object "ReflectMirror$Refusal"))) ∈ lw_all := lw_g (lw_at lw_m7 176 rfl) rfl
theorem q1706 : (Jvm.Cond.methodLink "ReflectMirror" (299 : Nat) ({ cls := "ReflectMirror$Tally", name := "next", desc := "()I" } : Jvm.MethodName)) ∈ lw_all := lw_g (lw_at lw_m7 177 rfl) rfl
theorem q1718 : (Jvm.Cond.methodLink "ReflectMirror" (310 : Nat) ({ cls := "ReflectMirror$Cell", name := "widenTo", desc := "(LReflectMirror$Type;)V" } : Jvm.MethodName)) ∈ lw_all := lw_g (lw_at lw_m7 189 rfl) rfl
theorem q1732 : (Jvm.Cond.classLink "ReflectMirror" (313 : Nat) "ReflectMirror$Frame") ∈ lw_all := lw_g (lw_at lw_m7 203 rfl) rfl
theorem q1734 : (Jvm.Cond.methodLink "ReflectMirror" (315 : Nat) ({ cls := "ReflectMirror$Frame", name := "<init>", desc := "(LReflectMirror$One;[LReflectMirror$Cell;I)V" } : Jvm.MethodName)) ∈ lw_all := lw_g (lw_at lw_m7 205 rfl) rfl
theorem q1752 : (Jvm.Cond.fieldLink "ReflectMirror" (335 : Nat) "ReflectMirror$Frame" "out" "LReflectMirror$Cell;") ∈ lw_all := lw_g (lw_at lw_m7 223 rfl) rfl
theorem q1764 : (Jvm.Cond.methodLink "ReflectMirror" (322 : Nat) ({ cls := "ReflectMirror$Body", name := "work", desc := "(LReflectMirror$Frame;)V" } : Jvm.MethodName)) ∈ lw_all := lw_g (lw_at lw_m7 235 rfl) rfl
theorem q1873 : (Jvm.Cond.methodLink "ReflectMirror" (382 : Nat) ({ cls := "ReflectMirror$Many", name := "<init>", desc := "(ILReflectMirror$Type;Ljava/lang/Object;)V" } : Jvm.MethodName)) ∈ lw_all := lw_g (lw_at lw_m8 104 rfl) rfl
theorem q1882 : (Jvm.Cond.fieldLink "ReflectMirror" (259 : Nat) "ReflectMirror$Many" "row" "Ljava/lang/Object;") ∈ lw_all := lw_g (lw_at lw_m8 113 rfl) rfl
theorem q1884 : (Jvm.Cond.fieldLink "ReflectMirror" (589 : Nat) "ReflectMirror$Many" "size" "I") ∈ lw_all := lw_g (lw_at lw_m8 115 rfl) rfl
theorem q1894 : (Jvm.Cond.instanceMethod ({ cls := "ReflectMirror", name := "thing", desc := "(II)I" } : Jvm.MethodName)) ∈ lw_all := lw_g (lw_at lw_m8 125 rfl) rfl
theorem q1895 : (Jvm.Cond.selects "ReflectMirror" ({ cls := "ReflectMirror", name := "thing", desc := "(II)I" } : Jvm.MethodName) ({ cls := "ReflectMirror", name := "thing", desc := "(II)I" } : Jvm.MethodName)) ∈ lw_all := lw_g (lw_at lw_m8 126 rfl) rfl
theorem q1896 : (Jvm.Cond.code ({ cls := "ReflectMirror", name := "thing", desc := "(II)I" } : Jvm.MethodName) prog_1_method_61_code (4 : Nat) (Option.some Jvm.ClassFile.FieldType.int)) ∈ lw_all := lw_g (lw_at lw_m8 127 rfl) rfl
theorem q1897 : (Jvm.Cond.methodLink "ReflectMirror" (592 : Nat) ({ cls := "java/util/Objects", name := "requireNonNull", desc := "(Ljava/lang/Object;)Ljava/lang/Object;" } : Jvm.MethodName)) ∈ lw_all := lw_g (lw_at lw_m8 128 rfl) rfl
theorem q1903 : (Jvm.Cond.instanceMethod ({ cls := "ReflectMirror", name := "slot", desc := "(IIJ)I" } : Jvm.MethodName)) ∈ lw_all := lw_g (lw_at lw_m8 134 rfl) rfl
theorem q1904 : (Jvm.Cond.selects "ReflectMirror" ({ cls := "ReflectMirror", name := "slot", desc := "(IIJ)I" } : Jvm.MethodName) ({ cls := "ReflectMirror", name := "slot", desc := "(IIJ)I" } : Jvm.MethodName)) ∈ lw_all := lw_g (lw_at lw_m8 135 rfl) rfl
theorem q1905 : (Jvm.Cond.code ({ cls := "ReflectMirror", name := "slot", desc := "(IIJ)I" } : Jvm.MethodName) prog_1_method_64_code (6 : Nat) (Option.some Jvm.ClassFile.FieldType.int)) ∈ lw_all := lw_g (lw_at lw_m8 136 rfl) rfl
theorem q1906 : (Jvm.Cond.methodLink "ReflectMirror" (610 : Nat) ({ cls := "ReflectMirror", name := "isSlot", desc := "(I)Z" } : Jvm.MethodName)) ∈ lw_all := lw_g (lw_at lw_m8 137 rfl) rfl
theorem q1907 : (Jvm.Cond.static ({ cls := "ReflectMirror", name := "isSlot", desc := "(I)Z" } : Jvm.MethodName)) ∈ lw_all := lw_g (lw_at lw_m8 138 rfl) rfl
theorem q1908 : (Jvm.Cond.code ({ cls := "ReflectMirror", name := "isSlot", desc := "(I)Z" } : Jvm.MethodName) prog_1_method_63_code (1 : Nat) (Option.some Jvm.ClassFile.FieldType.boolean)) ∈ lw_all := lw_g (lw_at lw_m8 139 rfl) rfl
theorem q1909 : (Jvm.Cond.constantLong "ReflectMirror" (608 : Nat) (7 : Int64)) ∈ lw_all := lw_g (lw_at lw_m8 140 rfl) rfl
theorem q1910 : (Jvm.Cond.methodLink "ReflectMirror" (613 : Nat) ({ cls := "ReflectMirror", name := "isFit", desc := "(IJ)Z" } : Jvm.MethodName)) ∈ lw_all := lw_g (lw_at lw_m8 141 rfl) rfl
theorem q1911 : (Jvm.Cond.privateMethod ({ cls := "ReflectMirror", name := "isFit", desc := "(IJ)Z" } : Jvm.MethodName)) ∈ lw_tbl := lw_at lw_m8 142 rfl
theorem q1912 : (Jvm.Cond.instanceMethod ({ cls := "ReflectMirror", name := "isFit", desc := "(IJ)Z" } : Jvm.MethodName)) ∈ lw_all := lw_g (lw_at lw_m8 143 rfl) rfl
theorem q1913 : (Jvm.Cond.code ({ cls := "ReflectMirror", name := "isFit", desc := "(IJ)Z" } : Jvm.MethodName) prog_1_method_62_code (4 : Nat) (Option.some Jvm.ClassFile.FieldType.boolean)) ∈ lw_all := lw_g (lw_at lw_m8 144 rfl) rfl
theorem q1914 : (Jvm.Cond.constantLong "ReflectMirror" (598 : Nat) (65535 : Int64)) ∈ lw_all := lw_g (lw_at lw_m8 145 rfl) rfl
theorem q1915 : (Jvm.Cond.constantLong "ReflectMirror" (600 : Nat) (2147483647 : Int64)) ∈ lw_all := lw_g (lw_at lw_m8 146 rfl) rfl
theorem q1916 : (Jvm.Cond.constantLong "ReflectMirror" (602 : Nat) (2139095040 : Int64)) ∈ lw_all := lw_g (lw_at lw_m8 147 rfl) rfl
theorem q1917 : (Jvm.Cond.constantLong "ReflectMirror" (604 : Nat) (9223372036854775807 : Int64)) ∈ lw_all := lw_g (lw_at lw_m8 148 rfl) rfl
theorem q1918 : (Jvm.Cond.constantLong "ReflectMirror" (606 : Nat) (9218868437227405312 : Int64)) ∈ lw_all := lw_g (lw_at lw_m8 149 rfl) rfl
theorem q1920 : (Jvm.Cond.instanceMethod ({ cls := "ReflectMirror", name := "kind", desc := "(I)I" } : Jvm.MethodName)) ∈ lw_all := lw_g (lw_at lw_m8 151 rfl) rfl
theorem q1921 : (Jvm.Cond.selects "ReflectMirror" ({ cls := "ReflectMirror", name := "kind", desc := "(I)I" } : Jvm.MethodName) ({ cls := "ReflectMirror", name := "kind", desc := "(I)I" } : Jvm.MethodName)) ∈ lw_all := lw_g (lw_at lw_m8 152 rfl) rfl
theorem q1922 : (Jvm.Cond.code ({ cls := "ReflectMirror", name := "kind", desc := "(I)I" } : Jvm.MethodName) prog_1_method_65_code (2 : Nat) (Option.some Jvm.ClassFile.FieldType.int)) ∈ lw_all := lw_g (lw_at lw_m8 153 rfl) rfl
theorem q1924 : (Jvm.Cond.instanceMethod ({ cls := "ReflectMirror", name := "bits", desc := "(I)J" } : Jvm.MethodName)) ∈ lw_all := lw_g (lw_at lw_m8 155 rfl) rfl
theorem q1925 : (Jvm.Cond.selects "ReflectMirror" ({ cls := "ReflectMirror", name := "bits", desc := "(I)J" } : Jvm.MethodName) ({ cls := "ReflectMirror", name := "bits", desc := "(I)J" } : Jvm.MethodName)) ∈ lw_all := lw_g (lw_at lw_m8 156 rfl) rfl
theorem q1926 : (Jvm.Cond.code ({ cls := "ReflectMirror", name := "bits", desc := "(I)J" } : Jvm.MethodName) prog_1_method_66_code (3 : Nat) (Option.some Jvm.ClassFile.FieldType.long)) ∈ lw_all := lw_g (lw_at lw_m8 157 rfl) rfl
theorem q1927 : (Jvm.Cond.constantLong "ReflectMirror" (618 : Nat) (-9223372036854775808 : Int64)) ∈ lw_all := lw_g (lw_at lw_m8 158 rfl) rfl
theorem q1929 : (Jvm.Cond.instanceMethod ({ cls := "ReflectMirror", name := "get", desc := "(IIII)I" } : Jvm.MethodName)) ∈ lw_all := lw_g (lw_at lw_m8 160 rfl) rfl
theorem q1930 : (Jvm.Cond.selects "ReflectMirror" ({ cls := "ReflectMirror", name := "get", desc := "(IIII)I" } : Jvm.MethodName) ({ cls := "ReflectMirror", name := "get", desc := "(IIII)I" } : Jvm.MethodName)) ∈ lw_all := lw_g (lw_at lw_m8 161 rfl) rfl
theorem q1931 : (Jvm.Cond.code ({ cls := "ReflectMirror", name := "get", desc := "(IIII)I" } : Jvm.MethodName) prog_1_method_67_code (5 : Nat) (Option.some Jvm.ClassFile.FieldType.int)) ∈ lw_all := lw_g (lw_at lw_m8 162 rfl) rfl
theorem q1932 : (Jvm.Cond.methodLink "ReflectMirror" (620 : Nat) ({ cls := "ReflectMirror", name := "isField", desc := "(I)Z" } : Jvm.MethodName)) ∈ lw_all := lw_g (lw_at lw_m8 163 rfl) rfl
theorem q1933 : (Jvm.Cond.privateMethod ({ cls := "ReflectMirror", name := "isField", desc := "(I)Z" } : Jvm.MethodName)) ∈ lw_tbl := lw_at lw_m8 164 rfl
theorem q1934 : (Jvm.Cond.instanceMethod ({ cls := "ReflectMirror", name := "isField", desc := "(I)Z" } : Jvm.MethodName)) ∈ lw_all := lw_g (lw_at lw_m8 165 rfl) rfl
theorem q1935 : (Jvm.Cond.code ({ cls := "ReflectMirror", name := "isField", desc := "(I)Z" } : Jvm.MethodName) prog_1_method_32_code (2 : Nat) (Option.some Jvm.ClassFile.FieldType.boolean)) ∈ lw_all := lw_g (lw_at lw_m8 166 rfl) rfl
theorem q1937 : (Jvm.Cond.instanceMethod ({ cls := "ReflectMirror", name := "set", desc := "(III)I" } : Jvm.MethodName)) ∈ lw_all := lw_g (lw_at lw_m8 168 rfl) rfl
theorem q1938 : (Jvm.Cond.selects "ReflectMirror" ({ cls := "ReflectMirror", name := "set", desc := "(III)I" } : Jvm.MethodName) ({ cls := "ReflectMirror", name := "set", desc := "(III)I" } : Jvm.MethodName)) ∈ lw_all := lw_g (lw_at lw_m8 169 rfl) rfl
theorem q1939 : (Jvm.Cond.code ({ cls := "ReflectMirror", name := "set", desc := "(III)I" } : Jvm.MethodName) prog_1_method_68_code (4 : Nat) (Option.some Jvm.ClassFile.FieldType.int)) ∈ lw_all := lw_g (lw_at lw_m8 170 rfl) rfl
theorem q1941 : (Jvm.Cond.instanceMethod ({ cls := "ReflectMirror", name := "item", desc := "(IIII)I" } : Jvm.MethodName)) ∈ lw_all := lw_g (lw_at lw_m8 172 rfl) rfl
theorem q1942 : (Jvm.Cond.selects "ReflectMirror" ({ cls := "ReflectMirror", name := "item", desc := "(IIII)I" } : Jvm.MethodName) ({ cls := "ReflectMirror", name := "item", desc := "(IIII)I" } : Jvm.MethodName)) ∈ lw_all := lw_g (lw_at lw_m8 173 rfl) rfl
theorem q1943 : (Jvm.Cond.code ({ cls := "ReflectMirror", name := "item", desc := "(IIII)I" } : Jvm.MethodName) prog_1_method_69_code (5 : Nat) (Option.some Jvm.ClassFile.FieldType.int)) ∈ lw_all := lw_g (lw_at lw_m8 174 rfl) rfl
theorem q1945 : (Jvm.Cond.instanceMethod ({ cls := "ReflectMirror", name := "put", desc := "(III)I" } : Jvm.MethodName)) ∈ lw_all := lw_g (lw_at lw_m8 176 rfl) rfl
theorem q1946 : (Jvm.Cond.selects "ReflectMirror" ({ cls := "ReflectMirror", name := "put", desc := "(III)I" } : Jvm.MethodName) ({ cls := "ReflectMirror", name := "put", desc := "(III)I" } : Jvm.MethodName)) ∈ lw_all := lw_g (lw_at lw_m8 177 rfl) rfl
theorem q1947 : (Jvm.Cond.code ({ cls := "ReflectMirror", name := "put", desc := "(III)I" } : Jvm.MethodName) prog_1_method_70_code (4 : Nat) (Option.some Jvm.ClassFile.FieldType.int)) ∈ lw_all := lw_g (lw_at lw_m8 178 rfl) rfl
theorem q1949 : (Jvm.Cond.instanceMethod ({ cls := "ReflectMirror", name := "store", desc := "(III)I" } : Jvm.MethodName)) ∈ lw_all := lw_g (lw_at lw_m8 180 rfl) rfl
theorem q1950 : (Jvm.Cond.selects "ReflectMirror" ({ cls := "ReflectMirror", name := "store", desc := "(III)I" } : Jvm.MethodName) ({ cls := "ReflectMirror", name := "store", desc := "(III)I" } : Jvm.MethodName)) ∈ lw_all := lw_g (lw_at lw_m8 181 rfl) rfl
theorem q1951 : (Jvm.Cond.code ({ cls := "ReflectMirror", name := "store", desc := "(III)I" } : Jvm.MethodName) prog_1_method_71_code (4 : Nat) (Option.some Jvm.ClassFile.FieldType.int)) ∈ lw_all := lw_g (lw_at lw_m8 182 rfl) rfl
theorem q1953 : (Jvm.Cond.instanceMethod ({ cls := "ReflectMirror", name := "copy", desc := "(IIIII)I" } : Jvm.MethodName)) ∈ lw_all := lw_g (lw_at lw_m8 184 rfl) rfl
theorem q1954 : (Jvm.Cond.selects "ReflectMirror" ({ cls := "ReflectMirror", name := "copy", desc := "(IIIII)I" } : Jvm.MethodName) ({ cls := "ReflectMirror", name := "copy", desc := "(IIIII)I" } : Jvm.MethodName)) ∈ lw_all := lw_g (lw_at lw_m8 185 rfl) rfl
theorem q1955 : (Jvm.Cond.code ({ cls := "ReflectMirror", name := "copy", desc := "(IIIII)I" } : Jvm.MethodName) prog_1_method_72_code (6 : Nat) (Option.some Jvm.ClassFile.FieldType.int)) ∈ lw_all := lw_g (lw_at lw_m8 186 rfl) rfl
theorem q1957 : (Jvm.Cond.instanceMethod ({ cls := "ReflectMirror", name := "call", desc := "(IIII)I" } : Jvm.MethodName)) ∈ lw_all := lw_g (lw_at lw_m8 188 rfl) rfl
theorem q1958 : (Jvm.Cond.selects "ReflectMirror" ({ cls := "ReflectMirror", name := "call", desc := "(IIII)I" } : Jvm.MethodName) ({ cls := "ReflectMirror", name := "call", desc := "(IIII)I" } : Jvm.MethodName)) ∈ lw_all := lw_g (lw_at lw_m8 189 rfl) rfl
theorem q1959 : (Jvm.Cond.code ({ cls := "ReflectMirror", name := "call", desc := "(IIII)I" } : Jvm.MethodName) prog_1_method_73_code (5 : Nat) (Option.some Jvm.ClassFile.FieldType.int)) ∈ lw_all := lw_g (lw_at lw_m8 190 rfl) rfl
theorem q1961 : (Jvm.Cond.instanceMethod ({ cls := "ReflectMirror", name := "cause", desc := "(I)I" } : Jvm.MethodName)) ∈ lw_all := lw_g (lw_at lw_m8 192 rfl) rfl
theorem q1962 : (Jvm.Cond.selects "ReflectMirror" ({ cls := "ReflectMirror", name := "cause", desc := "(I)I" } : Jvm.MethodName) ({ cls := "ReflectMirror", name := "cause", desc := "(I)I" } : Jvm.MethodName)) ∈ lw_all := lw_g (lw_at lw_m8 193 rfl) rfl
theorem q1963 : (Jvm.Cond.code ({ cls := "ReflectMirror", name := "cause", desc := "(I)I" } : Jvm.MethodName) prog_1_method_74_code (2 : Nat) (Option.some Jvm.ClassFile.FieldType.int)) ∈ lw_all := lw_g (lw_at lw_m8 194 rfl) rfl
theorem q1965 : (Jvm.Cond.instanceMethod ({ cls := "ReflectMirror", name := "count", desc := "(I)I" } : Jvm.MethodName)) ∈ lw_all := lw_g (lw_at lw_m8 196 rfl) rfl
theorem q1966 : (Jvm.Cond.selects "ReflectMirror" ({ cls := "ReflectMirror", name := "count", desc := "(I)I" } : Jvm.MethodName) ({ cls := "ReflectMirror", name := "count", desc := "(I)I" } : Jvm.MethodName)) ∈ lw_all := lw_g (lw_at lw_m8 197 rfl) rfl
theorem q1967 : (Jvm.Cond.code ({ cls := "ReflectMirror", name := "count", desc := "(I)I" } : Jvm.MethodName) prog_1_method_75_code (2 : Nat) (Option.some Jvm.ClassFile.FieldType.int)) ∈ lw_all := lw_g (lw_at lw_m8 198 rfl) rfl
theorem q1968 : (Jvm.Cond.methodLink "ReflectMirror" (622 : Nat) ({ cls := "ReflectMirror$Tally", name := "told", desc := "()I" } : Jvm.MethodName)) ∈ lw_all := lw_g (lw_at lw_m8 199 rfl) rfl
theorem q2590 : (Jvm.Cond.castable "ReflectMirror" "java/lang/Object") ∈ lw_tbl := lw_at lw_m11 101 rfl
theorem in_X0 : ∀ w ∈ wsX00, w ∈ lw_all := lw_in wsX00 [341, 343, 345, 347, 349, 351, 353, 355, 357, 359, 361, 363, 365, 367] (by decide +kernel) (by decide +kernel)
