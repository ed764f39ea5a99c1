/-! SharedNights -/
set_option maxRecDepth 100000
def RX0 : String := "SharedNights"
def TX0 : u_T := fun k => match k with
  | 0 => ("SharedNights", "many", "I", false)
  | 1 => ("SharedNights", "tonight", "I", false)
  | 2 => ("SharedNights", "moonRegion", "I", false)
  | 3 => ("SharedNights", "moonFrom", "I", false)
  | 4 => ("SharedNights", "moonTo", "I", false)
  | 5 => ("SharedNights", "skies", "[LSharedNights$Sky;", true)
  | 6 => ("SharedNights", "worldMany", "I", false)
  | 7 => ("SharedNights", "targets", "[LSharedNights$Target;", true)
  | 8 => ("SharedNights", "targetMany", "I", false)
  | 9 => ("SharedNights", "plans", "[LSharedNights$Plan;", true)
  | 10 => ("SharedNights", "planMany", "I", false)
  | 11 => ("SharedNights", "text", "[B", true)
  | 12 => ("SharedNights", "length", "I", false)
  | 13 => ("SharedNights", "reader", "LSharedNights$Reader;", true)
  | 14 => ("SharedNights", "can", "I", false)
  | 15 => ("SharedNights", "faultAt", "I", false)
  | 16 => ("SharedNights", "night", "LSharedNights$Night;", true)
  | 17 => ("SharedNights", "again", "I", false)
  | 18 => ("SharedNights", "rules", "[LSharedNights$Rule;", true)
  | 19 => ("SharedNights", "watch", "LSharedNights$Watch;", true)
  | 20 => ("SharedNights", "valueUp", "I", false)
  | 21 => ("SharedNights", "valueBelow", "I", false)
  | 22 => ("SharedNights", "sureLeast", "I", false)
  | 23 => ("SharedNights", "shares", "[I", true)
  | 24 => ("SharedNights", "accounts", "[I", true)
  | _ => ("SharedNights", "earned", "I", false)
def tyX0 : Nat → FieldType := fun k => match k with
  | 0 => .int
  | 1 => .int
  | 2 => .int
  | 3 => .int
  | 4 => .int
  | 5 => .array (.object "SharedNights$Sky")
  | 6 => .int
  | 7 => .array (.object "SharedNights$Target")
  | 8 => .int
  | 9 => .array (.object "SharedNights$Plan")
  | 10 => .int
  | 11 => .array .byte
  | 12 => .int
  | 13 => .object "SharedNights$Reader"
  | 14 => .int
  | 15 => .int
  | 16 => .object "SharedNights$Night"
  | 17 => .int
  | 18 => .array (.object "SharedNights$Rule")
  | 19 => .object "SharedNights$Watch"
  | 20 => .int
  | 21 => .int
  | 22 => .int
  | 23 => .array .int
  | 24 => .array .int
  | _ => .int
abbrev wsX00 : List Cond := u_ws RX0 TX0 26
set_option maxRecDepth 100000 in
theorem nmX0 : ∀ a, a < 26 → ∀ b, b < 26 → a ≠ b → (TX0 a).2.1 ≠ (TX0 b).2.1 := by decide +kernel
set_option maxRecDepth 100000 in
theorem tyX0_ok : ∀ k, k < 26 → parseFieldDescriptor (TX0 k).2.2.1 = some (tyX0 k) := by decide +kernel
abbrev cX0_init : ByteArray := prog_1_method_2_code
def yX0_init : MethodName := ⟨RX0, "<init>", "()V"⟩
def dkwX0_init_7 : List UInt8 := [183, 0, 85, 83, 42, 180, 0, 20, 4, 187, 0, 18, 89, 183, 0, 85, 83, 177]
abbrev dktX0_init_7 : List UInt8 := dkwX0_init_7 ++ []
def dkwX0_init_6 : List UInt8 := [4, 79, 181, 0, 78, 42, 16, 8, 188, 10, 181, 0, 82, 42, 180, 0, 20, 3, 187, 0, 18, 89]
abbrev dktX0_init_6 : List UInt8 := dkwX0_init_6 ++ dktX0_init_7
def dkwX0_init_5 : List UInt8 := [183, 0, 73, 181, 0, 74, 42, 7, 188, 10, 89, 3, 4, 79, 89, 4, 4, 79, 89, 5, 4, 79, 89, 6]
abbrev dktX0_init_5 : List UInt8 := dkwX0_init_5 ++ dktX0_init_6
def dkwX0_init_4 : List UInt8 := [183, 0, 63, 83, 89, 5, 187, 0, 64, 89, 183, 0, 66, 83, 181, 0, 67, 42, 187, 0, 71, 89, 42]
abbrev dktX0_init_4 : List UInt8 := dkwX0_init_4 ++ dktX0_init_5
def dkwX0_init_3 : List UInt8 := [181, 0, 52, 42, 6, 189, 0, 56, 89, 3, 187, 0, 58, 89, 183, 0, 60, 83, 89, 4, 187, 0, 61, 89]
abbrev dktX0_init_3 : List UInt8 := dkwX0_init_3 ++ dktX0_init_4
def dkwX0_init_2 : List UInt8 := [181, 0, 36, 42, 187, 0, 40, 89, 42, 183, 0, 42, 181, 0, 45, 42, 187, 0, 49, 89, 42, 183, 0, 51]
abbrev dktX0_init_2 : List UInt8 := dkwX0_init_2 ++ dktX0_init_3
def dkwX0_init_1 : List UInt8 := [42, 16, 8, 189, 0, 24, 181, 0, 26, 42, 8, 189, 0, 30, 181, 0, 32, 42, 17, 0, 160, 188, 8]
abbrev dktX0_init_1 : List UInt8 := dkwX0_init_1 ++ dktX0_init_2
def dkwX0_init_0 : List UInt8 := [42, 183, 0, 3, 42, 16, 10, 181, 0, 9, 42, 2, 181, 0, 15, 42, 16, 6, 189, 0, 18, 181, 0, 20]
abbrev dktX0_init_0 : List UInt8 := dkwX0_init_0 ++ dktX0_init_1
theorem dksX0_init_0 : cX0_init.data.toList.drop 0 = dktX0_init_0 := by decide +kernel
theorem dksX0_init_1 : cX0_init.data.toList.drop 24 = dktX0_init_1 := dk_seg dksX0_init_0 24 rfl rfl
theorem dksX0_init_2 : cX0_init.data.toList.drop 47 = dktX0_init_2 := dk_seg dksX0_init_1 23 rfl rfl
theorem dksX0_init_3 : cX0_init.data.toList.drop 71 = dktX0_init_3 := dk_seg dksX0_init_2 24 rfl rfl
theorem dksX0_init_4 : cX0_init.data.toList.drop 95 = dktX0_init_4 := dk_seg dksX0_init_3 24 rfl rfl
theorem dksX0_init_5 : cX0_init.data.toList.drop 118 = dktX0_init_5 := dk_seg dksX0_init_4 23 rfl rfl
theorem dksX0_init_6 : cX0_init.data.toList.drop 142 = dktX0_init_6 := dk_seg dksX0_init_5 24 rfl rfl
theorem dksX0_init_7 : cX0_init.data.toList.drop 164 = dktX0_init_7 := dk_seg dksX0_init_6 22 rfl rfl
theorem dX0_init_0 : decode cX0_init 0 = .ok (.aload_n 0, 1) := dk_42 (dk_at dksX0_init_0 0 rfl rfl)
theorem dX0_init_1 : decode cX0_init 1 = .ok (.invokespecial 3, 3) := dk_183 0 3 (dk_at dksX0_init_0 1 rfl rfl)
theorem dX0_init_4 : decode cX0_init 4 = .ok (.aload_n 0, 1) := dk_42 (dk_at dksX0_init_0 4 rfl rfl)
theorem dX0_init_5 : decode cX0_init 5 = .ok (.bipush 10, 2) := dk_16 10 (dk_at dksX0_init_0 5 rfl rfl)
theorem dX0_init_7 : decode cX0_init 7 = .ok (.putfield 9, 3) := dk_181 0 9 (dk_at dksX0_init_0 7 rfl rfl)
theorem dX0_init_10 : decode cX0_init 10 = .ok (.aload_n 0, 1) := dk_42 (dk_at dksX0_init_0 10 rfl rfl)
theorem dX0_init_11 : decode cX0_init 11 = .ok (.iconst (-1), 1) := dk_2 (dk_at dksX0_init_0 11 rfl rfl)
theorem dX0_init_12 : decode cX0_init 12 = .ok (.putfield 15, 3) := dk_181 0 15 (dk_at dksX0_init_0 12 rfl rfl)
theorem dX0_init_15 : decode cX0_init 15 = .ok (.aload_n 0, 1) := dk_42 (dk_at dksX0_init_0 15 rfl rfl)
theorem dX0_init_16 : decode cX0_init 16 = .ok (.bipush 6, 2) := dk_16 6 (dk_at dksX0_init_0 16 rfl rfl)
theorem dX0_init_18 : decode cX0_init 18 = .ok (.anewarray 18, 3) := dk_189 0 18 (dk_at dksX0_init_0 18 rfl rfl)
theorem dX0_init_21 : decode cX0_init 21 = .ok (.putfield 20, 3) := dk_181 0 20 (dk_at dksX0_init_0 21 rfl rfl)
theorem dX0_init_24 : decode cX0_init 24 = .ok (.aload_n 0, 1) := dk_42 (dk_at dksX0_init_1 0 rfl rfl)
theorem dX0_init_25 : decode cX0_init 25 = .ok (.bipush 8, 2) := dk_16 8 (dk_at dksX0_init_1 1 rfl rfl)
theorem dX0_init_27 : decode cX0_init 27 = .ok (.anewarray 24, 3) := dk_189 0 24 (dk_at dksX0_init_1 3 rfl rfl)
theorem dX0_init_30 : decode cX0_init 30 = .ok (.putfield 26, 3) := dk_181 0 26 (dk_at dksX0_init_1 6 rfl rfl)
theorem dX0_init_33 : decode cX0_init 33 = .ok (.aload_n 0, 1) := dk_42 (dk_at dksX0_init_1 9 rfl rfl)
theorem dX0_init_34 : decode cX0_init 34 = .ok (.iconst 5, 1) := dk_8 (dk_at dksX0_init_1 10 rfl rfl)
theorem dX0_init_35 : decode cX0_init 35 = .ok (.anewarray 30, 3) := dk_189 0 30 (dk_at dksX0_init_1 11 rfl rfl)
theorem dX0_init_38 : decode cX0_init 38 = .ok (.putfield 32, 3) := dk_181 0 32 (dk_at dksX0_init_1 14 rfl rfl)
theorem dX0_init_41 : decode cX0_init 41 = .ok (.aload_n 0, 1) := dk_42 (dk_at dksX0_init_1 17 rfl rfl)
theorem dX0_init_42 : decode cX0_init 42 = .ok (.sipush 160, 3) := dk_17 0 160 (dk_at dksX0_init_1 18 rfl rfl)
theorem dX0_init_45 : decode cX0_init 45 = .ok (.newarray .byte, 2) := dk_188_8 (dk_at dksX0_init_1 21 rfl rfl)
theorem dX0_init_47 : decode cX0_init 47 = .ok (.putfield 36, 3) := dk_181 0 36 (dk_at dksX0_init_2 0 rfl rfl)
theorem dX0_init_50 : decode cX0_init 50 = .ok (.aload_n 0, 1) := dk_42 (dk_at dksX0_init_2 3 rfl rfl)
theorem dX0_init_51 : decode cX0_init 51 = .ok (.new 40, 3) := dk_187 0 40 (dk_at dksX0_init_2 4 rfl rfl)
theorem dX0_init_54 : decode cX0_init 54 = .ok (.dup, 1) := dk_89 (dk_at dksX0_init_2 7 rfl rfl)
theorem dX0_init_55 : decode cX0_init 55 = .ok (.aload_n 0, 1) := dk_42 (dk_at dksX0_init_2 8 rfl rfl)
theorem dX0_init_56 : decode cX0_init 56 = .ok (.invokespecial 42, 3) := dk_183 0 42 (dk_at dksX0_init_2 9 rfl rfl)
theorem dX0_init_59 : decode cX0_init 59 = .ok (.putfield 45, 3) := dk_181 0 45 (dk_at dksX0_init_2 12 rfl rfl)
theorem dX0_init_62 : decode cX0_init 62 = .ok (.aload_n 0, 1) := dk_42 (dk_at dksX0_init_2 15 rfl rfl)
theorem dX0_init_63 : decode cX0_init 63 = .ok (.new 49, 3) := dk_187 0 49 (dk_at dksX0_init_2 16 rfl rfl)
theorem dX0_init_66 : decode cX0_init 66 = .ok (.dup, 1) := dk_89 (dk_at dksX0_init_2 19 rfl rfl)
theorem dX0_init_67 : decode cX0_init 67 = .ok (.aload_n 0, 1) := dk_42 (dk_at dksX0_init_2 20 rfl rfl)
theorem dX0_init_68 : decode cX0_init 68 = .ok (.invokespecial 51, 3) := dk_183 0 51 (dk_at dksX0_init_2 21 rfl rfl)
theorem dX0_init_71 : decode cX0_init 71 = .ok (.putfield 52, 3) := dk_181 0 52 (dk_at dksX0_init_3 0 rfl rfl)
theorem dX0_init_74 : decode cX0_init 74 = .ok (.aload_n 0, 1) := dk_42 (dk_at dksX0_init_3 3 rfl rfl)
theorem dX0_init_75 : decode cX0_init 75 = .ok (.iconst 3, 1) := dk_6 (dk_at dksX0_init_3 4 rfl rfl)
theorem dX0_init_76 : decode cX0_init 76 = .ok (.anewarray 56, 3) := dk_189 0 56 (dk_at dksX0_init_3 5 rfl rfl)
theorem dX0_init_79 : decode cX0_init 79 = .ok (.dup, 1) := dk_89 (dk_at dksX0_init_3 8 rfl rfl)
theorem dX0_init_80 : decode cX0_init 80 = .ok (.iconst 0, 1) := dk_3 (dk_at dksX0_init_3 9 rfl rfl)
theorem dX0_init_81 : decode cX0_init 81 = .ok (.new 58, 3) := dk_187 0 58 (dk_at dksX0_init_3 10 rfl rfl)
theorem dX0_init_84 : decode cX0_init 84 = .ok (.dup, 1) := dk_89 (dk_at dksX0_init_3 13 rfl rfl)
theorem dX0_init_85 : decode cX0_init 85 = .ok (.invokespecial 60, 3) := dk_183 0 60 (dk_at dksX0_init_3 14 rfl rfl)
theorem dX0_init_88 : decode cX0_init 88 = .ok (.aastore, 1) := dk_83 (dk_at dksX0_init_3 17 rfl rfl)
theorem dX0_init_89 : decode cX0_init 89 = .ok (.dup, 1) := dk_89 (dk_at dksX0_init_3 18 rfl rfl)
theorem dX0_init_90 : decode cX0_init 90 = .ok (.iconst 1, 1) := dk_4 (dk_at dksX0_init_3 19 rfl rfl)
theorem dX0_init_91 : decode cX0_init 91 = .ok (.new 61, 3) := dk_187 0 61 (dk_at dksX0_init_3 20 rfl rfl)
theorem dX0_init_94 : decode cX0_init 94 = .ok (.dup, 1) := dk_89 (dk_at dksX0_init_3 23 rfl rfl)
theorem dX0_init_95 : decode cX0_init 95 = .ok (.invokespecial 63, 3) := dk_183 0 63 (dk_at dksX0_init_4 0 rfl rfl)
theorem dX0_init_98 : decode cX0_init 98 = .ok (.aastore, 1) := dk_83 (dk_at dksX0_init_4 3 rfl rfl)
theorem dX0_init_99 : decode cX0_init 99 = .ok (.dup, 1) := dk_89 (dk_at dksX0_init_4 4 rfl rfl)
theorem dX0_init_100 : decode cX0_init 100 = .ok (.iconst 2, 1) := dk_5 (dk_at dksX0_init_4 5 rfl rfl)
theorem dX0_init_101 : decode cX0_init 101 = .ok (.new 64, 3) := dk_187 0 64 (dk_at dksX0_init_4 6 rfl rfl)
theorem dX0_init_104 : decode cX0_init 104 = .ok (.dup, 1) := dk_89 (dk_at dksX0_init_4 9 rfl rfl)
theorem dX0_init_105 : decode cX0_init 105 = .ok (.invokespecial 66, 3) := dk_183 0 66 (dk_at dksX0_init_4 10 rfl rfl)
theorem dX0_init_108 : decode cX0_init 108 = .ok (.aastore, 1) := dk_83 (dk_at dksX0_init_4 13 rfl rfl)
theorem dX0_init_109 : decode cX0_init 109 = .ok (.putfield 67, 3) := dk_181 0 67 (dk_at dksX0_init_4 14 rfl rfl)
theorem dX0_init_112 : decode cX0_init 112 = .ok (.aload_n 0, 1) := dk_42 (dk_at dksX0_init_4 17 rfl rfl)
theorem dX0_init_113 : decode cX0_init 113 = .ok (.new 71, 3) := dk_187 0 71 (dk_at dksX0_init_4 18 rfl rfl)
theorem dX0_init_116 : decode cX0_init 116 = .ok (.dup, 1) := dk_89 (dk_at dksX0_init_4 21 rfl rfl)
theorem dX0_init_117 : decode cX0_init 117 = .ok (.aload_n 0, 1) := dk_42 (dk_at dksX0_init_4 22 rfl rfl)
theorem dX0_init_118 : decode cX0_init 118 = .ok (.invokespecial 73, 3) := dk_183 0 73 (dk_at dksX0_init_5 0 rfl rfl)
theorem dX0_init_121 : decode cX0_init 121 = .ok (.putfield 74, 3) := dk_181 0 74 (dk_at dksX0_init_5 3 rfl rfl)
theorem dX0_init_124 : decode cX0_init 124 = .ok (.aload_n 0, 1) := dk_42 (dk_at dksX0_init_5 6 rfl rfl)
theorem dX0_init_125 : decode cX0_init 125 = .ok (.iconst 4, 1) := dk_7 (dk_at dksX0_init_5 7 rfl rfl)
theorem dX0_init_126 : decode cX0_init 126 = .ok (.newarray .int, 2) := dk_188_10 (dk_at dksX0_init_5 8 rfl rfl)
theorem dX0_init_128 : decode cX0_init 128 = .ok (.dup, 1) := dk_89 (dk_at dksX0_init_5 10 rfl rfl)
theorem dX0_init_129 : decode cX0_init 129 = .ok (.iconst 0, 1) := dk_3 (dk_at dksX0_init_5 11 rfl rfl)
theorem dX0_init_130 : decode cX0_init 130 = .ok (.iconst 1, 1) := dk_4 (dk_at dksX0_init_5 12 rfl rfl)
theorem dX0_init_131 : decode cX0_init 131 = .ok (.iastore, 1) := dk_79 (dk_at dksX0_init_5 13 rfl rfl)
theorem dX0_init_132 : decode cX0_init 132 = .ok (.dup, 1) := dk_89 (dk_at dksX0_init_5 14 rfl rfl)
theorem dX0_init_133 : decode cX0_init 133 = .ok (.iconst 1, 1) := dk_4 (dk_at dksX0_init_5 15 rfl rfl)
theorem dX0_init_134 : decode cX0_init 134 = .ok (.iconst 1, 1) := dk_4 (dk_at dksX0_init_5 16 rfl rfl)
theorem dX0_init_135 : decode cX0_init 135 = .ok (.iastore, 1) := dk_79 (dk_at dksX0_init_5 17 rfl rfl)
theorem dX0_init_136 : decode cX0_init 136 = .ok (.dup, 1) := dk_89 (dk_at dksX0_init_5 18 rfl rfl)
theorem dX0_init_137 : decode cX0_init 137 = .ok (.iconst 2, 1) := dk_5 (dk_at dksX0_init_5 19 rfl rfl)
theorem dX0_init_138 : decode cX0_init 138 = .ok (.iconst 1, 1) := dk_4 (dk_at dksX0_init_5 20 rfl rfl)
theorem dX0_init_139 : decode cX0_init 139 = .ok (.iastore, 1) := dk_79 (dk_at dksX0_init_5 21 rfl rfl)
theorem dX0_init_140 : decode cX0_init 140 = .ok (.dup, 1) := dk_89 (dk_at dksX0_init_5 22 rfl rfl)
theorem dX0_init_141 : decode cX0_init 141 = .ok (.iconst 3, 1) := dk_6 (dk_at dksX0_init_5 23 rfl rfl)
theorem dX0_init_142 : decode cX0_init 142 = .ok (.iconst 1, 1) := dk_4 (dk_at dksX0_init_6 0 rfl rfl)
theorem dX0_init_143 : decode cX0_init 143 = .ok (.iastore, 1) := dk_79 (dk_at dksX0_init_6 1 rfl rfl)
theorem dX0_init_144 : decode cX0_init 144 = .ok (.putfield 78, 3) := dk_181 0 78 (dk_at dksX0_init_6 2 rfl rfl)
theorem dX0_init_147 : decode cX0_init 147 = .ok (.aload_n 0, 1) := dk_42 (dk_at dksX0_init_6 5 rfl rfl)
theorem dX0_init_148 : decode cX0_init 148 = .ok (.bipush 8, 2) := dk_16 8 (dk_at dksX0_init_6 6 rfl rfl)
theorem dX0_init_150 : decode cX0_init 150 = .ok (.newarray .int, 2) := dk_188_10 (dk_at dksX0_init_6 8 rfl rfl)
theorem dX0_init_152 : decode cX0_init 152 = .ok (.putfield 82, 3) := dk_181 0 82 (dk_at dksX0_init_6 10 rfl rfl)
theorem dX0_init_155 : decode cX0_init 155 = .ok (.aload_n 0, 1) := dk_42 (dk_at dksX0_init_6 13 rfl rfl)
theorem dX0_init_156 : decode cX0_init 156 = .ok (.getfield 20, 3) := dk_180 0 20 (dk_at dksX0_init_6 14 rfl rfl)
theorem dX0_init_159 : decode cX0_init 159 = .ok (.iconst 0, 1) := dk_3 (dk_at dksX0_init_6 17 rfl rfl)
theorem dX0_init_160 : decode cX0_init 160 = .ok (.new 18, 3) := dk_187 0 18 (dk_at dksX0_init_6 18 rfl rfl)
theorem dX0_init_163 : decode cX0_init 163 = .ok (.dup, 1) := dk_89 (dk_at dksX0_init_6 21 rfl rfl)
theorem dX0_init_164 : decode cX0_init 164 = .ok (.invokespecial 85, 3) := dk_183 0 85 (dk_at dksX0_init_7 0 rfl rfl)
theorem dX0_init_167 : decode cX0_init 167 = .ok (.aastore, 1) := dk_83 (dk_at dksX0_init_7 3 rfl rfl)
theorem dX0_init_168 : decode cX0_init 168 = .ok (.aload_n 0, 1) := dk_42 (dk_at dksX0_init_7 4 rfl rfl)
theorem dX0_init_169 : decode cX0_init 169 = .ok (.getfield 20, 3) := dk_180 0 20 (dk_at dksX0_init_7 5 rfl rfl)
theorem dX0_init_172 : decode cX0_init 172 = .ok (.iconst 1, 1) := dk_4 (dk_at dksX0_init_7 8 rfl rfl)
theorem dX0_init_173 : decode cX0_init 173 = .ok (.new 18, 3) := dk_187 0 18 (dk_at dksX0_init_7 9 rfl rfl)
theorem dX0_init_176 : decode cX0_init 176 = .ok (.dup, 1) := dk_89 (dk_at dksX0_init_7 12 rfl rfl)
theorem dX0_init_177 : decode cX0_init 177 = .ok (.invokespecial 85, 3) := dk_183 0 85 (dk_at dksX0_init_7 13 rfl rfl)
theorem dX0_init_180 : decode cX0_init 180 = .ok (.aastore, 1) := dk_83 (dk_at dksX0_init_7 16 rfl rfl)
theorem dX0_init_181 : decode cX0_init 181 = .ok (.return_, 1) := dk_177 (dk_at dksX0_init_7 17 rfl rfl)
abbrev cX0_slots : ByteArray := prog_1_method_5_code
def yX0_slots : MethodName := ⟨RX0, "slots", "(I)I"⟩
def dkwX0_slots_2 : List UInt8 := [181, 0, 15, 42, 3, 181, 0, 100, 28, 172]
abbrev dktX0_slots_2 : List UInt8 := dkwX0_slots_2 ++ []
def dkwX0_slots_1 : List UInt8 := [181, 0, 9, 42, 180, 0, 20, 3, 50, 182, 0, 97, 42, 180, 0, 20, 4, 50, 182, 0, 97, 42, 2]
abbrev dktX0_slots_1 : List UInt8 := dkwX0_slots_1 ++ dktX0_slots_2
def dkwX0_slots_0 : List UInt8 := [27, 133, 20, 0, 93, 20, 0, 95, 184, 0, 89, 154, 0, 6, 16, 253, 172, 42, 180, 0, 9, 61, 42, 27]
abbrev dktX0_slots_0 : List UInt8 := dkwX0_slots_0 ++ dktX0_slots_1
theorem dksX0_slots_0 : cX0_slots.data.toList.drop 0 = dktX0_slots_0 := by decide +kernel
theorem dksX0_slots_1 : cX0_slots.data.toList.drop 24 = dktX0_slots_1 := dk_seg dksX0_slots_0 24 rfl rfl
theorem dksX0_slots_2 : cX0_slots.data.toList.drop 47 = dktX0_slots_2 := dk_seg dksX0_slots_1 23 rfl rfl
theorem dX0_slots_0 : decode cX0_slots 0 = .ok (.iload_n 1, 1) := dk_27 (dk_at dksX0_slots_0 0 rfl rfl)
theorem dX0_slots_1 : decode cX0_slots 1 = .ok (.i2l, 1) := dk_133 (dk_at dksX0_slots_0 1 rfl rfl)
theorem dX0_slots_2 : decode cX0_slots 2 = .ok (.ldc2_w 93, 3) := dk_20 0 93 (dk_at dksX0_slots_0 2 rfl rfl)
theorem dX0_slots_5 : decode cX0_slots 5 = .ok (.ldc2_w 95, 3) := dk_20 0 95 (dk_at dksX0_slots_0 5 rfl rfl)
theorem dX0_slots_8 : decode cX0_slots 8 = .ok (.invokestatic 89, 3) := dk_184 0 89 (dk_at dksX0_slots_0 8 rfl rfl)
theorem dX0_slots_11 : decode cX0_slots 11 = .ok (.ifCond .ne 6, 3) := dk_154 0 6 (dk_at dksX0_slots_0 11 rfl rfl)
theorem dX0_slots_14 : decode cX0_slots 14 = .ok (.bipush (-3), 2) := dk_16 253 (dk_at dksX0_slots_0 14 rfl rfl)
theorem dX0_slots_16 : decode cX0_slots 16 = .ok (.ireturn, 1) := dk_172 (dk_at dksX0_slots_0 16 rfl rfl)
theorem dX0_slots_17 : decode cX0_slots 17 = .ok (.aload_n 0, 1) := dk_42 (dk_at dksX0_slots_0 17 rfl rfl)
theorem dX0_slots_18 : decode cX0_slots 18 = .ok (.getfield 9, 3) := dk_180 0 9 (dk_at dksX0_slots_0 18 rfl rfl)
theorem dX0_slots_21 : decode cX0_slots 21 = .ok (.istore_n 2, 1) := dk_61 (dk_at dksX0_slots_0 21 rfl rfl)
theorem dX0_slots_22 : decode cX0_slots 22 = .ok (.aload_n 0, 1) := dk_42 (dk_at dksX0_slots_0 22 rfl rfl)
theorem dX0_slots_23 : decode cX0_slots 23 = .ok (.iload_n 1, 1) := dk_27 (dk_at dksX0_slots_0 23 rfl rfl)
theorem dX0_slots_24 : decode cX0_slots 24 = .ok (.putfield 9, 3) := dk_181 0 9 (dk_at dksX0_slots_1 0 rfl rfl)
theorem dX0_slots_27 : decode cX0_slots 27 = .ok (.aload_n 0, 1) := dk_42 (dk_at dksX0_slots_1 3 rfl rfl)
theorem dX0_slots_28 : decode cX0_slots 28 = .ok (.getfield 20, 3) := dk_180 0 20 (dk_at dksX0_slots_1 4 rfl rfl)
theorem dX0_slots_31 : decode cX0_slots 31 = .ok (.iconst 0, 1) := dk_3 (dk_at dksX0_slots_1 7 rfl rfl)
theorem dX0_slots_32 : decode cX0_slots 32 = .ok (.aaload, 1) := dk_50 (dk_at dksX0_slots_1 8 rfl rfl)
theorem dX0_slots_33 : decode cX0_slots 33 = .ok (.invokevirtual 97, 3) := dk_182 0 97 (dk_at dksX0_slots_1 9 rfl rfl)
theorem dX0_slots_36 : decode cX0_slots 36 = .ok (.aload_n 0, 1) := dk_42 (dk_at dksX0_slots_1 12 rfl rfl)
theorem dX0_slots_37 : decode cX0_slots 37 = .ok (.getfield 20, 3) := dk_180 0 20 (dk_at dksX0_slots_1 13 rfl rfl)
theorem dX0_slots_40 : decode cX0_slots 40 = .ok (.iconst 1, 1) := dk_4 (dk_at dksX0_slots_1 16 rfl rfl)
theorem dX0_slots_41 : decode cX0_slots 41 = .ok (.aaload, 1) := dk_50 (dk_at dksX0_slots_1 17 rfl rfl)
theorem dX0_slots_42 : decode cX0_slots 42 = .ok (.invokevirtual 97, 3) := dk_182 0 97 (dk_at dksX0_slots_1 18 rfl rfl)
theorem dX0_slots_45 : decode cX0_slots 45 = .ok (.aload_n 0, 1) := dk_42 (dk_at dksX0_slots_1 21 rfl rfl)
theorem dX0_slots_46 : decode cX0_slots 46 = .ok (.iconst (-1), 1) := dk_2 (dk_at dksX0_slots_1 22 rfl rfl)
theorem dX0_slots_47 : decode cX0_slots 47 = .ok (.putfield 15, 3) := dk_181 0 15 (dk_at dksX0_slots_2 0 rfl rfl)
theorem dX0_slots_50 : decode cX0_slots 50 = .ok (.aload_n 0, 1) := dk_42 (dk_at dksX0_slots_2 3 rfl rfl)
theorem dX0_slots_51 : decode cX0_slots 51 = .ok (.iconst 0, 1) := dk_3 (dk_at dksX0_slots_2 4 rfl rfl)
theorem dX0_slots_52 : decode cX0_slots 52 = .ok (.putfield 100, 3) := dk_181 0 100 (dk_at dksX0_slots_2 5 rfl rfl)
theorem dX0_slots_55 : decode cX0_slots 55 = .ok (.iload_n 2, 1) := dk_28 (dk_at dksX0_slots_2 8 rfl rfl)
theorem dX0_slots_56 : decode cX0_slots 56 = .ok (.ireturn, 1) := dk_172 (dk_at dksX0_slots_2 9 rfl rfl)
abbrev cX0_isIn : ByteArray := prog_1_method_1_code
def yX0_isIn : MethodName := ⟨RX0, "isIn", "(JJJ)Z"⟩
def dkwX0_isIn_0 : List UInt8 := [30, 32, 148, 155, 0, 14, 30, 22, 4, 148, 157, 0, 7, 4, 167, 0, 4, 3, 172]
abbrev dktX0_isIn_0 : List UInt8 := dkwX0_isIn_0 ++ []
theorem dksX0_isIn_0 : cX0_isIn.data.toList.drop 0 = dktX0_isIn_0 := by decide +kernel
theorem dX0_isIn_0 : decode cX0_isIn 0 = .ok (.lload_n 0, 1) := dk_30 (dk_at dksX0_isIn_0 0 rfl rfl)
theorem dX0_isIn_1 : decode cX0_isIn 1 = .ok (.lload_n 2, 1) := dk_32 (dk_at dksX0_isIn_0 1 rfl rfl)
theorem dX0_isIn_2 : decode cX0_isIn 2 = .ok (.lcmp, 1) := dk_148 (dk_at dksX0_isIn_0 2 rfl rfl)
theorem dX0_isIn_3 : decode cX0_isIn 3 = .ok (.ifCond .lt 14, 3) := dk_155 0 14 (dk_at dksX0_isIn_0 3 rfl rfl)
theorem dX0_isIn_6 : decode cX0_isIn 6 = .ok (.lload_n 0, 1) := dk_30 (dk_at dksX0_isIn_0 6 rfl rfl)
theorem dX0_isIn_7 : decode cX0_isIn 7 = .ok (.lload 4, 2) := dk_22 4 (dk_at dksX0_isIn_0 7 rfl rfl)
theorem dX0_isIn_9 : decode cX0_isIn 9 = .ok (.lcmp, 1) := dk_148 (dk_at dksX0_isIn_0 9 rfl rfl)
theorem dX0_isIn_10 : decode cX0_isIn 10 = .ok (.ifCond .gt 7, 3) := dk_157 0 7 (dk_at dksX0_isIn_0 10 rfl rfl)
theorem dX0_isIn_13 : decode cX0_isIn 13 = .ok (.iconst 1, 1) := dk_4 (dk_at dksX0_isIn_0 13 rfl rfl)
theorem dX0_isIn_14 : decode cX0_isIn 14 = .ok (.goto 4, 3) := dk_167 0 4 (dk_at dksX0_isIn_0 14 rfl rfl)
theorem dX0_isIn_17 : decode cX0_isIn 17 = .ok (.iconst 0, 1) := dk_3 (dk_at dksX0_isIn_0 17 rfl rfl)
theorem dX0_isIn_18 : decode cX0_isIn 18 = .ok (.ireturn, 1) := dk_172 (dk_at dksX0_isIn_0 18 rfl rfl)
abbrev cX0_target : ByteArray := prog_1_method_6_code
def yX0_target : MethodName := ⟨RX0, "target", "(III)I"⟩
def dkwX0_target_3 : List UInt8 := [89, 180, 0, 86, 4, 96, 181, 0, 86, 42, 180, 0, 86, 4, 100, 172]
abbrev dktX0_target_3 : List UInt8 := dkwX0_target_3 ++ []
def dkwX0_target_2 : List UInt8 := [16, 251, 172, 42, 180, 0, 26, 42, 180, 0, 86, 187, 0, 24, 89, 42, 27, 28, 29, 183, 0, 109, 83, 42]
abbrev dktX0_target_2 : List UInt8 := dkwX0_target_2 ++ dktX0_target_3
def dkwX0_target_1 : List UInt8 := [29, 133, 9, 20, 0, 107, 184, 0, 89, 154, 0, 6, 16, 253, 172, 42, 180, 0, 86, 16, 8, 160, 0, 6]
abbrev dktX0_target_1 : List UInt8 := dkwX0_target_1 ++ dktX0_target_2
def dkwX0_target_0 : List UInt8 := [27, 133, 9, 20, 0, 103, 184, 0, 89, 153, 0, 27, 28, 133, 9, 20, 0, 105, 184, 0, 89, 153, 0, 15]
abbrev dktX0_target_0 : List UInt8 := dkwX0_target_0 ++ dktX0_target_1
theorem dksX0_target_0 : cX0_target.data.toList.drop 0 = dktX0_target_0 := by decide +kernel
theorem dksX0_target_1 : cX0_target.data.toList.drop 24 = dktX0_target_1 := dk_seg dksX0_target_0 24 rfl rfl
theorem dksX0_target_2 : cX0_target.data.toList.drop 48 = dktX0_target_2 := dk_seg dksX0_target_1 24 rfl rfl
theorem dksX0_target_3 : cX0_target.data.toList.drop 72 = dktX0_target_3 := dk_seg dksX0_target_2 24 rfl rfl
theorem dX0_target_0 : decode cX0_target 0 = .ok (.iload_n 1, 1) := dk_27 (dk_at dksX0_target_0 0 rfl rfl)
theorem dX0_target_1 : decode cX0_target 1 = .ok (.i2l, 1) := dk_133 (dk_at dksX0_target_0 1 rfl rfl)
theorem dX0_target_2 : decode cX0_target 2 = .ok (.lconst 0, 1) := dk_9 (dk_at dksX0_target_0 2 rfl rfl)
theorem dX0_target_3 : decode cX0_target 3 = .ok (.ldc2_w 103, 3) := dk_20 0 103 (dk_at dksX0_target_0 3 rfl rfl)
theorem dX0_target_6 : decode cX0_target 6 = .ok (.invokestatic 89, 3) := dk_184 0 89 (dk_at dksX0_target_0 6 rfl rfl)
theorem dX0_target_9 : decode cX0_target 9 = .ok (.ifCond .eq 27, 3) := dk_153 0 27 (dk_at dksX0_target_0 9 rfl rfl)
theorem dX0_target_12 : decode cX0_target 12 = .ok (.iload_n 2, 1) := dk_28 (dk_at dksX0_target_0 12 rfl rfl)
theorem dX0_target_13 : decode cX0_target 13 = .ok (.i2l, 1) := dk_133 (dk_at dksX0_target_0 13 rfl rfl)
theorem dX0_target_14 : decode cX0_target 14 = .ok (.lconst 0, 1) := dk_9 (dk_at dksX0_target_0 14 rfl rfl)
theorem dX0_target_15 : decode cX0_target 15 = .ok (.ldc2_w 105, 3) := dk_20 0 105 (dk_at dksX0_target_0 15 rfl rfl)
theorem dX0_target_18 : decode cX0_target 18 = .ok (.invokestatic 89, 3) := dk_184 0 89 (dk_at dksX0_target_0 18 rfl rfl)
theorem dX0_target_21 : decode cX0_target 21 = .ok (.ifCond .eq 15, 3) := dk_153 0 15 (dk_at dksX0_target_0 21 rfl rfl)
theorem dX0_target_24 : decode cX0_target 24 = .ok (.iload_n 3, 1) := dk_29 (dk_at dksX0_target_1 0 rfl rfl)
theorem dX0_target_25 : decode cX0_target 25 = .ok (.i2l, 1) := dk_133 (dk_at dksX0_target_1 1 rfl rfl)
theorem dX0_target_26 : decode cX0_target 26 = .ok (.lconst 0, 1) := dk_9 (dk_at dksX0_target_1 2 rfl rfl)
theorem dX0_target_27 : decode cX0_target 27 = .ok (.ldc2_w 107, 3) := dk_20 0 107 (dk_at dksX0_target_1 3 rfl rfl)
theorem dX0_target_30 : decode cX0_target 30 = .ok (.invokestatic 89, 3) := dk_184 0 89 (dk_at dksX0_target_1 6 rfl rfl)
theorem dX0_target_33 : decode cX0_target 33 = .ok (.ifCond .ne 6, 3) := dk_154 0 6 (dk_at dksX0_target_1 9 rfl rfl)
theorem dX0_target_36 : decode cX0_target 36 = .ok (.bipush (-3), 2) := dk_16 253 (dk_at dksX0_target_1 12 rfl rfl)
theorem dX0_target_38 : decode cX0_target 38 = .ok (.ireturn, 1) := dk_172 (dk_at dksX0_target_1 14 rfl rfl)
theorem dX0_target_39 : decode cX0_target 39 = .ok (.aload_n 0, 1) := dk_42 (dk_at dksX0_target_1 15 rfl rfl)
theorem dX0_target_40 : decode cX0_target 40 = .ok (.getfield 86, 3) := dk_180 0 86 (dk_at dksX0_target_1 16 rfl rfl)
theorem dX0_target_43 : decode cX0_target 43 = .ok (.bipush 8, 2) := dk_16 8 (dk_at dksX0_target_1 19 rfl rfl)
theorem dX0_target_45 : decode cX0_target 45 = .ok (.if_icmp .ne 6, 3) := dk_160 0 6 (dk_at dksX0_target_1 21 rfl rfl)
theorem dX0_target_48 : decode cX0_target 48 = .ok (.bipush (-5), 2) := dk_16 251 (dk_at dksX0_target_2 0 rfl rfl)
theorem dX0_target_50 : decode cX0_target 50 = .ok (.ireturn, 1) := dk_172 (dk_at dksX0_target_2 2 rfl rfl)
theorem dX0_target_51 : decode cX0_target 51 = .ok (.aload_n 0, 1) := dk_42 (dk_at dksX0_target_2 3 rfl rfl)
theorem dX0_target_52 : decode cX0_target 52 = .ok (.getfield 26, 3) := dk_180 0 26 (dk_at dksX0_target_2 4 rfl rfl)
theorem dX0_target_55 : decode cX0_target 55 = .ok (.aload_n 0, 1) := dk_42 (dk_at dksX0_target_2 7 rfl rfl)
theorem dX0_target_56 : decode cX0_target 56 = .ok (.getfield 86, 3) := dk_180 0 86 (dk_at dksX0_target_2 8 rfl rfl)
theorem dX0_target_59 : decode cX0_target 59 = .ok (.new 24, 3) := dk_187 0 24 (dk_at dksX0_target_2 11 rfl rfl)
theorem dX0_target_62 : decode cX0_target 62 = .ok (.dup, 1) := dk_89 (dk_at dksX0_target_2 14 rfl rfl)
theorem dX0_target_63 : decode cX0_target 63 = .ok (.aload_n 0, 1) := dk_42 (dk_at dksX0_target_2 15 rfl rfl)
theorem dX0_target_64 : decode cX0_target 64 = .ok (.iload_n 1, 1) := dk_27 (dk_at dksX0_target_2 16 rfl rfl)
theorem dX0_target_65 : decode cX0_target 65 = .ok (.iload_n 2, 1) := dk_28 (dk_at dksX0_target_2 17 rfl rfl)
theorem dX0_target_66 : decode cX0_target 66 = .ok (.iload_n 3, 1) := dk_29 (dk_at dksX0_target_2 18 rfl rfl)
theorem dX0_target_67 : decode cX0_target 67 = .ok (.invokespecial 109, 3) := dk_183 0 109 (dk_at dksX0_target_2 19 rfl rfl)
theorem dX0_target_70 : decode cX0_target 70 = .ok (.aastore, 1) := dk_83 (dk_at dksX0_target_2 22 rfl rfl)
theorem dX0_target_71 : decode cX0_target 71 = .ok (.aload_n 0, 1) := dk_42 (dk_at dksX0_target_2 23 rfl rfl)
theorem dX0_target_72 : decode cX0_target 72 = .ok (.dup, 1) := dk_89 (dk_at dksX0_target_3 0 rfl rfl)
theorem dX0_target_73 : decode cX0_target 73 = .ok (.getfield 86, 3) := dk_180 0 86 (dk_at dksX0_target_3 1 rfl rfl)
theorem dX0_target_76 : decode cX0_target 76 = .ok (.iconst 1, 1) := dk_4 (dk_at dksX0_target_3 4 rfl rfl)
theorem dX0_target_77 : decode cX0_target 77 = .ok (.iadd, 1) := dk_96 (dk_at dksX0_target_3 5 rfl rfl)
theorem dX0_target_78 : decode cX0_target 78 = .ok (.putfield 86, 3) := dk_181 0 86 (dk_at dksX0_target_3 6 rfl rfl)
theorem dX0_target_81 : decode cX0_target 81 = .ok (.aload_n 0, 1) := dk_42 (dk_at dksX0_target_3 9 rfl rfl)
theorem dX0_target_82 : decode cX0_target 82 = .ok (.getfield 86, 3) := dk_180 0 86 (dk_at dksX0_target_3 10 rfl rfl)
theorem dX0_target_85 : decode cX0_target 85 = .ok (.iconst 1, 1) := dk_4 (dk_at dksX0_target_3 13 rfl rfl)
theorem dX0_target_86 : decode cX0_target 86 = .ok (.isub, 1) := dk_100 (dk_at dksX0_target_3 14 rfl rfl)
theorem dX0_target_87 : decode cX0_target 87 = .ok (.ireturn, 1) := dk_172 (dk_at dksX0_target_3 15 rfl rfl)
abbrev cX0_air : ByteArray := prog_1_method_7_code
def yX0_air : MethodName := ⟨RX0, "air", "(II)I"⟩
def dkwX0_air_1 : List UInt8 := [50, 28, 182, 0, 119, 153, 0, 16, 42, 180, 0, 26, 27, 50, 28, 182, 0, 122, 167, 0, 4, 2, 172]
abbrev dktX0_air_1 : List UInt8 := dkwX0_air_1 ++ []
def dkwX0_air_0 : List UInt8 := [42, 27, 182, 0, 112, 153, 0, 11, 42, 28, 182, 0, 116, 154, 0, 6, 16, 254, 172, 42, 180, 0, 26, 27]
abbrev dktX0_air_0 : List UInt8 := dkwX0_air_0 ++ dktX0_air_1
theorem dksX0_air_0 : cX0_air.data.toList.drop 0 = dktX0_air_0 := by decide +kernel
theorem dksX0_air_1 : cX0_air.data.toList.drop 24 = dktX0_air_1 := dk_seg dksX0_air_0 24 rfl rfl
theorem dX0_air_0 : decode cX0_air 0 = .ok (.aload_n 0, 1) := dk_42 (dk_at dksX0_air_0 0 rfl rfl)
theorem dX0_air_1 : decode cX0_air 1 = .ok (.iload_n 1, 1) := dk_27 (dk_at dksX0_air_0 1 rfl rfl)
theorem dX0_air_2 : decode cX0_air 2 = .ok (.invokevirtual 112, 3) := dk_182 0 112 (dk_at dksX0_air_0 2 rfl rfl)
theorem dX0_air_5 : decode cX0_air 5 = .ok (.ifCond .eq 11, 3) := dk_153 0 11 (dk_at dksX0_air_0 5 rfl rfl)
theorem dX0_air_8 : decode cX0_air 8 = .ok (.aload_n 0, 1) := dk_42 (dk_at dksX0_air_0 8 rfl rfl)
theorem dX0_air_9 : decode cX0_air 9 = .ok (.iload_n 2, 1) := dk_28 (dk_at dksX0_air_0 9 rfl rfl)
theorem dX0_air_10 : decode cX0_air 10 = .ok (.invokevirtual 116, 3) := dk_182 0 116 (dk_at dksX0_air_0 10 rfl rfl)
theorem dX0_air_13 : decode cX0_air 13 = .ok (.ifCond .ne 6, 3) := dk_154 0 6 (dk_at dksX0_air_0 13 rfl rfl)
theorem dX0_air_16 : decode cX0_air 16 = .ok (.bipush (-2), 2) := dk_16 254 (dk_at dksX0_air_0 16 rfl rfl)
theorem dX0_air_18 : decode cX0_air 18 = .ok (.ireturn, 1) := dk_172 (dk_at dksX0_air_0 18 rfl rfl)
theorem dX0_air_19 : decode cX0_air 19 = .ok (.aload_n 0, 1) := dk_42 (dk_at dksX0_air_0 19 rfl rfl)
theorem dX0_air_20 : decode cX0_air 20 = .ok (.getfield 26, 3) := dk_180 0 26 (dk_at dksX0_air_0 20 rfl rfl)
theorem dX0_air_23 : decode cX0_air 23 = .ok (.iload_n 1, 1) := dk_27 (dk_at dksX0_air_0 23 rfl rfl)
theorem dX0_air_24 : decode cX0_air 24 = .ok (.aaload, 1) := dk_50 (dk_at dksX0_air_1 0 rfl rfl)
theorem dX0_air_25 : decode cX0_air 25 = .ok (.iload_n 2, 1) := dk_28 (dk_at dksX0_air_1 1 rfl rfl)
theorem dX0_air_26 : decode cX0_air 26 = .ok (.invokevirtual 119, 3) := dk_182 0 119 (dk_at dksX0_air_1 2 rfl rfl)
theorem dX0_air_29 : decode cX0_air 29 = .ok (.ifCond .eq 16, 3) := dk_153 0 16 (dk_at dksX0_air_1 5 rfl rfl)
theorem dX0_air_32 : decode cX0_air 32 = .ok (.aload_n 0, 1) := dk_42 (dk_at dksX0_air_1 8 rfl rfl)
theorem dX0_air_33 : decode cX0_air 33 = .ok (.getfield 26, 3) := dk_180 0 26 (dk_at dksX0_air_1 9 rfl rfl)
theorem dX0_air_36 : decode cX0_air 36 = .ok (.iload_n 1, 1) := dk_27 (dk_at dksX0_air_1 12 rfl rfl)
theorem dX0_air_37 : decode cX0_air 37 = .ok (.aaload, 1) := dk_50 (dk_at dksX0_air_1 13 rfl rfl)
theorem dX0_air_38 : decode cX0_air 38 = .ok (.iload_n 2, 1) := dk_28 (dk_at dksX0_air_1 14 rfl rfl)
theorem dX0_air_39 : decode cX0_air 39 = .ok (.invokevirtual 122, 3) := dk_182 0 122 (dk_at dksX0_air_1 15 rfl rfl)
theorem dX0_air_42 : decode cX0_air 42 = .ok (.goto 4, 3) := dk_167 0 4 (dk_at dksX0_air_1 18 rfl rfl)
theorem dX0_air_45 : decode cX0_air 45 = .ok (.iconst (-1), 1) := dk_2 (dk_at dksX0_air_1 21 rfl rfl)
theorem dX0_air_46 : decode cX0_air 46 = .ok (.ireturn, 1) := dk_172 (dk_at dksX0_air_1 22 rfl rfl)
abbrev cX0_isTarget : ByteArray := prog_1_method_3_code
def yX0_isTarget : MethodName := ⟨RX0, "isTarget", "(I)Z"⟩
def dkwX0_isTarget_0 : List UInt8 := [27, 133, 9, 42, 180, 0, 86, 4, 100, 133, 184, 0, 89, 172]
abbrev dktX0_isTarget_0 : List UInt8 := dkwX0_isTarget_0 ++ []
theorem dksX0_isTarget_0 : cX0_isTarget.data.toList.drop 0 = dktX0_isTarget_0 := by decide +kernel
theorem dX0_isTarget_0 : decode cX0_isTarget 0 = .ok (.iload_n 1, 1) := dk_27 (dk_at dksX0_isTarget_0 0 rfl rfl)
theorem dX0_isTarget_1 : decode cX0_isTarget 1 = .ok (.i2l, 1) := dk_133 (dk_at dksX0_isTarget_0 1 rfl rfl)
theorem dX0_isTarget_2 : decode cX0_isTarget 2 = .ok (.lconst 0, 1) := dk_9 (dk_at dksX0_isTarget_0 2 rfl rfl)
theorem dX0_isTarget_3 : decode cX0_isTarget 3 = .ok (.aload_n 0, 1) := dk_42 (dk_at dksX0_isTarget_0 3 rfl rfl)
theorem dX0_isTarget_4 : decode cX0_isTarget 4 = .ok (.getfield 86, 3) := dk_180 0 86 (dk_at dksX0_isTarget_0 4 rfl rfl)
theorem dX0_isTarget_7 : decode cX0_isTarget 7 = .ok (.iconst 1, 1) := dk_4 (dk_at dksX0_isTarget_0 7 rfl rfl)
theorem dX0_isTarget_8 : decode cX0_isTarget 8 = .ok (.isub, 1) := dk_100 (dk_at dksX0_isTarget_0 8 rfl rfl)
theorem dX0_isTarget_9 : decode cX0_isTarget 9 = .ok (.i2l, 1) := dk_133 (dk_at dksX0_isTarget_0 9 rfl rfl)
theorem dX0_isTarget_10 : decode cX0_isTarget 10 = .ok (.invokestatic 89, 3) := dk_184 0 89 (dk_at dksX0_isTarget_0 10 rfl rfl)
theorem dX0_isTarget_13 : decode cX0_isTarget 13 = .ok (.ireturn, 1) := dk_172 (dk_at dksX0_isTarget_0 13 rfl rfl)
abbrev cX0_isSlot : ByteArray := prog_1_method_4_code
def yX0_isSlot : MethodName := ⟨RX0, "isSlot", "(I)Z"⟩
def dkwX0_isSlot_0 : List UInt8 := [27, 133, 9, 42, 180, 0, 9, 4, 100, 133, 184, 0, 89, 172]
abbrev dktX0_isSlot_0 : List UInt8 := dkwX0_isSlot_0 ++ []
theorem dksX0_isSlot_0 : cX0_isSlot.data.toList.drop 0 = dktX0_isSlot_0 := by decide +kernel
theorem dX0_isSlot_0 : decode cX0_isSlot 0 = .ok (.iload_n 1, 1) := dk_27 (dk_at dksX0_isSlot_0 0 rfl rfl)
theorem dX0_isSlot_1 : decode cX0_isSlot 1 = .ok (.i2l, 1) := dk_133 (dk_at dksX0_isSlot_0 1 rfl rfl)
theorem dX0_isSlot_2 : decode cX0_isSlot 2 = .ok (.lconst 0, 1) := dk_9 (dk_at dksX0_isSlot_0 2 rfl rfl)
theorem dX0_isSlot_3 : decode cX0_isSlot 3 = .ok (.aload_n 0, 1) := dk_42 (dk_at dksX0_isSlot_0 3 rfl rfl)
theorem dX0_isSlot_4 : decode cX0_isSlot 4 = .ok (.getfield 9, 3) := dk_180 0 9 (dk_at dksX0_isSlot_0 4 rfl rfl)
theorem dX0_isSlot_7 : decode cX0_isSlot 7 = .ok (.iconst 1, 1) := dk_4 (dk_at dksX0_isSlot_0 7 rfl rfl)
theorem dX0_isSlot_8 : decode cX0_isSlot 8 = .ok (.isub, 1) := dk_100 (dk_at dksX0_isSlot_0 8 rfl rfl)
theorem dX0_isSlot_9 : decode cX0_isSlot 9 = .ok (.i2l, 1) := dk_133 (dk_at dksX0_isSlot_0 9 rfl rfl)
theorem dX0_isSlot_10 : decode cX0_isSlot 10 = .ok (.invokestatic 89, 3) := dk_184 0 89 (dk_at dksX0_isSlot_0 10 rfl rfl)
theorem dX0_isSlot_13 : decode cX0_isSlot 13 = .ok (.ireturn, 1) := dk_172 (dk_at dksX0_isSlot_0 13 rfl rfl)
abbrev cX0_moon : ByteArray := prog_1_method_8_code
def yX0_moon : MethodName := ⟨RX0, "moon", "(III)I"⟩
def dkwX0_moon_2 : List UInt8 := [181, 0, 126, 42, 29, 181, 0, 129, 4, 172]
abbrev dktX0_moon_2 : List UInt8 := dkwX0_moon_2 ++ []
def dkwX0_moon_1 : List UInt8 := [42, 180, 0, 9, 4, 100, 133, 184, 0, 89, 154, 0, 6, 16, 253, 172, 42, 27, 181, 0, 15, 42, 28]
abbrev dktX0_moon_1 : List UInt8 := dkwX0_moon_1 ++ dktX0_moon_2
def dkwX0_moon_0 : List UInt8 := [27, 133, 9, 20, 0, 107, 184, 0, 89, 153, 0, 28, 42, 28, 182, 0, 116, 153, 0, 20, 29, 133, 28, 133]
abbrev dktX0_moon_0 : List UInt8 := dkwX0_moon_0 ++ dktX0_moon_1
theorem dksX0_moon_0 : cX0_moon.data.toList.drop 0 = dktX0_moon_0 := by decide +kernel
theorem dksX0_moon_1 : cX0_moon.data.toList.drop 24 = dktX0_moon_1 := dk_seg dksX0_moon_0 24 rfl rfl
theorem dksX0_moon_2 : cX0_moon.data.toList.drop 47 = dktX0_moon_2 := dk_seg dksX0_moon_1 23 rfl rfl
theorem dX0_moon_0 : decode cX0_moon 0 = .ok (.iload_n 1, 1) := dk_27 (dk_at dksX0_moon_0 0 rfl rfl)
theorem dX0_moon_1 : decode cX0_moon 1 = .ok (.i2l, 1) := dk_133 (dk_at dksX0_moon_0 1 rfl rfl)
theorem dX0_moon_2 : decode cX0_moon 2 = .ok (.lconst 0, 1) := dk_9 (dk_at dksX0_moon_0 2 rfl rfl)
theorem dX0_moon_3 : decode cX0_moon 3 = .ok (.ldc2_w 107, 3) := dk_20 0 107 (dk_at dksX0_moon_0 3 rfl rfl)
theorem dX0_moon_6 : decode cX0_moon 6 = .ok (.invokestatic 89, 3) := dk_184 0 89 (dk_at dksX0_moon_0 6 rfl rfl)
theorem dX0_moon_9 : decode cX0_moon 9 = .ok (.ifCond .eq 28, 3) := dk_153 0 28 (dk_at dksX0_moon_0 9 rfl rfl)
theorem dX0_moon_12 : decode cX0_moon 12 = .ok (.aload_n 0, 1) := dk_42 (dk_at dksX0_moon_0 12 rfl rfl)
theorem dX0_moon_13 : decode cX0_moon 13 = .ok (.iload_n 2, 1) := dk_28 (dk_at dksX0_moon_0 13 rfl rfl)
theorem dX0_moon_14 : decode cX0_moon 14 = .ok (.invokevirtual 116, 3) := dk_182 0 116 (dk_at dksX0_moon_0 14 rfl rfl)
theorem dX0_moon_17 : decode cX0_moon 17 = .ok (.ifCond .eq 20, 3) := dk_153 0 20 (dk_at dksX0_moon_0 17 rfl rfl)
theorem dX0_moon_20 : decode cX0_moon 20 = .ok (.iload_n 3, 1) := dk_29 (dk_at dksX0_moon_0 20 rfl rfl)
theorem dX0_moon_21 : decode cX0_moon 21 = .ok (.i2l, 1) := dk_133 (dk_at dksX0_moon_0 21 rfl rfl)
theorem dX0_moon_22 : decode cX0_moon 22 = .ok (.iload_n 2, 1) := dk_28 (dk_at dksX0_moon_0 22 rfl rfl)
theorem dX0_moon_23 : decode cX0_moon 23 = .ok (.i2l, 1) := dk_133 (dk_at dksX0_moon_0 23 rfl rfl)
theorem dX0_moon_24 : decode cX0_moon 24 = .ok (.aload_n 0, 1) := dk_42 (dk_at dksX0_moon_1 0 rfl rfl)
theorem dX0_moon_25 : decode cX0_moon 25 = .ok (.getfield 9, 3) := dk_180 0 9 (dk_at dksX0_moon_1 1 rfl rfl)
theorem dX0_moon_28 : decode cX0_moon 28 = .ok (.iconst 1, 1) := dk_4 (dk_at dksX0_moon_1 4 rfl rfl)
theorem dX0_moon_29 : decode cX0_moon 29 = .ok (.isub, 1) := dk_100 (dk_at dksX0_moon_1 5 rfl rfl)
theorem dX0_moon_30 : decode cX0_moon 30 = .ok (.i2l, 1) := dk_133 (dk_at dksX0_moon_1 6 rfl rfl)
theorem dX0_moon_31 : decode cX0_moon 31 = .ok (.invokestatic 89, 3) := dk_184 0 89 (dk_at dksX0_moon_1 7 rfl rfl)
theorem dX0_moon_34 : decode cX0_moon 34 = .ok (.ifCond .ne 6, 3) := dk_154 0 6 (dk_at dksX0_moon_1 10 rfl rfl)
theorem dX0_moon_37 : decode cX0_moon 37 = .ok (.bipush (-3), 2) := dk_16 253 (dk_at dksX0_moon_1 13 rfl rfl)
theorem dX0_moon_39 : decode cX0_moon 39 = .ok (.ireturn, 1) := dk_172 (dk_at dksX0_moon_1 15 rfl rfl)
theorem dX0_moon_40 : decode cX0_moon 40 = .ok (.aload_n 0, 1) := dk_42 (dk_at dksX0_moon_1 16 rfl rfl)
theorem dX0_moon_41 : decode cX0_moon 41 = .ok (.iload_n 1, 1) := dk_27 (dk_at dksX0_moon_1 17 rfl rfl)
theorem dX0_moon_42 : decode cX0_moon 42 = .ok (.putfield 15, 3) := dk_181 0 15 (dk_at dksX0_moon_1 18 rfl rfl)
theorem dX0_moon_45 : decode cX0_moon 45 = .ok (.aload_n 0, 1) := dk_42 (dk_at dksX0_moon_1 21 rfl rfl)
theorem dX0_moon_46 : decode cX0_moon 46 = .ok (.iload_n 2, 1) := dk_28 (dk_at dksX0_moon_1 22 rfl rfl)
theorem dX0_moon_47 : decode cX0_moon 47 = .ok (.putfield 126, 3) := dk_181 0 126 (dk_at dksX0_moon_2 0 rfl rfl)
theorem dX0_moon_50 : decode cX0_moon 50 = .ok (.aload_n 0, 1) := dk_42 (dk_at dksX0_moon_2 3 rfl rfl)
theorem dX0_moon_51 : decode cX0_moon 51 = .ok (.iload_n 3, 1) := dk_29 (dk_at dksX0_moon_2 4 rfl rfl)
theorem dX0_moon_52 : decode cX0_moon 52 = .ok (.putfield 129, 3) := dk_181 0 129 (dk_at dksX0_moon_2 5 rfl rfl)
theorem dX0_moon_55 : decode cX0_moon 55 = .ok (.iconst 1, 1) := dk_4 (dk_at dksX0_moon_2 8 rfl rfl)
theorem dX0_moon_56 : decode cX0_moon 56 = .ok (.ireturn, 1) := dk_172 (dk_at dksX0_moon_2 9 rfl rfl)
abbrev cX0_seeing : ByteArray := prog_1_method_10_code
def yX0_seeing : MethodName := ⟨RX0, "seeing", "(III)I"⟩
def dkwX0_seeing_2 : List UInt8 := [54, 4, 42, 180, 0, 20, 27, 50, 180, 0, 135, 28, 29, 145, 84, 21, 4, 172]
abbrev dktX0_seeing_2 : List UInt8 := dkwX0_seeing_2 ++ []
def dkwX0_seeing_1 : List UInt8 := [20, 0, 93, 184, 0, 89, 154, 0, 6, 16, 253, 172, 42, 180, 0, 20, 27, 50, 180, 0, 135, 28, 51]
abbrev dktX0_seeing_1 : List UInt8 := dkwX0_seeing_1 ++ dktX0_seeing_2
def dkwX0_seeing_0 : List UInt8 := [42, 28, 182, 0, 116, 153, 0, 11, 42, 27, 182, 0, 132, 154, 0, 6, 16, 254, 172, 29, 133, 9]
abbrev dktX0_seeing_0 : List UInt8 := dkwX0_seeing_0 ++ dktX0_seeing_1
theorem dksX0_seeing_0 : cX0_seeing.data.toList.drop 0 = dktX0_seeing_0 := by decide +kernel
theorem dksX0_seeing_1 : cX0_seeing.data.toList.drop 22 = dktX0_seeing_1 := dk_seg dksX0_seeing_0 22 rfl rfl
theorem dksX0_seeing_2 : cX0_seeing.data.toList.drop 45 = dktX0_seeing_2 := dk_seg dksX0_seeing_1 23 rfl rfl
theorem dX0_seeing_0 : decode cX0_seeing 0 = .ok (.aload_n 0, 1) := dk_42 (dk_at dksX0_seeing_0 0 rfl rfl)
theorem dX0_seeing_1 : decode cX0_seeing 1 = .ok (.iload_n 2, 1) := dk_28 (dk_at dksX0_seeing_0 1 rfl rfl)
theorem dX0_seeing_2 : decode cX0_seeing 2 = .ok (.invokevirtual 116, 3) := dk_182 0 116 (dk_at dksX0_seeing_0 2 rfl rfl)
theorem dX0_seeing_5 : decode cX0_seeing 5 = .ok (.ifCond .eq 11, 3) := dk_153 0 11 (dk_at dksX0_seeing_0 5 rfl rfl)
theorem dX0_seeing_8 : decode cX0_seeing 8 = .ok (.aload_n 0, 1) := dk_42 (dk_at dksX0_seeing_0 8 rfl rfl)
theorem dX0_seeing_9 : decode cX0_seeing 9 = .ok (.iload_n 1, 1) := dk_27 (dk_at dksX0_seeing_0 9 rfl rfl)
theorem dX0_seeing_10 : decode cX0_seeing 10 = .ok (.invokevirtual 132, 3) := dk_182 0 132 (dk_at dksX0_seeing_0 10 rfl rfl)
theorem dX0_seeing_13 : decode cX0_seeing 13 = .ok (.ifCond .ne 6, 3) := dk_154 0 6 (dk_at dksX0_seeing_0 13 rfl rfl)
theorem dX0_seeing_16 : decode cX0_seeing 16 = .ok (.bipush (-2), 2) := dk_16 254 (dk_at dksX0_seeing_0 16 rfl rfl)
theorem dX0_seeing_18 : decode cX0_seeing 18 = .ok (.ireturn, 1) := dk_172 (dk_at dksX0_seeing_0 18 rfl rfl)
theorem dX0_seeing_19 : decode cX0_seeing 19 = .ok (.iload_n 3, 1) := dk_29 (dk_at dksX0_seeing_0 19 rfl rfl)
theorem dX0_seeing_20 : decode cX0_seeing 20 = .ok (.i2l, 1) := dk_133 (dk_at dksX0_seeing_0 20 rfl rfl)
theorem dX0_seeing_21 : decode cX0_seeing 21 = .ok (.lconst 0, 1) := dk_9 (dk_at dksX0_seeing_0 21 rfl rfl)
theorem dX0_seeing_22 : decode cX0_seeing 22 = .ok (.ldc2_w 93, 3) := dk_20 0 93 (dk_at dksX0_seeing_1 0 rfl rfl)
theorem dX0_seeing_25 : decode cX0_seeing 25 = .ok (.invokestatic 89, 3) := dk_184 0 89 (dk_at dksX0_seeing_1 3 rfl rfl)
theorem dX0_seeing_28 : decode cX0_seeing 28 = .ok (.ifCond .ne 6, 3) := dk_154 0 6 (dk_at dksX0_seeing_1 6 rfl rfl)
theorem dX0_seeing_31 : decode cX0_seeing 31 = .ok (.bipush (-3), 2) := dk_16 253 (dk_at dksX0_seeing_1 9 rfl rfl)
theorem dX0_seeing_33 : decode cX0_seeing 33 = .ok (.ireturn, 1) := dk_172 (dk_at dksX0_seeing_1 11 rfl rfl)
theorem dX0_seeing_34 : decode cX0_seeing 34 = .ok (.aload_n 0, 1) := dk_42 (dk_at dksX0_seeing_1 12 rfl rfl)
theorem dX0_seeing_35 : decode cX0_seeing 35 = .ok (.getfield 20, 3) := dk_180 0 20 (dk_at dksX0_seeing_1 13 rfl rfl)
theorem dX0_seeing_38 : decode cX0_seeing 38 = .ok (.iload_n 1, 1) := dk_27 (dk_at dksX0_seeing_1 16 rfl rfl)
theorem dX0_seeing_39 : decode cX0_seeing 39 = .ok (.aaload, 1) := dk_50 (dk_at dksX0_seeing_1 17 rfl rfl)
theorem dX0_seeing_40 : decode cX0_seeing 40 = .ok (.getfield 135, 3) := dk_180 0 135 (dk_at dksX0_seeing_1 18 rfl rfl)
theorem dX0_seeing_43 : decode cX0_seeing 43 = .ok (.iload_n 2, 1) := dk_28 (dk_at dksX0_seeing_1 21 rfl rfl)
theorem dX0_seeing_44 : decode cX0_seeing 44 = .ok (.baload, 1) := dk_51 (dk_at dksX0_seeing_1 22 rfl rfl)
theorem dX0_seeing_45 : decode cX0_seeing 45 = .ok (.istore 4, 2) := dk_54 4 (dk_at dksX0_seeing_2 0 rfl rfl)
theorem dX0_seeing_47 : decode cX0_seeing 47 = .ok (.aload_n 0, 1) := dk_42 (dk_at dksX0_seeing_2 2 rfl rfl)
theorem dX0_seeing_48 : decode cX0_seeing 48 = .ok (.getfield 20, 3) := dk_180 0 20 (dk_at dksX0_seeing_2 3 rfl rfl)
theorem dX0_seeing_51 : decode cX0_seeing 51 = .ok (.iload_n 1, 1) := dk_27 (dk_at dksX0_seeing_2 6 rfl rfl)
theorem dX0_seeing_52 : decode cX0_seeing 52 = .ok (.aaload, 1) := dk_50 (dk_at dksX0_seeing_2 7 rfl rfl)
theorem dX0_seeing_53 : decode cX0_seeing 53 = .ok (.getfield 135, 3) := dk_180 0 135 (dk_at dksX0_seeing_2 8 rfl rfl)
theorem dX0_seeing_56 : decode cX0_seeing 56 = .ok (.iload_n 2, 1) := dk_28 (dk_at dksX0_seeing_2 11 rfl rfl)
theorem dX0_seeing_57 : decode cX0_seeing 57 = .ok (.iload_n 3, 1) := dk_29 (dk_at dksX0_seeing_2 12 rfl rfl)
theorem dX0_seeing_58 : decode cX0_seeing 58 = .ok (.i2b, 1) := dk_145 (dk_at dksX0_seeing_2 13 rfl rfl)
theorem dX0_seeing_59 : decode cX0_seeing 59 = .ok (.bastore, 1) := dk_84 (dk_at dksX0_seeing_2 14 rfl rfl)
theorem dX0_seeing_60 : decode cX0_seeing 60 = .ok (.iload 4, 2) := dk_21 4 (dk_at dksX0_seeing_2 15 rfl rfl)
theorem dX0_seeing_62 : decode cX0_seeing 62 = .ok (.ireturn, 1) := dk_172 (dk_at dksX0_seeing_2 17 rfl rfl)
abbrev cX0_isSky : ByteArray := prog_1_method_9_code
def yX0_isSky : MethodName := ⟨RX0, "isSky", "(I)Z"⟩
def dkwX0_isSky_0 : List UInt8 := [27, 133, 9, 4, 42, 180, 0, 100, 96, 133, 184, 0, 89, 172]
abbrev dktX0_isSky_0 : List UInt8 := dkwX0_isSky_0 ++ []
theorem dksX0_isSky_0 : cX0_isSky.data.toList.drop 0 = dktX0_isSky_0 := by decide +kernel
theorem dX0_isSky_0 : decode cX0_isSky 0 = .ok (.iload_n 1, 1) := dk_27 (dk_at dksX0_isSky_0 0 rfl rfl)
theorem dX0_isSky_1 : decode cX0_isSky 1 = .ok (.i2l, 1) := dk_133 (dk_at dksX0_isSky_0 1 rfl rfl)
theorem dX0_isSky_2 : decode cX0_isSky 2 = .ok (.lconst 0, 1) := dk_9 (dk_at dksX0_isSky_0 2 rfl rfl)
theorem dX0_isSky_3 : decode cX0_isSky 3 = .ok (.iconst 1, 1) := dk_4 (dk_at dksX0_isSky_0 3 rfl rfl)
theorem dX0_isSky_4 : decode cX0_isSky 4 = .ok (.aload_n 0, 1) := dk_42 (dk_at dksX0_isSky_0 4 rfl rfl)
theorem dX0_isSky_5 : decode cX0_isSky 5 = .ok (.getfield 100, 3) := dk_180 0 100 (dk_at dksX0_isSky_0 5 rfl rfl)
theorem dX0_isSky_8 : decode cX0_isSky 8 = .ok (.iadd, 1) := dk_96 (dk_at dksX0_isSky_0 8 rfl rfl)
theorem dX0_isSky_9 : decode cX0_isSky 9 = .ok (.i2l, 1) := dk_133 (dk_at dksX0_isSky_0 9 rfl rfl)
theorem dX0_isSky_10 : decode cX0_isSky 10 = .ok (.invokestatic 89, 3) := dk_184 0 89 (dk_at dksX0_isSky_0 10 rfl rfl)
theorem dX0_isSky_13 : decode cX0_isSky 13 = .ok (.ireturn, 1) := dk_172 (dk_at dksX0_isSky_0 13 rfl rfl)
abbrev cX0_world : ByteArray := prog_1_method_11_code
def yX0_world : MethodName := ⟨RX0, "world", "(I)I"⟩
def dkwX0_world_2 : List UInt8 := [42, 89, 180, 0, 100, 4, 96, 181, 0, 100, 42, 180, 0, 100, 4, 100, 172]
abbrev dktX0_world_2 : List UInt8 := dkwX0_world_2 ++ []
def dkwX0_world_1 : List UInt8 := [16, 251, 172, 42, 180, 0, 20, 5, 42, 180, 0, 100, 96, 42, 180, 0, 20, 3, 50, 27, 182, 0, 140, 83]
abbrev dktX0_world_1 : List UInt8 := dkwX0_world_1 ++ dktX0_world_2
def dkwX0_world_0 : List UInt8 := [27, 133, 10, 20, 0, 138, 184, 0, 89, 154, 0, 6, 16, 253, 172, 42, 180, 0, 100, 7, 160, 0, 6]
abbrev dktX0_world_0 : List UInt8 := dkwX0_world_0 ++ dktX0_world_1
theorem dksX0_world_0 : cX0_world.data.toList.drop 0 = dktX0_world_0 := by decide +kernel
theorem dksX0_world_1 : cX0_world.data.toList.drop 23 = dktX0_world_1 := dk_seg dksX0_world_0 23 rfl rfl
theorem dksX0_world_2 : cX0_world.data.toList.drop 47 = dktX0_world_2 := dk_seg dksX0_world_1 24 rfl rfl
theorem dX0_world_0 : decode cX0_world 0 = .ok (.iload_n 1, 1) := dk_27 (dk_at dksX0_world_0 0 rfl rfl)
theorem dX0_world_1 : decode cX0_world 1 = .ok (.i2l, 1) := dk_133 (dk_at dksX0_world_0 1 rfl rfl)
theorem dX0_world_2 : decode cX0_world 2 = .ok (.lconst 1, 1) := dk_10 (dk_at dksX0_world_0 2 rfl rfl)
theorem dX0_world_3 : decode cX0_world 3 = .ok (.ldc2_w 138, 3) := dk_20 0 138 (dk_at dksX0_world_0 3 rfl rfl)
theorem dX0_world_6 : decode cX0_world 6 = .ok (.invokestatic 89, 3) := dk_184 0 89 (dk_at dksX0_world_0 6 rfl rfl)
theorem dX0_world_9 : decode cX0_world 9 = .ok (.ifCond .ne 6, 3) := dk_154 0 6 (dk_at dksX0_world_0 9 rfl rfl)
theorem dX0_world_12 : decode cX0_world 12 = .ok (.bipush (-3), 2) := dk_16 253 (dk_at dksX0_world_0 12 rfl rfl)
theorem dX0_world_14 : decode cX0_world 14 = .ok (.ireturn, 1) := dk_172 (dk_at dksX0_world_0 14 rfl rfl)
theorem dX0_world_15 : decode cX0_world 15 = .ok (.aload_n 0, 1) := dk_42 (dk_at dksX0_world_0 15 rfl rfl)
theorem dX0_world_16 : decode cX0_world 16 = .ok (.getfield 100, 3) := dk_180 0 100 (dk_at dksX0_world_0 16 rfl rfl)
theorem dX0_world_19 : decode cX0_world 19 = .ok (.iconst 4, 1) := dk_7 (dk_at dksX0_world_0 19 rfl rfl)
theorem dX0_world_20 : decode cX0_world 20 = .ok (.if_icmp .ne 6, 3) := dk_160 0 6 (dk_at dksX0_world_0 20 rfl rfl)
theorem dX0_world_23 : decode cX0_world 23 = .ok (.bipush (-5), 2) := dk_16 251 (dk_at dksX0_world_1 0 rfl rfl)
theorem dX0_world_25 : decode cX0_world 25 = .ok (.ireturn, 1) := dk_172 (dk_at dksX0_world_1 2 rfl rfl)
theorem dX0_world_26 : decode cX0_world 26 = .ok (.aload_n 0, 1) := dk_42 (dk_at dksX0_world_1 3 rfl rfl)
theorem dX0_world_27 : decode cX0_world 27 = .ok (.getfield 20, 3) := dk_180 0 20 (dk_at dksX0_world_1 4 rfl rfl)
theorem dX0_world_30 : decode cX0_world 30 = .ok (.iconst 2, 1) := dk_5 (dk_at dksX0_world_1 7 rfl rfl)
theorem dX0_world_31 : decode cX0_world 31 = .ok (.aload_n 0, 1) := dk_42 (dk_at dksX0_world_1 8 rfl rfl)
theorem dX0_world_32 : decode cX0_world 32 = .ok (.getfield 100, 3) := dk_180 0 100 (dk_at dksX0_world_1 9 rfl rfl)
theorem dX0_world_35 : decode cX0_world 35 = .ok (.iadd, 1) := dk_96 (dk_at dksX0_world_1 12 rfl rfl)
theorem dX0_world_36 : decode cX0_world 36 = .ok (.aload_n 0, 1) := dk_42 (dk_at dksX0_world_1 13 rfl rfl)
theorem dX0_world_37 : decode cX0_world 37 = .ok (.getfield 20, 3) := dk_180 0 20 (dk_at dksX0_world_1 14 rfl rfl)
theorem dX0_world_40 : decode cX0_world 40 = .ok (.iconst 0, 1) := dk_3 (dk_at dksX0_world_1 17 rfl rfl)
theorem dX0_world_41 : decode cX0_world 41 = .ok (.aaload, 1) := dk_50 (dk_at dksX0_world_1 18 rfl rfl)
theorem dX0_world_42 : decode cX0_world 42 = .ok (.iload_n 1, 1) := dk_27 (dk_at dksX0_world_1 19 rfl rfl)
theorem dX0_world_43 : decode cX0_world 43 = .ok (.invokevirtual 140, 3) := dk_182 0 140 (dk_at dksX0_world_1 20 rfl rfl)
theorem dX0_world_46 : decode cX0_world 46 = .ok (.aastore, 1) := dk_83 (dk_at dksX0_world_1 23 rfl rfl)
theorem dX0_world_47 : decode cX0_world 47 = .ok (.aload_n 0, 1) := dk_42 (dk_at dksX0_world_2 0 rfl rfl)
theorem dX0_world_48 : decode cX0_world 48 = .ok (.dup, 1) := dk_89 (dk_at dksX0_world_2 1 rfl rfl)
theorem dX0_world_49 : decode cX0_world 49 = .ok (.getfield 100, 3) := dk_180 0 100 (dk_at dksX0_world_2 2 rfl rfl)
theorem dX0_world_52 : decode cX0_world 52 = .ok (.iconst 1, 1) := dk_4 (dk_at dksX0_world_2 5 rfl rfl)
theorem dX0_world_53 : decode cX0_world 53 = .ok (.iadd, 1) := dk_96 (dk_at dksX0_world_2 6 rfl rfl)
theorem dX0_world_54 : decode cX0_world 54 = .ok (.putfield 100, 3) := dk_181 0 100 (dk_at dksX0_world_2 7 rfl rfl)
theorem dX0_world_57 : decode cX0_world 57 = .ok (.aload_n 0, 1) := dk_42 (dk_at dksX0_world_2 10 rfl rfl)
theorem dX0_world_58 : decode cX0_world 58 = .ok (.getfield 100, 3) := dk_180 0 100 (dk_at dksX0_world_2 11 rfl rfl)
theorem dX0_world_61 : decode cX0_world 61 = .ok (.iconst 1, 1) := dk_4 (dk_at dksX0_world_2 14 rfl rfl)
theorem dX0_world_62 : decode cX0_world 62 = .ok (.isub, 1) := dk_100 (dk_at dksX0_world_2 15 rfl rfl)
theorem dX0_world_63 : decode cX0_world 63 = .ok (.ireturn, 1) := dk_172 (dk_at dksX0_world_2 16 rfl rfl)
abbrev cX0_unworld : ByteArray := prog_1_method_12_code
def yX0_unworld : MethodName := ⟨RX0, "unworld", "()I"⟩
def dkwX0_unworld_0 : List UInt8 := [42, 180, 0, 100, 60, 42, 3, 181, 0, 100, 27, 172]
abbrev dktX0_unworld_0 : List UInt8 := dkwX0_unworld_0 ++ []
theorem dksX0_unworld_0 : cX0_unworld.data.toList.drop 0 = dktX0_unworld_0 := by decide +kernel
theorem dX0_unworld_0 : decode cX0_unworld 0 = .ok (.aload_n 0, 1) := dk_42 (dk_at dksX0_unworld_0 0 rfl rfl)
theorem dX0_unworld_1 : decode cX0_unworld 1 = .ok (.getfield 100, 3) := dk_180 0 100 (dk_at dksX0_unworld_0 1 rfl rfl)
theorem dX0_unworld_4 : decode cX0_unworld 4 = .ok (.istore_n 1, 1) := dk_60 (dk_at dksX0_unworld_0 4 rfl rfl)
theorem dX0_unworld_5 : decode cX0_unworld 5 = .ok (.aload_n 0, 1) := dk_42 (dk_at dksX0_unworld_0 5 rfl rfl)
theorem dX0_unworld_6 : decode cX0_unworld 6 = .ok (.iconst 0, 1) := dk_3 (dk_at dksX0_unworld_0 6 rfl rfl)
theorem dX0_unworld_7 : decode cX0_unworld 7 = .ok (.putfield 100, 3) := dk_181 0 100 (dk_at dksX0_unworld_0 7 rfl rfl)
theorem dX0_unworld_10 : decode cX0_unworld 10 = .ok (.iload_n 1, 1) := dk_27 (dk_at dksX0_unworld_0 10 rfl rfl)
theorem dX0_unworld_11 : decode cX0_unworld 11 = .ok (.ireturn, 1) := dk_172 (dk_at dksX0_unworld_0 11 rfl rfl)
abbrev cX0_write : ByteArray := prog_1_method_16_code
def yX0_write : MethodName := ⟨RX0, "write", "(JI)I"⟩
def dkwX0_write_3 : List UInt8 := [167, 255, 219, 42, 180, 0, 156, 172]
abbrev dktX0_write_3 : List UInt8 := dkwX0_write_3 ++ []
def dkwX0_write_2 : List UInt8 := [16, 8, 21, 4, 104, 123, 136, 145, 84, 42, 89, 180, 0, 156, 4, 96, 181, 0, 156, 132, 4, 1]
abbrev dktX0_write_2 : List UInt8 := dkwX0_write_2 ++ dktX0_write_3
def dkwX0_write_1 : List UInt8 := [164, 0, 6, 16, 251, 172, 3, 54, 4, 21, 4, 29, 162, 0, 37, 42, 180, 0, 36, 42, 180, 0, 156, 31]
abbrev dktX0_write_1 : List UInt8 := dkwX0_write_1 ++ dktX0_write_2
def dkwX0_write_0 : List UInt8 := [29, 133, 10, 20, 0, 105, 184, 0, 89, 154, 0, 6, 16, 253, 172, 42, 180, 0, 156, 29, 96, 17, 0, 160]
abbrev dktX0_write_0 : List UInt8 := dkwX0_write_0 ++ dktX0_write_1
theorem dksX0_write_0 : cX0_write.data.toList.drop 0 = dktX0_write_0 := by decide +kernel
theorem dksX0_write_1 : cX0_write.data.toList.drop 24 = dktX0_write_1 := dk_seg dksX0_write_0 24 rfl rfl
theorem dksX0_write_2 : cX0_write.data.toList.drop 48 = dktX0_write_2 := dk_seg dksX0_write_1 24 rfl rfl
theorem dksX0_write_3 : cX0_write.data.toList.drop 70 = dktX0_write_3 := dk_seg dksX0_write_2 22 rfl rfl
theorem dX0_write_0 : decode cX0_write 0 = .ok (.iload_n 3, 1) := dk_29 (dk_at dksX0_write_0 0 rfl rfl)
theorem dX0_write_1 : decode cX0_write 1 = .ok (.i2l, 1) := dk_133 (dk_at dksX0_write_0 1 rfl rfl)
theorem dX0_write_2 : decode cX0_write 2 = .ok (.lconst 1, 1) := dk_10 (dk_at dksX0_write_0 2 rfl rfl)
theorem dX0_write_3 : decode cX0_write 3 = .ok (.ldc2_w 105, 3) := dk_20 0 105 (dk_at dksX0_write_0 3 rfl rfl)
theorem dX0_write_6 : decode cX0_write 6 = .ok (.invokestatic 89, 3) := dk_184 0 89 (dk_at dksX0_write_0 6 rfl rfl)
theorem dX0_write_9 : decode cX0_write 9 = .ok (.ifCond .ne 6, 3) := dk_154 0 6 (dk_at dksX0_write_0 9 rfl rfl)
theorem dX0_write_12 : decode cX0_write 12 = .ok (.bipush (-3), 2) := dk_16 253 (dk_at dksX0_write_0 12 rfl rfl)
theorem dX0_write_14 : decode cX0_write 14 = .ok (.ireturn, 1) := dk_172 (dk_at dksX0_write_0 14 rfl rfl)
theorem dX0_write_15 : decode cX0_write 15 = .ok (.aload_n 0, 1) := dk_42 (dk_at dksX0_write_0 15 rfl rfl)
theorem dX0_write_16 : decode cX0_write 16 = .ok (.getfield 156, 3) := dk_180 0 156 (dk_at dksX0_write_0 16 rfl rfl)
theorem dX0_write_19 : decode cX0_write 19 = .ok (.iload_n 3, 1) := dk_29 (dk_at dksX0_write_0 19 rfl rfl)
theorem dX0_write_20 : decode cX0_write 20 = .ok (.iadd, 1) := dk_96 (dk_at dksX0_write_0 20 rfl rfl)
theorem dX0_write_21 : decode cX0_write 21 = .ok (.sipush 160, 3) := dk_17 0 160 (dk_at dksX0_write_0 21 rfl rfl)
theorem dX0_write_24 : decode cX0_write 24 = .ok (.if_icmp .le 6, 3) := dk_164 0 6 (dk_at dksX0_write_1 0 rfl rfl)
theorem dX0_write_27 : decode cX0_write 27 = .ok (.bipush (-5), 2) := dk_16 251 (dk_at dksX0_write_1 3 rfl rfl)
theorem dX0_write_29 : decode cX0_write 29 = .ok (.ireturn, 1) := dk_172 (dk_at dksX0_write_1 5 rfl rfl)
theorem dX0_write_30 : decode cX0_write 30 = .ok (.iconst 0, 1) := dk_3 (dk_at dksX0_write_1 6 rfl rfl)
theorem dX0_write_31 : decode cX0_write 31 = .ok (.istore 4, 2) := dk_54 4 (dk_at dksX0_write_1 7 rfl rfl)
theorem dX0_write_33 : decode cX0_write 33 = .ok (.iload 4, 2) := dk_21 4 (dk_at dksX0_write_1 9 rfl rfl)
theorem dX0_write_35 : decode cX0_write 35 = .ok (.iload_n 3, 1) := dk_29 (dk_at dksX0_write_1 11 rfl rfl)
theorem dX0_write_36 : decode cX0_write 36 = .ok (.if_icmp .ge 37, 3) := dk_162 0 37 (dk_at dksX0_write_1 12 rfl rfl)
theorem dX0_write_39 : decode cX0_write 39 = .ok (.aload_n 0, 1) := dk_42 (dk_at dksX0_write_1 15 rfl rfl)
theorem dX0_write_40 : decode cX0_write 40 = .ok (.getfield 36, 3) := dk_180 0 36 (dk_at dksX0_write_1 16 rfl rfl)
theorem dX0_write_43 : decode cX0_write 43 = .ok (.aload_n 0, 1) := dk_42 (dk_at dksX0_write_1 19 rfl rfl)
theorem dX0_write_44 : decode cX0_write 44 = .ok (.getfield 156, 3) := dk_180 0 156 (dk_at dksX0_write_1 20 rfl rfl)
theorem dX0_write_47 : decode cX0_write 47 = .ok (.lload_n 1, 1) := dk_31 (dk_at dksX0_write_1 23 rfl rfl)
theorem dX0_write_48 : decode cX0_write 48 = .ok (.bipush 8, 2) := dk_16 8 (dk_at dksX0_write_2 0 rfl rfl)
theorem dX0_write_50 : decode cX0_write 50 = .ok (.iload 4, 2) := dk_21 4 (dk_at dksX0_write_2 2 rfl rfl)
theorem dX0_write_52 : decode cX0_write 52 = .ok (.imul, 1) := dk_104 (dk_at dksX0_write_2 4 rfl rfl)
theorem dX0_write_53 : decode cX0_write 53 = .ok (.lshr, 1) := dk_123 (dk_at dksX0_write_2 5 rfl rfl)
theorem dX0_write_54 : decode cX0_write 54 = .ok (.l2i, 1) := dk_136 (dk_at dksX0_write_2 6 rfl rfl)
theorem dX0_write_55 : decode cX0_write 55 = .ok (.i2b, 1) := dk_145 (dk_at dksX0_write_2 7 rfl rfl)
theorem dX0_write_56 : decode cX0_write 56 = .ok (.bastore, 1) := dk_84 (dk_at dksX0_write_2 8 rfl rfl)
theorem dX0_write_57 : decode cX0_write 57 = .ok (.aload_n 0, 1) := dk_42 (dk_at dksX0_write_2 9 rfl rfl)
theorem dX0_write_58 : decode cX0_write 58 = .ok (.dup, 1) := dk_89 (dk_at dksX0_write_2 10 rfl rfl)
theorem dX0_write_59 : decode cX0_write 59 = .ok (.getfield 156, 3) := dk_180 0 156 (dk_at dksX0_write_2 11 rfl rfl)
theorem dX0_write_62 : decode cX0_write 62 = .ok (.iconst 1, 1) := dk_4 (dk_at dksX0_write_2 14 rfl rfl)
theorem dX0_write_63 : decode cX0_write 63 = .ok (.iadd, 1) := dk_96 (dk_at dksX0_write_2 15 rfl rfl)
theorem dX0_write_64 : decode cX0_write 64 = .ok (.putfield 156, 3) := dk_181 0 156 (dk_at dksX0_write_2 16 rfl rfl)
theorem dX0_write_67 : decode cX0_write 67 = .ok (.iinc 4 1, 3) := dk_132 4 1 (dk_at dksX0_write_2 19 rfl rfl)
theorem dX0_write_70 : decode cX0_write 70 = .ok (.goto (-37), 3) := dk_167 255 219 (dk_at dksX0_write_3 0 rfl rfl)
theorem dX0_write_73 : decode cX0_write 73 = .ok (.aload_n 0, 1) := dk_42 (dk_at dksX0_write_3 3 rfl rfl)
theorem dX0_write_74 : decode cX0_write 74 = .ok (.getfield 156, 3) := dk_180 0 156 (dk_at dksX0_write_3 4 rfl rfl)
theorem dX0_write_77 : decode cX0_write 77 = .ok (.ireturn, 1) := dk_172 (dk_at dksX0_write_3 7 rfl rfl)
abbrev cX0_erase : ByteArray := prog_1_method_17_code
def yX0_erase : MethodName := ⟨RX0, "erase", "()I"⟩
def dkwX0_erase_0 : List UInt8 := [42, 180, 0, 156, 60, 42, 3, 181, 0, 156, 27, 172]
abbrev dktX0_erase_0 : List UInt8 := dkwX0_erase_0 ++ []
theorem dksX0_erase_0 : cX0_erase.data.toList.drop 0 = dktX0_erase_0 := by decide +kernel
theorem dX0_erase_0 : decode cX0_erase 0 = .ok (.aload_n 0, 1) := dk_42 (dk_at dksX0_erase_0 0 rfl rfl)
theorem dX0_erase_1 : decode cX0_erase 1 = .ok (.getfield 156, 3) := dk_180 0 156 (dk_at dksX0_erase_0 1 rfl rfl)
theorem dX0_erase_4 : decode cX0_erase 4 = .ok (.istore_n 1, 1) := dk_60 (dk_at dksX0_erase_0 4 rfl rfl)
theorem dX0_erase_5 : decode cX0_erase 5 = .ok (.aload_n 0, 1) := dk_42 (dk_at dksX0_erase_0 5 rfl rfl)
theorem dX0_erase_6 : decode cX0_erase 6 = .ok (.iconst 0, 1) := dk_3 (dk_at dksX0_erase_0 6 rfl rfl)
theorem dX0_erase_7 : decode cX0_erase 7 = .ok (.putfield 156, 3) := dk_181 0 156 (dk_at dksX0_erase_0 7 rfl rfl)
theorem dX0_erase_10 : decode cX0_erase 10 = .ok (.iload_n 1, 1) := dk_27 (dk_at dksX0_erase_0 10 rfl rfl)
theorem dX0_erase_11 : decode cX0_erase 11 = .ok (.ireturn, 1) := dk_172 (dk_at dksX0_erase_0 11 rfl rfl)
abbrev cX0_fault : ByteArray := prog_1_method_19_code
def yX0_fault : MethodName := ⟨RX0, "fault", "()I"⟩
def dkwX0_fault_0 : List UInt8 := [42, 182, 0, 175, 87, 42, 180, 0, 162, 172]
abbrev dktX0_fault_0 : List UInt8 := dkwX0_fault_0 ++ []
theorem dksX0_fault_0 : cX0_fault.data.toList.drop 0 = dktX0_fault_0 := by decide +kernel
theorem dX0_fault_0 : decode cX0_fault 0 = .ok (.aload_n 0, 1) := dk_42 (dk_at dksX0_fault_0 0 rfl rfl)
theorem dX0_fault_1 : decode cX0_fault 1 = .ok (.invokevirtual 175, 3) := dk_182 0 175 (dk_at dksX0_fault_0 1 rfl rfl)
theorem dX0_fault_4 : decode cX0_fault 4 = .ok (.pop, 1) := dk_87 (dk_at dksX0_fault_0 4 rfl rfl)
theorem dX0_fault_5 : decode cX0_fault 5 = .ok (.aload_n 0, 1) := dk_42 (dk_at dksX0_fault_0 5 rfl rfl)
theorem dX0_fault_6 : decode cX0_fault 6 = .ok (.getfield 162, 3) := dk_180 0 162 (dk_at dksX0_fault_0 6 rfl rfl)
theorem dX0_fault_9 : decode cX0_fault 9 = .ok (.ireturn, 1) := dk_172 (dk_at dksX0_fault_0 9 rfl rfl)
abbrev cX0_readPlan : ByteArray := prog_1_method_18_code
def yX0_readPlan : MethodName := ⟨RX0, "readPlan", "()LSharedNights$Plan;"⟩
def dkwX0_readPlan_1 : List UInt8 := [181, 0, 159, 42, 43, 180, 0, 172, 181, 0, 162, 1, 176]
abbrev dktX0_readPlan_1 : List UInt8 := dkwX0_readPlan_1 ++ []
def dkwX0_readPlan_0 : List UInt8 := [42, 3, 181, 0, 159, 42, 2, 181, 0, 162, 42, 180, 0, 45, 182, 0, 165, 176, 76, 42, 43, 180, 0, 171]
abbrev dktX0_readPlan_0 : List UInt8 := dkwX0_readPlan_0 ++ dktX0_readPlan_1
theorem dksX0_readPlan_0 : cX0_readPlan.data.toList.drop 0 = dktX0_readPlan_0 := by decide +kernel
theorem dksX0_readPlan_1 : cX0_readPlan.data.toList.drop 24 = dktX0_readPlan_1 := dk_seg dksX0_readPlan_0 24 rfl rfl
theorem dX0_readPlan_0 : decode cX0_readPlan 0 = .ok (.aload_n 0, 1) := dk_42 (dk_at dksX0_readPlan_0 0 rfl rfl)
theorem dX0_readPlan_1 : decode cX0_readPlan 1 = .ok (.iconst 0, 1) := dk_3 (dk_at dksX0_readPlan_0 1 rfl rfl)
theorem dX0_readPlan_2 : decode cX0_readPlan 2 = .ok (.putfield 159, 3) := dk_181 0 159 (dk_at dksX0_readPlan_0 2 rfl rfl)
theorem dX0_readPlan_5 : decode cX0_readPlan 5 = .ok (.aload_n 0, 1) := dk_42 (dk_at dksX0_readPlan_0 5 rfl rfl)
theorem dX0_readPlan_6 : decode cX0_readPlan 6 = .ok (.iconst (-1), 1) := dk_2 (dk_at dksX0_readPlan_0 6 rfl rfl)
theorem dX0_readPlan_7 : decode cX0_readPlan 7 = .ok (.putfield 162, 3) := dk_181 0 162 (dk_at dksX0_readPlan_0 7 rfl rfl)
theorem dX0_readPlan_10 : decode cX0_readPlan 10 = .ok (.aload_n 0, 1) := dk_42 (dk_at dksX0_readPlan_0 10 rfl rfl)
theorem dX0_readPlan_11 : decode cX0_readPlan 11 = .ok (.getfield 45, 3) := dk_180 0 45 (dk_at dksX0_readPlan_0 11 rfl rfl)
theorem dX0_readPlan_14 : decode cX0_readPlan 14 = .ok (.invokevirtual 165, 3) := dk_182 0 165 (dk_at dksX0_readPlan_0 14 rfl rfl)
theorem dX0_readPlan_17 : decode cX0_readPlan 17 = .ok (.areturn, 1) := dk_176 (dk_at dksX0_readPlan_0 17 rfl rfl)
theorem dX0_readPlan_18 : decode cX0_readPlan 18 = .ok (.astore_n 1, 1) := dk_76 (dk_at dksX0_readPlan_0 18 rfl rfl)
theorem dX0_readPlan_19 : decode cX0_readPlan 19 = .ok (.aload_n 0, 1) := dk_42 (dk_at dksX0_readPlan_0 19 rfl rfl)
theorem dX0_readPlan_20 : decode cX0_readPlan 20 = .ok (.aload_n 1, 1) := dk_43 (dk_at dksX0_readPlan_0 20 rfl rfl)
theorem dX0_readPlan_21 : decode cX0_readPlan 21 = .ok (.getfield 171, 3) := dk_180 0 171 (dk_at dksX0_readPlan_0 21 rfl rfl)
theorem dX0_readPlan_24 : decode cX0_readPlan 24 = .ok (.putfield 159, 3) := dk_181 0 159 (dk_at dksX0_readPlan_1 0 rfl rfl)
theorem dX0_readPlan_27 : decode cX0_readPlan 27 = .ok (.aload_n 0, 1) := dk_42 (dk_at dksX0_readPlan_1 3 rfl rfl)
theorem dX0_readPlan_28 : decode cX0_readPlan 28 = .ok (.aload_n 1, 1) := dk_43 (dk_at dksX0_readPlan_1 4 rfl rfl)
theorem dX0_readPlan_29 : decode cX0_readPlan 29 = .ok (.getfield 172, 3) := dk_180 0 172 (dk_at dksX0_readPlan_1 5 rfl rfl)
theorem dX0_readPlan_32 : decode cX0_readPlan 32 = .ok (.putfield 162, 3) := dk_181 0 162 (dk_at dksX0_readPlan_1 8 rfl rfl)
theorem dX0_readPlan_35 : decode cX0_readPlan 35 = .ok (.aconst_null, 1) := dk_1 (dk_at dksX0_readPlan_1 11 rfl rfl)
theorem dX0_readPlan_36 : decode cX0_readPlan 36 = .ok (.areturn, 1) := dk_176 (dk_at dksX0_readPlan_1 12 rfl rfl)
abbrev cX0_stands : ByteArray := prog_1_method_20_code
def yX0_stands : MethodName := ⟨RX0, "stands", "()I"⟩
def dkwX0_stands_0 : List UInt8 := [42, 182, 0, 175, 87, 42, 180, 0, 159, 172]
abbrev dktX0_stands_0 : List UInt8 := dkwX0_stands_0 ++ []
theorem dksX0_stands_0 : cX0_stands.data.toList.drop 0 = dktX0_stands_0 := by decide +kernel
theorem dX0_stands_0 : decode cX0_stands 0 = .ok (.aload_n 0, 1) := dk_42 (dk_at dksX0_stands_0 0 rfl rfl)
theorem dX0_stands_1 : decode cX0_stands 1 = .ok (.invokevirtual 175, 3) := dk_182 0 175 (dk_at dksX0_stands_0 1 rfl rfl)
theorem dX0_stands_4 : decode cX0_stands 4 = .ok (.pop, 1) := dk_87 (dk_at dksX0_stands_0 4 rfl rfl)
theorem dX0_stands_5 : decode cX0_stands 5 = .ok (.aload_n 0, 1) := dk_42 (dk_at dksX0_stands_0 5 rfl rfl)
theorem dX0_stands_6 : decode cX0_stands 6 = .ok (.getfield 159, 3) := dk_180 0 159 (dk_at dksX0_stands_0 6 rfl rfl)
theorem dX0_stands_9 : decode cX0_stands 9 = .ok (.ireturn, 1) := dk_172 (dk_at dksX0_stands_0 9 rfl rfl)
abbrev cX0_plan : ByteArray := prog_1_method_21_code
def yX0_plan : MethodName := ⟨RX0, "plan", "()I"⟩
def dkwX0_plan_2 : List UInt8 := [42, 180, 0, 153, 4, 100, 172]
abbrev dktX0_plan_2 : List UInt8 := dkwX0_plan_2 ++ []
def dkwX0_plan_1 : List UInt8 := [180, 0, 32, 42, 180, 0, 153, 43, 83, 42, 89, 180, 0, 153, 4, 96, 181, 0, 153, 42, 3, 181, 0, 156]
abbrev dktX0_plan_1 : List UInt8 := dkwX0_plan_1 ++ dktX0_plan_2
def dkwX0_plan_0 : List UInt8 := [42, 182, 0, 175, 76, 43, 199, 0, 6, 16, 252, 172, 42, 180, 0, 153, 8, 160, 0, 6, 16, 251, 172, 42]
abbrev dktX0_plan_0 : List UInt8 := dkwX0_plan_0 ++ dktX0_plan_1
theorem dksX0_plan_0 : cX0_plan.data.toList.drop 0 = dktX0_plan_0 := by decide +kernel
theorem dksX0_plan_1 : cX0_plan.data.toList.drop 24 = dktX0_plan_1 := dk_seg dksX0_plan_0 24 rfl rfl
theorem dksX0_plan_2 : cX0_plan.data.toList.drop 48 = dktX0_plan_2 := dk_seg dksX0_plan_1 24 rfl rfl
theorem dX0_plan_0 : decode cX0_plan 0 = .ok (.aload_n 0, 1) := dk_42 (dk_at dksX0_plan_0 0 rfl rfl)
theorem dX0_plan_1 : decode cX0_plan 1 = .ok (.invokevirtual 175, 3) := dk_182 0 175 (dk_at dksX0_plan_0 1 rfl rfl)
theorem dX0_plan_4 : decode cX0_plan 4 = .ok (.astore_n 1, 1) := dk_76 (dk_at dksX0_plan_0 4 rfl rfl)
theorem dX0_plan_5 : decode cX0_plan 5 = .ok (.aload_n 1, 1) := dk_43 (dk_at dksX0_plan_0 5 rfl rfl)
theorem dX0_plan_6 : decode cX0_plan 6 = .ok (.ifnonnull 6, 3) := dk_199 0 6 (dk_at dksX0_plan_0 6 rfl rfl)
theorem dX0_plan_9 : decode cX0_plan 9 = .ok (.bipush (-4), 2) := dk_16 252 (dk_at dksX0_plan_0 9 rfl rfl)
theorem dX0_plan_11 : decode cX0_plan 11 = .ok (.ireturn, 1) := dk_172 (dk_at dksX0_plan_0 11 rfl rfl)
theorem dX0_plan_12 : decode cX0_plan 12 = .ok (.aload_n 0, 1) := dk_42 (dk_at dksX0_plan_0 12 rfl rfl)
theorem dX0_plan_13 : decode cX0_plan 13 = .ok (.getfield 153, 3) := dk_180 0 153 (dk_at dksX0_plan_0 13 rfl rfl)
theorem dX0_plan_16 : decode cX0_plan 16 = .ok (.iconst 5, 1) := dk_8 (dk_at dksX0_plan_0 16 rfl rfl)
theorem dX0_plan_17 : decode cX0_plan 17 = .ok (.if_icmp .ne 6, 3) := dk_160 0 6 (dk_at dksX0_plan_0 17 rfl rfl)
theorem dX0_plan_20 : decode cX0_plan 20 = .ok (.bipush (-5), 2) := dk_16 251 (dk_at dksX0_plan_0 20 rfl rfl)
theorem dX0_plan_22 : decode cX0_plan 22 = .ok (.ireturn, 1) := dk_172 (dk_at dksX0_plan_0 22 rfl rfl)
theorem dX0_plan_23 : decode cX0_plan 23 = .ok (.aload_n 0, 1) := dk_42 (dk_at dksX0_plan_0 23 rfl rfl)
theorem dX0_plan_24 : decode cX0_plan 24 = .ok (.getfield 32, 3) := dk_180 0 32 (dk_at dksX0_plan_1 0 rfl rfl)
theorem dX0_plan_27 : decode cX0_plan 27 = .ok (.aload_n 0, 1) := dk_42 (dk_at dksX0_plan_1 3 rfl rfl)
theorem dX0_plan_28 : decode cX0_plan 28 = .ok (.getfield 153, 3) := dk_180 0 153 (dk_at dksX0_plan_1 4 rfl rfl)
theorem dX0_plan_31 : decode cX0_plan 31 = .ok (.aload_n 1, 1) := dk_43 (dk_at dksX0_plan_1 7 rfl rfl)
theorem dX0_plan_32 : decode cX0_plan 32 = .ok (.aastore, 1) := dk_83 (dk_at dksX0_plan_1 8 rfl rfl)
theorem dX0_plan_33 : decode cX0_plan 33 = .ok (.aload_n 0, 1) := dk_42 (dk_at dksX0_plan_1 9 rfl rfl)
theorem dX0_plan_34 : decode cX0_plan 34 = .ok (.dup, 1) := dk_89 (dk_at dksX0_plan_1 10 rfl rfl)
theorem dX0_plan_35 : decode cX0_plan 35 = .ok (.getfield 153, 3) := dk_180 0 153 (dk_at dksX0_plan_1 11 rfl rfl)
theorem dX0_plan_38 : decode cX0_plan 38 = .ok (.iconst 1, 1) := dk_4 (dk_at dksX0_plan_1 14 rfl rfl)
theorem dX0_plan_39 : decode cX0_plan 39 = .ok (.iadd, 1) := dk_96 (dk_at dksX0_plan_1 15 rfl rfl)
theorem dX0_plan_40 : decode cX0_plan 40 = .ok (.putfield 153, 3) := dk_181 0 153 (dk_at dksX0_plan_1 16 rfl rfl)
theorem dX0_plan_43 : decode cX0_plan 43 = .ok (.aload_n 0, 1) := dk_42 (dk_at dksX0_plan_1 19 rfl rfl)
theorem dX0_plan_44 : decode cX0_plan 44 = .ok (.iconst 0, 1) := dk_3 (dk_at dksX0_plan_1 20 rfl rfl)
theorem dX0_plan_45 : decode cX0_plan 45 = .ok (.putfield 156, 3) := dk_181 0 156 (dk_at dksX0_plan_1 21 rfl rfl)
theorem dX0_plan_48 : decode cX0_plan 48 = .ok (.aload_n 0, 1) := dk_42 (dk_at dksX0_plan_2 0 rfl rfl)
theorem dX0_plan_49 : decode cX0_plan 49 = .ok (.getfield 153, 3) := dk_180 0 153 (dk_at dksX0_plan_2 1 rfl rfl)
theorem dX0_plan_52 : decode cX0_plan 52 = .ok (.iconst 1, 1) := dk_4 (dk_at dksX0_plan_2 4 rfl rfl)
theorem dX0_plan_53 : decode cX0_plan 53 = .ok (.isub, 1) := dk_100 (dk_at dksX0_plan_2 5 rfl rfl)
theorem dX0_plan_54 : decode cX0_plan 54 = .ok (.ireturn, 1) := dk_172 (dk_at dksX0_plan_2 6 rfl rfl)
abbrev cX0_drop : ByteArray := prog_1_method_23_code
def yX0_drop : MethodName := ⟨RX0, "drop", "(I)I"⟩
def dkwX0_drop_0 : List UInt8 := [42, 27, 182, 0, 178, 154, 0, 6, 16, 254, 172, 42, 27, 182, 0, 181, 4, 172]
abbrev dktX0_drop_0 : List UInt8 := dkwX0_drop_0 ++ []
theorem dksX0_drop_0 : cX0_drop.data.toList.drop 0 = dktX0_drop_0 := by decide +kernel
theorem dX0_drop_0 : decode cX0_drop 0 = .ok (.aload_n 0, 1) := dk_42 (dk_at dksX0_drop_0 0 rfl rfl)
theorem dX0_drop_1 : decode cX0_drop 1 = .ok (.iload_n 1, 1) := dk_27 (dk_at dksX0_drop_0 1 rfl rfl)
theorem dX0_drop_2 : decode cX0_drop 2 = .ok (.invokevirtual 178, 3) := dk_182 0 178 (dk_at dksX0_drop_0 2 rfl rfl)
theorem dX0_drop_5 : decode cX0_drop 5 = .ok (.ifCond .ne 6, 3) := dk_154 0 6 (dk_at dksX0_drop_0 5 rfl rfl)
theorem dX0_drop_8 : decode cX0_drop 8 = .ok (.bipush (-2), 2) := dk_16 254 (dk_at dksX0_drop_0 8 rfl rfl)
theorem dX0_drop_10 : decode cX0_drop 10 = .ok (.ireturn, 1) := dk_172 (dk_at dksX0_drop_0 10 rfl rfl)
theorem dX0_drop_11 : decode cX0_drop 11 = .ok (.aload_n 0, 1) := dk_42 (dk_at dksX0_drop_0 11 rfl rfl)
theorem dX0_drop_12 : decode cX0_drop 12 = .ok (.iload_n 1, 1) := dk_27 (dk_at dksX0_drop_0 12 rfl rfl)
theorem dX0_drop_13 : decode cX0_drop 13 = .ok (.invokevirtual 181, 3) := dk_182 0 181 (dk_at dksX0_drop_0 13 rfl rfl)
theorem dX0_drop_16 : decode cX0_drop 16 = .ok (.iconst 1, 1) := dk_4 (dk_at dksX0_drop_0 16 rfl rfl)
theorem dX0_drop_17 : decode cX0_drop 17 = .ok (.ireturn, 1) := dk_172 (dk_at dksX0_drop_0 17 rfl rfl)
abbrev cX0_isPlan : ByteArray := prog_1_method_15_code
def yX0_isPlan : MethodName := ⟨RX0, "isPlan", "(I)Z"⟩
def dkwX0_isPlan_0 : List UInt8 := [27, 133, 9, 42, 180, 0, 153, 4, 100, 133, 184, 0, 89, 172]
abbrev dktX0_isPlan_0 : List UInt8 := dkwX0_isPlan_0 ++ []
theorem dksX0_isPlan_0 : cX0_isPlan.data.toList.drop 0 = dktX0_isPlan_0 := by decide +kernel
theorem dX0_isPlan_0 : decode cX0_isPlan 0 = .ok (.iload_n 1, 1) := dk_27 (dk_at dksX0_isPlan_0 0 rfl rfl)
theorem dX0_isPlan_1 : decode cX0_isPlan 1 = .ok (.i2l, 1) := dk_133 (dk_at dksX0_isPlan_0 1 rfl rfl)
theorem dX0_isPlan_2 : decode cX0_isPlan 2 = .ok (.lconst 0, 1) := dk_9 (dk_at dksX0_isPlan_0 2 rfl rfl)
theorem dX0_isPlan_3 : decode cX0_isPlan 3 = .ok (.aload_n 0, 1) := dk_42 (dk_at dksX0_isPlan_0 3 rfl rfl)
theorem dX0_isPlan_4 : decode cX0_isPlan 4 = .ok (.getfield 153, 3) := dk_180 0 153 (dk_at dksX0_isPlan_0 4 rfl rfl)
theorem dX0_isPlan_7 : decode cX0_isPlan 7 = .ok (.iconst 1, 1) := dk_4 (dk_at dksX0_isPlan_0 7 rfl rfl)
theorem dX0_isPlan_8 : decode cX0_isPlan 8 = .ok (.isub, 1) := dk_100 (dk_at dksX0_isPlan_0 8 rfl rfl)
theorem dX0_isPlan_9 : decode cX0_isPlan 9 = .ok (.i2l, 1) := dk_133 (dk_at dksX0_isPlan_0 9 rfl rfl)
theorem dX0_isPlan_10 : decode cX0_isPlan 10 = .ok (.invokestatic 89, 3) := dk_184 0 89 (dk_at dksX0_isPlan_0 10 rfl rfl)
theorem dX0_isPlan_13 : decode cX0_isPlan 13 = .ok (.ireturn, 1) := dk_172 (dk_at dksX0_isPlan_0 13 rfl rfl)
abbrev cX0_remove : ByteArray := prog_1_method_22_code
def yX0_remove : MethodName := ⟨RX0, "remove", "(I)V"⟩
def dkwX0_remove_1 : List UInt8 := [28, 42, 180, 0, 32, 28, 4, 96, 50, 83, 132, 2, 1, 167, 255, 231, 177]
abbrev dktX0_remove_1 : List UInt8 := dkwX0_remove_1 ++ []
def dkwX0_remove_0 : List UInt8 := [42, 89, 180, 0, 153, 4, 100, 181, 0, 153, 27, 61, 28, 42, 180, 0, 153, 162, 0, 23, 42, 180, 0, 32]
abbrev dktX0_remove_0 : List UInt8 := dkwX0_remove_0 ++ dktX0_remove_1
theorem dksX0_remove_0 : cX0_remove.data.toList.drop 0 = dktX0_remove_0 := by decide +kernel
theorem dksX0_remove_1 : cX0_remove.data.toList.drop 24 = dktX0_remove_1 := dk_seg dksX0_remove_0 24 rfl rfl
theorem dX0_remove_0 : decode cX0_remove 0 = .ok (.aload_n 0, 1) := dk_42 (dk_at dksX0_remove_0 0 rfl rfl)
theorem dX0_remove_1 : decode cX0_remove 1 = .ok (.dup, 1) := dk_89 (dk_at dksX0_remove_0 1 rfl rfl)
theorem dX0_remove_2 : decode cX0_remove 2 = .ok (.getfield 153, 3) := dk_180 0 153 (dk_at dksX0_remove_0 2 rfl rfl)
theorem dX0_remove_5 : decode cX0_remove 5 = .ok (.iconst 1, 1) := dk_4 (dk_at dksX0_remove_0 5 rfl rfl)
theorem dX0_remove_6 : decode cX0_remove 6 = .ok (.isub, 1) := dk_100 (dk_at dksX0_remove_0 6 rfl rfl)
theorem dX0_remove_7 : decode cX0_remove 7 = .ok (.putfield 153, 3) := dk_181 0 153 (dk_at dksX0_remove_0 7 rfl rfl)
theorem dX0_remove_10 : decode cX0_remove 10 = .ok (.iload_n 1, 1) := dk_27 (dk_at dksX0_remove_0 10 rfl rfl)
theorem dX0_remove_11 : decode cX0_remove 11 = .ok (.istore_n 2, 1) := dk_61 (dk_at dksX0_remove_0 11 rfl rfl)
theorem dX0_remove_12 : decode cX0_remove 12 = .ok (.iload_n 2, 1) := dk_28 (dk_at dksX0_remove_0 12 rfl rfl)
theorem dX0_remove_13 : decode cX0_remove 13 = .ok (.aload_n 0, 1) := dk_42 (dk_at dksX0_remove_0 13 rfl rfl)
theorem dX0_remove_14 : decode cX0_remove 14 = .ok (.getfield 153, 3) := dk_180 0 153 (dk_at dksX0_remove_0 14 rfl rfl)
theorem dX0_remove_17 : decode cX0_remove 17 = .ok (.if_icmp .ge 23, 3) := dk_162 0 23 (dk_at dksX0_remove_0 17 rfl rfl)
theorem dX0_remove_20 : decode cX0_remove 20 = .ok (.aload_n 0, 1) := dk_42 (dk_at dksX0_remove_0 20 rfl rfl)
theorem dX0_remove_21 : decode cX0_remove 21 = .ok (.getfield 32, 3) := dk_180 0 32 (dk_at dksX0_remove_0 21 rfl rfl)
theorem dX0_remove_24 : decode cX0_remove 24 = .ok (.iload_n 2, 1) := dk_28 (dk_at dksX0_remove_1 0 rfl rfl)
theorem dX0_remove_25 : decode cX0_remove 25 = .ok (.aload_n 0, 1) := dk_42 (dk_at dksX0_remove_1 1 rfl rfl)
theorem dX0_remove_26 : decode cX0_remove 26 = .ok (.getfield 32, 3) := dk_180 0 32 (dk_at dksX0_remove_1 2 rfl rfl)
theorem dX0_remove_29 : decode cX0_remove 29 = .ok (.iload_n 2, 1) := dk_28 (dk_at dksX0_remove_1 5 rfl rfl)
theorem dX0_remove_30 : decode cX0_remove 30 = .ok (.iconst 1, 1) := dk_4 (dk_at dksX0_remove_1 6 rfl rfl)
theorem dX0_remove_31 : decode cX0_remove 31 = .ok (.iadd, 1) := dk_96 (dk_at dksX0_remove_1 7 rfl rfl)
theorem dX0_remove_32 : decode cX0_remove 32 = .ok (.aaload, 1) := dk_50 (dk_at dksX0_remove_1 8 rfl rfl)
theorem dX0_remove_33 : decode cX0_remove 33 = .ok (.aastore, 1) := dk_83 (dk_at dksX0_remove_1 9 rfl rfl)
theorem dX0_remove_34 : decode cX0_remove 34 = .ok (.iinc 2 1, 3) := dk_132 2 1 (dk_at dksX0_remove_1 10 rfl rfl)
theorem dX0_remove_37 : decode cX0_remove 37 = .ok (.goto (-25), 3) := dk_167 255 231 (dk_at dksX0_remove_1 13 rfl rfl)
theorem dX0_remove_40 : decode cX0_remove 40 = .ok (.return_, 1) := dk_177 (dk_at dksX0_remove_1 16 rfl rfl)
abbrev cX0_told : ByteArray := prog_1_method_24_code
def yX0_told : MethodName := ⟨RX0, "told", "(II)I"⟩
def dkwX0_told_0 : List UInt8 := [42, 27, 182, 0, 178, 153, 0, 16, 42, 180, 0, 32, 27, 50, 28, 182, 0, 185, 167, 0, 5, 16, 254, 172]
abbrev dktX0_told_0 : List UInt8 := dkwX0_told_0 ++ []
theorem dksX0_told_0 : cX0_told.data.toList.drop 0 = dktX0_told_0 := by decide +kernel
theorem dX0_told_0 : decode cX0_told 0 = .ok (.aload_n 0, 1) := dk_42 (dk_at dksX0_told_0 0 rfl rfl)
theorem dX0_told_1 : decode cX0_told 1 = .ok (.iload_n 1, 1) := dk_27 (dk_at dksX0_told_0 1 rfl rfl)
theorem dX0_told_2 : decode cX0_told 2 = .ok (.invokevirtual 178, 3) := dk_182 0 178 (dk_at dksX0_told_0 2 rfl rfl)
theorem dX0_told_5 : decode cX0_told 5 = .ok (.ifCond .eq 16, 3) := dk_153 0 16 (dk_at dksX0_told_0 5 rfl rfl)
theorem dX0_told_8 : decode cX0_told 8 = .ok (.aload_n 0, 1) := dk_42 (dk_at dksX0_told_0 8 rfl rfl)
theorem dX0_told_9 : decode cX0_told 9 = .ok (.getfield 32, 3) := dk_180 0 32 (dk_at dksX0_told_0 9 rfl rfl)
theorem dX0_told_12 : decode cX0_told 12 = .ok (.iload_n 1, 1) := dk_27 (dk_at dksX0_told_0 12 rfl rfl)
theorem dX0_told_13 : decode cX0_told 13 = .ok (.aaload, 1) := dk_50 (dk_at dksX0_told_0 13 rfl rfl)
theorem dX0_told_14 : decode cX0_told 14 = .ok (.iload_n 2, 1) := dk_28 (dk_at dksX0_told_0 14 rfl rfl)
theorem dX0_told_15 : decode cX0_told 15 = .ok (.invokevirtual 185, 3) := dk_182 0 185 (dk_at dksX0_told_0 15 rfl rfl)
theorem dX0_told_18 : decode cX0_told 18 = .ok (.goto 5, 3) := dk_167 0 5 (dk_at dksX0_told_0 18 rfl rfl)
theorem dX0_told_21 : decode cX0_told 21 = .ok (.bipush (-2), 2) := dk_16 254 (dk_at dksX0_told_0 21 rfl rfl)
theorem dX0_told_23 : decode cX0_told 23 = .ok (.ireturn, 1) := dk_172 (dk_at dksX0_told_0 23 rfl rfl)
abbrev cX0_worth : ByteArray := prog_1_method_25_code
def yX0_worth : MethodName := ⟨RX0, "worth", "(II)I"⟩
def dkwX0_worth_2 : List UInt8 := [172]
abbrev dktX0_worth_2 : List UInt8 := dkwX0_worth_2 ++ []
def dkwX0_worth_1 : List UInt8 := [16, 253, 172, 42, 180, 0, 32, 27, 50, 180, 0, 190, 62, 42, 180, 0, 32, 27, 50, 28, 181, 0, 190, 29]
abbrev dktX0_worth_1 : List UInt8 := dkwX0_worth_1 ++ dktX0_worth_2
def dkwX0_worth_0 : List UInt8 := [42, 27, 182, 0, 178, 154, 0, 6, 16, 254, 172, 28, 133, 10, 20, 0, 188, 184, 0, 89, 154, 0, 6]
abbrev dktX0_worth_0 : List UInt8 := dkwX0_worth_0 ++ dktX0_worth_1
theorem dksX0_worth_0 : cX0_worth.data.toList.drop 0 = dktX0_worth_0 := by decide +kernel
theorem dksX0_worth_1 : cX0_worth.data.toList.drop 23 = dktX0_worth_1 := dk_seg dksX0_worth_0 23 rfl rfl
theorem dksX0_worth_2 : cX0_worth.data.toList.drop 47 = dktX0_worth_2 := dk_seg dksX0_worth_1 24 rfl rfl
theorem dX0_worth_0 : decode cX0_worth 0 = .ok (.aload_n 0, 1) := dk_42 (dk_at dksX0_worth_0 0 rfl rfl)
theorem dX0_worth_1 : decode cX0_worth 1 = .ok (.iload_n 1, 1) := dk_27 (dk_at dksX0_worth_0 1 rfl rfl)
theorem dX0_worth_2 : decode cX0_worth 2 = .ok (.invokevirtual 178, 3) := dk_182 0 178 (dk_at dksX0_worth_0 2 rfl rfl)
theorem dX0_worth_5 : decode cX0_worth 5 = .ok (.ifCond .ne 6, 3) := dk_154 0 6 (dk_at dksX0_worth_0 5 rfl rfl)
theorem dX0_worth_8 : decode cX0_worth 8 = .ok (.bipush (-2), 2) := dk_16 254 (dk_at dksX0_worth_0 8 rfl rfl)
theorem dX0_worth_10 : decode cX0_worth 10 = .ok (.ireturn, 1) := dk_172 (dk_at dksX0_worth_0 10 rfl rfl)
theorem dX0_worth_11 : decode cX0_worth 11 = .ok (.iload_n 2, 1) := dk_28 (dk_at dksX0_worth_0 11 rfl rfl)
theorem dX0_worth_12 : decode cX0_worth 12 = .ok (.i2l, 1) := dk_133 (dk_at dksX0_worth_0 12 rfl rfl)
theorem dX0_worth_13 : decode cX0_worth 13 = .ok (.lconst 1, 1) := dk_10 (dk_at dksX0_worth_0 13 rfl rfl)
theorem dX0_worth_14 : decode cX0_worth 14 = .ok (.ldc2_w 188, 3) := dk_20 0 188 (dk_at dksX0_worth_0 14 rfl rfl)
theorem dX0_worth_17 : decode cX0_worth 17 = .ok (.invokestatic 89, 3) := dk_184 0 89 (dk_at dksX0_worth_0 17 rfl rfl)
theorem dX0_worth_20 : decode cX0_worth 20 = .ok (.ifCond .ne 6, 3) := dk_154 0 6 (dk_at dksX0_worth_0 20 rfl rfl)
theorem dX0_worth_23 : decode cX0_worth 23 = .ok (.bipush (-3), 2) := dk_16 253 (dk_at dksX0_worth_1 0 rfl rfl)
theorem dX0_worth_25 : decode cX0_worth 25 = .ok (.ireturn, 1) := dk_172 (dk_at dksX0_worth_1 2 rfl rfl)
theorem dX0_worth_26 : decode cX0_worth 26 = .ok (.aload_n 0, 1) := dk_42 (dk_at dksX0_worth_1 3 rfl rfl)
theorem dX0_worth_27 : decode cX0_worth 27 = .ok (.getfield 32, 3) := dk_180 0 32 (dk_at dksX0_worth_1 4 rfl rfl)
theorem dX0_worth_30 : decode cX0_worth 30 = .ok (.iload_n 1, 1) := dk_27 (dk_at dksX0_worth_1 7 rfl rfl)
theorem dX0_worth_31 : decode cX0_worth 31 = .ok (.aaload, 1) := dk_50 (dk_at dksX0_worth_1 8 rfl rfl)
theorem dX0_worth_32 : decode cX0_worth 32 = .ok (.getfield 190, 3) := dk_180 0 190 (dk_at dksX0_worth_1 9 rfl rfl)
theorem dX0_worth_35 : decode cX0_worth 35 = .ok (.istore_n 3, 1) := dk_62 (dk_at dksX0_worth_1 12 rfl rfl)
theorem dX0_worth_36 : decode cX0_worth 36 = .ok (.aload_n 0, 1) := dk_42 (dk_at dksX0_worth_1 13 rfl rfl)
theorem dX0_worth_37 : decode cX0_worth 37 = .ok (.getfield 32, 3) := dk_180 0 32 (dk_at dksX0_worth_1 14 rfl rfl)
theorem dX0_worth_40 : decode cX0_worth 40 = .ok (.iload_n 1, 1) := dk_27 (dk_at dksX0_worth_1 17 rfl rfl)
theorem dX0_worth_41 : decode cX0_worth 41 = .ok (.aaload, 1) := dk_50 (dk_at dksX0_worth_1 18 rfl rfl)
theorem dX0_worth_42 : decode cX0_worth 42 = .ok (.iload_n 2, 1) := dk_28 (dk_at dksX0_worth_1 19 rfl rfl)
theorem dX0_worth_43 : decode cX0_worth 43 = .ok (.putfield 190, 3) := dk_181 0 190 (dk_at dksX0_worth_1 20 rfl rfl)
theorem dX0_worth_46 : decode cX0_worth 46 = .ok (.iload_n 3, 1) := dk_29 (dk_at dksX0_worth_1 23 rfl rfl)
theorem dX0_worth_47 : decode cX0_worth 47 = .ok (.ireturn, 1) := dk_172 (dk_at dksX0_worth_2 0 rfl rfl)
abbrev cX0_placements : ByteArray := prog_1_method_26_code
def yX0_placements : MethodName := ⟨RX0, "placements", "(I)I"⟩
def dkwX0_placements_1 : List UInt8 := [27, 50, 180, 0, 196, 172]
abbrev dktX0_placements_1 : List UInt8 := dkwX0_placements_1 ++ []
def dkwX0_placements_0 : List UInt8 := [42, 27, 182, 0, 178, 154, 0, 6, 16, 254, 172, 42, 180, 0, 32, 27, 50, 182, 0, 193, 42, 180, 0, 32]
abbrev dktX0_placements_0 : List UInt8 := dkwX0_placements_0 ++ dktX0_placements_1
theorem dksX0_placements_0 : cX0_placements.data.toList.drop 0 = dktX0_placements_0 := by decide +kernel
theorem dksX0_placements_1 : cX0_placements.data.toList.drop 24 = dktX0_placements_1 := dk_seg dksX0_placements_0 24 rfl rfl
theorem dX0_placements_0 : decode cX0_placements 0 = .ok (.aload_n 0, 1) := dk_42 (dk_at dksX0_placements_0 0 rfl rfl)
theorem dX0_placements_1 : decode cX0_placements 1 = .ok (.iload_n 1, 1) := dk_27 (dk_at dksX0_placements_0 1 rfl rfl)
theorem dX0_placements_2 : decode cX0_placements 2 = .ok (.invokevirtual 178, 3) := dk_182 0 178 (dk_at dksX0_placements_0 2 rfl rfl)
theorem dX0_placements_5 : decode cX0_placements 5 = .ok (.ifCond .ne 6, 3) := dk_154 0 6 (dk_at dksX0_placements_0 5 rfl rfl)
theorem dX0_placements_8 : decode cX0_placements 8 = .ok (.bipush (-2), 2) := dk_16 254 (dk_at dksX0_placements_0 8 rfl rfl)
theorem dX0_placements_10 : decode cX0_placements 10 = .ok (.ireturn, 1) := dk_172 (dk_at dksX0_placements_0 10 rfl rfl)
theorem dX0_placements_11 : decode cX0_placements 11 = .ok (.aload_n 0, 1) := dk_42 (dk_at dksX0_placements_0 11 rfl rfl)
theorem dX0_placements_12 : decode cX0_placements 12 = .ok (.getfield 32, 3) := dk_180 0 32 (dk_at dksX0_placements_0 12 rfl rfl)
theorem dX0_placements_15 : decode cX0_placements 15 = .ok (.iload_n 1, 1) := dk_27 (dk_at dksX0_placements_0 15 rfl rfl)
theorem dX0_placements_16 : decode cX0_placements 16 = .ok (.aaload, 1) := dk_50 (dk_at dksX0_placements_0 16 rfl rfl)
theorem dX0_placements_17 : decode cX0_placements 17 = .ok (.invokevirtual 193, 3) := dk_182 0 193 (dk_at dksX0_placements_0 17 rfl rfl)
theorem dX0_placements_20 : decode cX0_placements 20 = .ok (.aload_n 0, 1) := dk_42 (dk_at dksX0_placements_0 20 rfl rfl)
theorem dX0_placements_21 : decode cX0_placements 21 = .ok (.getfield 32, 3) := dk_180 0 32 (dk_at dksX0_placements_0 21 rfl rfl)
theorem dX0_placements_24 : decode cX0_placements 24 = .ok (.iload_n 1, 1) := dk_27 (dk_at dksX0_placements_1 0 rfl rfl)
theorem dX0_placements_25 : decode cX0_placements 25 = .ok (.aaload, 1) := dk_50 (dk_at dksX0_placements_1 1 rfl rfl)
theorem dX0_placements_26 : decode cX0_placements 26 = .ok (.getfield 196, 3) := dk_180 0 196 (dk_at dksX0_placements_1 2 rfl rfl)
theorem dX0_placements_29 : decode cX0_placements 29 = .ok (.ireturn, 1) := dk_172 (dk_at dksX0_placements_1 5 rfl rfl)
abbrev cX0_fits : ByteArray := prog_1_method_13_code
def yX0_fits : MethodName := ⟨RX0, "fits", "(LSharedNights$Look;LSharedNights$Target;I)Z"⟩
def dkwX0_fits_2 : List UInt8 := [3, 50, 44, 21, 5, 182, 0, 149, 54, 4, 132, 5, 1, 167, 255, 222, 21, 4, 172]
abbrev dktX0_fits_2 : List UInt8 := dkwX0_fits_2 ++ []
def dkwX0_fits_1 : List UInt8 := [29, 54, 5, 21, 4, 153, 0, 35, 21, 5, 29, 43, 180, 0, 144, 96, 162, 0, 24, 43, 42, 180, 0, 20]
abbrev dktX0_fits_1 : List UInt8 := dkwX0_fits_1 ++ dktX0_fits_2
def dkwX0_fits_0 : List UInt8 := [29, 155, 0, 20, 29, 43, 180, 0, 144, 96, 42, 180, 0, 9, 163, 0, 7, 4, 167, 0, 4, 3, 54, 4]
abbrev dktX0_fits_0 : List UInt8 := dkwX0_fits_0 ++ dktX0_fits_1
theorem dksX0_fits_0 : cX0_fits.data.toList.drop 0 = dktX0_fits_0 := by decide +kernel
theorem dksX0_fits_1 : cX0_fits.data.toList.drop 24 = dktX0_fits_1 := dk_seg dksX0_fits_0 24 rfl rfl
theorem dksX0_fits_2 : cX0_fits.data.toList.drop 48 = dktX0_fits_2 := dk_seg dksX0_fits_1 24 rfl rfl
theorem dX0_fits_0 : decode cX0_fits 0 = .ok (.iload_n 3, 1) := dk_29 (dk_at dksX0_fits_0 0 rfl rfl)
theorem dX0_fits_1 : decode cX0_fits 1 = .ok (.ifCond .lt 20, 3) := dk_155 0 20 (dk_at dksX0_fits_0 1 rfl rfl)
theorem dX0_fits_4 : decode cX0_fits 4 = .ok (.iload_n 3, 1) := dk_29 (dk_at dksX0_fits_0 4 rfl rfl)
theorem dX0_fits_5 : decode cX0_fits 5 = .ok (.aload_n 1, 1) := dk_43 (dk_at dksX0_fits_0 5 rfl rfl)
theorem dX0_fits_6 : decode cX0_fits 6 = .ok (.getfield 144, 3) := dk_180 0 144 (dk_at dksX0_fits_0 6 rfl rfl)
theorem dX0_fits_9 : decode cX0_fits 9 = .ok (.iadd, 1) := dk_96 (dk_at dksX0_fits_0 9 rfl rfl)
theorem dX0_fits_10 : decode cX0_fits 10 = .ok (.aload_n 0, 1) := dk_42 (dk_at dksX0_fits_0 10 rfl rfl)
theorem dX0_fits_11 : decode cX0_fits 11 = .ok (.getfield 9, 3) := dk_180 0 9 (dk_at dksX0_fits_0 11 rfl rfl)
theorem dX0_fits_14 : decode cX0_fits 14 = .ok (.if_icmp .gt 7, 3) := dk_163 0 7 (dk_at dksX0_fits_0 14 rfl rfl)
theorem dX0_fits_17 : decode cX0_fits 17 = .ok (.iconst 1, 1) := dk_4 (dk_at dksX0_fits_0 17 rfl rfl)
theorem dX0_fits_18 : decode cX0_fits 18 = .ok (.goto 4, 3) := dk_167 0 4 (dk_at dksX0_fits_0 18 rfl rfl)
theorem dX0_fits_21 : decode cX0_fits 21 = .ok (.iconst 0, 1) := dk_3 (dk_at dksX0_fits_0 21 rfl rfl)
theorem dX0_fits_22 : decode cX0_fits 22 = .ok (.istore 4, 2) := dk_54 4 (dk_at dksX0_fits_0 22 rfl rfl)
theorem dX0_fits_24 : decode cX0_fits 24 = .ok (.iload_n 3, 1) := dk_29 (dk_at dksX0_fits_1 0 rfl rfl)
theorem dX0_fits_25 : decode cX0_fits 25 = .ok (.istore 5, 2) := dk_54 5 (dk_at dksX0_fits_1 1 rfl rfl)
theorem dX0_fits_27 : decode cX0_fits 27 = .ok (.iload 4, 2) := dk_21 4 (dk_at dksX0_fits_1 3 rfl rfl)
theorem dX0_fits_29 : decode cX0_fits 29 = .ok (.ifCond .eq 35, 3) := dk_153 0 35 (dk_at dksX0_fits_1 5 rfl rfl)
theorem dX0_fits_32 : decode cX0_fits 32 = .ok (.iload 5, 2) := dk_21 5 (dk_at dksX0_fits_1 8 rfl rfl)
theorem dX0_fits_34 : decode cX0_fits 34 = .ok (.iload_n 3, 1) := dk_29 (dk_at dksX0_fits_1 10 rfl rfl)
theorem dX0_fits_35 : decode cX0_fits 35 = .ok (.aload_n 1, 1) := dk_43 (dk_at dksX0_fits_1 11 rfl rfl)
theorem dX0_fits_36 : decode cX0_fits 36 = .ok (.getfield 144, 3) := dk_180 0 144 (dk_at dksX0_fits_1 12 rfl rfl)
theorem dX0_fits_39 : decode cX0_fits 39 = .ok (.iadd, 1) := dk_96 (dk_at dksX0_fits_1 15 rfl rfl)
theorem dX0_fits_40 : decode cX0_fits 40 = .ok (.if_icmp .ge 24, 3) := dk_162 0 24 (dk_at dksX0_fits_1 16 rfl rfl)
theorem dX0_fits_43 : decode cX0_fits 43 = .ok (.aload_n 1, 1) := dk_43 (dk_at dksX0_fits_1 19 rfl rfl)
theorem dX0_fits_44 : decode cX0_fits 44 = .ok (.aload_n 0, 1) := dk_42 (dk_at dksX0_fits_1 20 rfl rfl)
theorem dX0_fits_45 : decode cX0_fits 45 = .ok (.getfield 20, 3) := dk_180 0 20 (dk_at dksX0_fits_1 21 rfl rfl)
theorem dX0_fits_48 : decode cX0_fits 48 = .ok (.iconst 0, 1) := dk_3 (dk_at dksX0_fits_2 0 rfl rfl)
theorem dX0_fits_49 : decode cX0_fits 49 = .ok (.aaload, 1) := dk_50 (dk_at dksX0_fits_2 1 rfl rfl)
theorem dX0_fits_50 : decode cX0_fits 50 = .ok (.aload_n 2, 1) := dk_44 (dk_at dksX0_fits_2 2 rfl rfl)
theorem dX0_fits_51 : decode cX0_fits 51 = .ok (.iload 5, 2) := dk_21 5 (dk_at dksX0_fits_2 3 rfl rfl)
theorem dX0_fits_53 : decode cX0_fits 53 = .ok (.invokevirtual 149, 3) := dk_182 0 149 (dk_at dksX0_fits_2 5 rfl rfl)
theorem dX0_fits_56 : decode cX0_fits 56 = .ok (.istore 4, 2) := dk_54 4 (dk_at dksX0_fits_2 8 rfl rfl)
theorem dX0_fits_58 : decode cX0_fits 58 = .ok (.iinc 5 1, 3) := dk_132 5 1 (dk_at dksX0_fits_2 10 rfl rfl)
theorem dX0_fits_61 : decode cX0_fits 61 = .ok (.goto (-34), 3) := dk_167 255 222 (dk_at dksX0_fits_2 13 rfl rfl)
theorem dX0_fits_64 : decode cX0_fits 64 = .ok (.iload 4, 2) := dk_21 4 (dk_at dksX0_fits_2 16 rfl rfl)
theorem dX0_fits_66 : decode cX0_fits 66 = .ok (.ireturn, 1) := dk_172 (dk_at dksX0_fits_2 18 rfl rfl)
abbrev cX0_bitsOf : ByteArray := prog_1_method_14_code
def yX0_bitsOf : MethodName := ⟨RX0, "bitsOf", "(II)I"⟩
def dkwX0_bitsOf_0 : List UInt8 := [4, 27, 120, 4, 100, 26, 120, 172]
abbrev dktX0_bitsOf_0 : List UInt8 := dkwX0_bitsOf_0 ++ []
theorem dksX0_bitsOf_0 : cX0_bitsOf.data.toList.drop 0 = dktX0_bitsOf_0 := by decide +kernel
theorem dX0_bitsOf_0 : decode cX0_bitsOf 0 = .ok (.iconst 1, 1) := dk_4 (dk_at dksX0_bitsOf_0 0 rfl rfl)
theorem dX0_bitsOf_1 : decode cX0_bitsOf 1 = .ok (.iload_n 1, 1) := dk_27 (dk_at dksX0_bitsOf_0 1 rfl rfl)
theorem dX0_bitsOf_2 : decode cX0_bitsOf 2 = .ok (.ishl, 1) := dk_120 (dk_at dksX0_bitsOf_0 2 rfl rfl)
theorem dX0_bitsOf_3 : decode cX0_bitsOf 3 = .ok (.iconst 1, 1) := dk_4 (dk_at dksX0_bitsOf_0 3 rfl rfl)
theorem dX0_bitsOf_4 : decode cX0_bitsOf 4 = .ok (.isub, 1) := dk_100 (dk_at dksX0_bitsOf_0 4 rfl rfl)
theorem dX0_bitsOf_5 : decode cX0_bitsOf 5 = .ok (.iload_n 0, 1) := dk_26 (dk_at dksX0_bitsOf_0 5 rfl rfl)
theorem dX0_bitsOf_6 : decode cX0_bitsOf 6 = .ok (.ishl, 1) := dk_120 (dk_at dksX0_bitsOf_0 6 rfl rfl)
theorem dX0_bitsOf_7 : decode cX0_bitsOf 7 = .ok (.ireturn, 1) := dk_172 (dk_at dksX0_bitsOf_0 7 rfl rfl)
abbrev cX0_placement : ByteArray := prog_1_method_27_code
def yX0_placement : MethodName := ⟨RX0, "placement", "(II)I"⟩
def dkwX0_placement_2 : List UInt8 := [180, 0, 199, 28, 46, 167, 0, 5, 16, 253, 172]
abbrev dktX0_placement_2 : List UInt8 := dkwX0_placement_2 ++ []
def dkwX0_placement_1 : List UInt8 := [180, 0, 32, 27, 50, 180, 0, 196, 4, 100, 133, 184, 0, 89, 153, 0, 17, 42, 180, 0, 32, 27, 50]
abbrev dktX0_placement_1 : List UInt8 := dkwX0_placement_1 ++ dktX0_placement_2
def dkwX0_placement_0 : List UInt8 := [42, 27, 182, 0, 178, 154, 0, 6, 16, 254, 172, 42, 180, 0, 32, 27, 50, 182, 0, 193, 28, 133, 9, 42]
abbrev dktX0_placement_0 : List UInt8 := dkwX0_placement_0 ++ dktX0_placement_1
theorem dksX0_placement_0 : cX0_placement.data.toList.drop 0 = dktX0_placement_0 := by decide +kernel
theorem dksX0_placement_1 : cX0_placement.data.toList.drop 24 = dktX0_placement_1 := dk_seg dksX0_placement_0 24 rfl rfl
theorem dksX0_placement_2 : cX0_placement.data.toList.drop 47 = dktX0_placement_2 := dk_seg dksX0_placement_1 23 rfl rfl
theorem dX0_placement_0 : decode cX0_placement 0 = .ok (.aload_n 0, 1) := dk_42 (dk_at dksX0_placement_0 0 rfl rfl)
theorem dX0_placement_1 : decode cX0_placement 1 = .ok (.iload_n 1, 1) := dk_27 (dk_at dksX0_placement_0 1 rfl rfl)
theorem dX0_placement_2 : decode cX0_placement 2 = .ok (.invokevirtual 178, 3) := dk_182 0 178 (dk_at dksX0_placement_0 2 rfl rfl)
theorem dX0_placement_5 : decode cX0_placement 5 = .ok (.ifCond .ne 6, 3) := dk_154 0 6 (dk_at dksX0_placement_0 5 rfl rfl)
theorem dX0_placement_8 : decode cX0_placement 8 = .ok (.bipush (-2), 2) := dk_16 254 (dk_at dksX0_placement_0 8 rfl rfl)
theorem dX0_placement_10 : decode cX0_placement 10 = .ok (.ireturn, 1) := dk_172 (dk_at dksX0_placement_0 10 rfl rfl)
theorem dX0_placement_11 : decode cX0_placement 11 = .ok (.aload_n 0, 1) := dk_42 (dk_at dksX0_placement_0 11 rfl rfl)
theorem dX0_placement_12 : decode cX0_placement 12 = .ok (.getfield 32, 3) := dk_180 0 32 (dk_at dksX0_placement_0 12 rfl rfl)
theorem dX0_placement_15 : decode cX0_placement 15 = .ok (.iload_n 1, 1) := dk_27 (dk_at dksX0_placement_0 15 rfl rfl)
theorem dX0_placement_16 : decode cX0_placement 16 = .ok (.aaload, 1) := dk_50 (dk_at dksX0_placement_0 16 rfl rfl)
theorem dX0_placement_17 : decode cX0_placement 17 = .ok (.invokevirtual 193, 3) := dk_182 0 193 (dk_at dksX0_placement_0 17 rfl rfl)
theorem dX0_placement_20 : decode cX0_placement 20 = .ok (.iload_n 2, 1) := dk_28 (dk_at dksX0_placement_0 20 rfl rfl)
theorem dX0_placement_21 : decode cX0_placement 21 = .ok (.i2l, 1) := dk_133 (dk_at dksX0_placement_0 21 rfl rfl)
theorem dX0_placement_22 : decode cX0_placement 22 = .ok (.lconst 0, 1) := dk_9 (dk_at dksX0_placement_0 22 rfl rfl)
theorem dX0_placement_23 : decode cX0_placement 23 = .ok (.aload_n 0, 1) := dk_42 (dk_at dksX0_placement_0 23 rfl rfl)
theorem dX0_placement_24 : decode cX0_placement 24 = .ok (.getfield 32, 3) := dk_180 0 32 (dk_at dksX0_placement_1 0 rfl rfl)
theorem dX0_placement_27 : decode cX0_placement 27 = .ok (.iload_n 1, 1) := dk_27 (dk_at dksX0_placement_1 3 rfl rfl)
theorem dX0_placement_28 : decode cX0_placement 28 = .ok (.aaload, 1) := dk_50 (dk_at dksX0_placement_1 4 rfl rfl)
theorem dX0_placement_29 : decode cX0_placement 29 = .ok (.getfield 196, 3) := dk_180 0 196 (dk_at dksX0_placement_1 5 rfl rfl)
theorem dX0_placement_32 : decode cX0_placement 32 = .ok (.iconst 1, 1) := dk_4 (dk_at dksX0_placement_1 8 rfl rfl)
theorem dX0_placement_33 : decode cX0_placement 33 = .ok (.isub, 1) := dk_100 (dk_at dksX0_placement_1 9 rfl rfl)
theorem dX0_placement_34 : decode cX0_placement 34 = .ok (.i2l, 1) := dk_133 (dk_at dksX0_placement_1 10 rfl rfl)
theorem dX0_placement_35 : decode cX0_placement 35 = .ok (.invokestatic 89, 3) := dk_184 0 89 (dk_at dksX0_placement_1 11 rfl rfl)
theorem dX0_placement_38 : decode cX0_placement 38 = .ok (.ifCond .eq 17, 3) := dk_153 0 17 (dk_at dksX0_placement_1 14 rfl rfl)
theorem dX0_placement_41 : decode cX0_placement 41 = .ok (.aload_n 0, 1) := dk_42 (dk_at dksX0_placement_1 17 rfl rfl)
theorem dX0_placement_42 : decode cX0_placement 42 = .ok (.getfield 32, 3) := dk_180 0 32 (dk_at dksX0_placement_1 18 rfl rfl)
theorem dX0_placement_45 : decode cX0_placement 45 = .ok (.iload_n 1, 1) := dk_27 (dk_at dksX0_placement_1 21 rfl rfl)
theorem dX0_placement_46 : decode cX0_placement 46 = .ok (.aaload, 1) := dk_50 (dk_at dksX0_placement_1 22 rfl rfl)
theorem dX0_placement_47 : decode cX0_placement 47 = .ok (.getfield 199, 3) := dk_180 0 199 (dk_at dksX0_placement_2 0 rfl rfl)
theorem dX0_placement_50 : decode cX0_placement 50 = .ok (.iload_n 2, 1) := dk_28 (dk_at dksX0_placement_2 3 rfl rfl)
theorem dX0_placement_51 : decode cX0_placement 51 = .ok (.iaload, 1) := dk_46 (dk_at dksX0_placement_2 4 rfl rfl)
theorem dX0_placement_52 : decode cX0_placement 52 = .ok (.goto 5, 3) := dk_167 0 5 (dk_at dksX0_placement_2 5 rfl rfl)
theorem dX0_placement_55 : decode cX0_placement 55 = .ok (.bipush (-3), 2) := dk_16 253 (dk_at dksX0_placement_2 8 rfl rfl)
theorem dX0_placement_57 : decode cX0_placement 57 = .ok (.ireturn, 1) := dk_172 (dk_at dksX0_placement_2 10 rfl rfl)
abbrev cX0_best : ByteArray := prog_1_method_30_code
def yX0_best : MethodName := ⟨RX0, "best", "(I)I"⟩
def dkwX0_best_1 : List UInt8 := [180, 0, 52, 180, 0, 209, 167, 0, 10, 42, 180, 0, 52, 180, 0, 212, 172]
abbrev dktX0_best_1 : List UInt8 := dkwX0_best_1 ++ []
def dkwX0_best_0 : List UInt8 := [27, 133, 9, 10, 184, 0, 89, 154, 0, 6, 16, 253, 172, 42, 182, 0, 206, 27, 154, 0, 13, 42]
abbrev dktX0_best_0 : List UInt8 := dkwX0_best_0 ++ dktX0_best_1
theorem dksX0_best_0 : cX0_best.data.toList.drop 0 = dktX0_best_0 := by decide +kernel
theorem dksX0_best_1 : cX0_best.data.toList.drop 22 = dktX0_best_1 := dk_seg dksX0_best_0 22 rfl rfl
theorem dX0_best_0 : decode cX0_best 0 = .ok (.iload_n 1, 1) := dk_27 (dk_at dksX0_best_0 0 rfl rfl)
theorem dX0_best_1 : decode cX0_best 1 = .ok (.i2l, 1) := dk_133 (dk_at dksX0_best_0 1 rfl rfl)
theorem dX0_best_2 : decode cX0_best 2 = .ok (.lconst 0, 1) := dk_9 (dk_at dksX0_best_0 2 rfl rfl)
theorem dX0_best_3 : decode cX0_best 3 = .ok (.lconst 1, 1) := dk_10 (dk_at dksX0_best_0 3 rfl rfl)
theorem dX0_best_4 : decode cX0_best 4 = .ok (.invokestatic 89, 3) := dk_184 0 89 (dk_at dksX0_best_0 4 rfl rfl)
theorem dX0_best_7 : decode cX0_best 7 = .ok (.ifCond .ne 6, 3) := dk_154 0 6 (dk_at dksX0_best_0 7 rfl rfl)
theorem dX0_best_10 : decode cX0_best 10 = .ok (.bipush (-3), 2) := dk_16 253 (dk_at dksX0_best_0 10 rfl rfl)
theorem dX0_best_12 : decode cX0_best 12 = .ok (.ireturn, 1) := dk_172 (dk_at dksX0_best_0 12 rfl rfl)
theorem dX0_best_13 : decode cX0_best 13 = .ok (.aload_n 0, 1) := dk_42 (dk_at dksX0_best_0 13 rfl rfl)
theorem dX0_best_14 : decode cX0_best 14 = .ok (.invokevirtual 206, 3) := dk_182 0 206 (dk_at dksX0_best_0 14 rfl rfl)
theorem dX0_best_17 : decode cX0_best 17 = .ok (.iload_n 1, 1) := dk_27 (dk_at dksX0_best_0 17 rfl rfl)
theorem dX0_best_18 : decode cX0_best 18 = .ok (.ifCond .ne 13, 3) := dk_154 0 13 (dk_at dksX0_best_0 18 rfl rfl)
theorem dX0_best_21 : decode cX0_best 21 = .ok (.aload_n 0, 1) := dk_42 (dk_at dksX0_best_0 21 rfl rfl)
theorem dX0_best_22 : decode cX0_best 22 = .ok (.getfield 52, 3) := dk_180 0 52 (dk_at dksX0_best_1 0 rfl rfl)
theorem dX0_best_25 : decode cX0_best 25 = .ok (.getfield 209, 3) := dk_180 0 209 (dk_at dksX0_best_1 3 rfl rfl)
theorem dX0_best_28 : decode cX0_best 28 = .ok (.goto 10, 3) := dk_167 0 10 (dk_at dksX0_best_1 6 rfl rfl)
theorem dX0_best_31 : decode cX0_best 31 = .ok (.aload_n 0, 1) := dk_42 (dk_at dksX0_best_1 9 rfl rfl)
theorem dX0_best_32 : decode cX0_best 32 = .ok (.getfield 52, 3) := dk_180 0 52 (dk_at dksX0_best_1 10 rfl rfl)
theorem dX0_best_35 : decode cX0_best 35 = .ok (.getfield 212, 3) := dk_180 0 212 (dk_at dksX0_best_1 13 rfl rfl)
theorem dX0_best_38 : decode cX0_best 38 = .ok (.ireturn, 1) := dk_172 (dk_at dksX0_best_1 16 rfl rfl)
abbrev cX0_layNight : ByteArray := prog_1_method_29_code
def yX0_layNight : MethodName := ⟨RX0, "layNight", "()V"⟩
def dkwX0_layNight_0 : List UInt8 := [42, 180, 0, 52, 3, 3, 2, 182, 0, 202, 177]
abbrev dktX0_layNight_0 : List UInt8 := dkwX0_layNight_0 ++ []
theorem dksX0_layNight_0 : cX0_layNight.data.toList.drop 0 = dktX0_layNight_0 := by decide +kernel
theorem dX0_layNight_0 : decode cX0_layNight 0 = .ok (.aload_n 0, 1) := dk_42 (dk_at dksX0_layNight_0 0 rfl rfl)
theorem dX0_layNight_1 : decode cX0_layNight 1 = .ok (.getfield 52, 3) := dk_180 0 52 (dk_at dksX0_layNight_0 1 rfl rfl)
theorem dX0_layNight_4 : decode cX0_layNight 4 = .ok (.iconst 0, 1) := dk_3 (dk_at dksX0_layNight_0 4 rfl rfl)
theorem dX0_layNight_5 : decode cX0_layNight 5 = .ok (.iconst 0, 1) := dk_3 (dk_at dksX0_layNight_0 5 rfl rfl)
theorem dX0_layNight_6 : decode cX0_layNight 6 = .ok (.iconst (-1), 1) := dk_2 (dk_at dksX0_layNight_0 6 rfl rfl)
theorem dX0_layNight_7 : decode cX0_layNight 7 = .ok (.invokevirtual 202, 3) := dk_182 0 202 (dk_at dksX0_layNight_0 7 rfl rfl)
theorem dX0_layNight_10 : decode cX0_layNight 10 = .ok (.return_, 1) := dk_177 (dk_at dksX0_layNight_0 10 rfl rfl)
abbrev cX0_wide : ByteArray := prog_1_method_28_code
def yX0_wide : MethodName := ⟨RX0, "wide", "(I)I"⟩
def dkwX0_wide_0 : List UInt8 := [26, 26, 4, 120, 128, 26, 4, 122, 128, 172]
abbrev dktX0_wide_0 : List UInt8 := dkwX0_wide_0 ++ []
theorem dksX0_wide_0 : cX0_wide.data.toList.drop 0 = dktX0_wide_0 := by decide +kernel
theorem dX0_wide_0 : decode cX0_wide 0 = .ok (.iload_n 0, 1) := dk_26 (dk_at dksX0_wide_0 0 rfl rfl)
theorem dX0_wide_1 : decode cX0_wide 1 = .ok (.iload_n 0, 1) := dk_26 (dk_at dksX0_wide_0 1 rfl rfl)
theorem dX0_wide_2 : decode cX0_wide 2 = .ok (.iconst 1, 1) := dk_4 (dk_at dksX0_wide_0 2 rfl rfl)
theorem dX0_wide_3 : decode cX0_wide 3 = .ok (.ishl, 1) := dk_120 (dk_at dksX0_wide_0 3 rfl rfl)
theorem dX0_wide_4 : decode cX0_wide 4 = .ok (.ior, 1) := dk_128 (dk_at dksX0_wide_0 4 rfl rfl)
theorem dX0_wide_5 : decode cX0_wide 5 = .ok (.iload_n 0, 1) := dk_26 (dk_at dksX0_wide_0 5 rfl rfl)
theorem dX0_wide_6 : decode cX0_wide 6 = .ok (.iconst 1, 1) := dk_4 (dk_at dksX0_wide_0 6 rfl rfl)
theorem dX0_wide_7 : decode cX0_wide 7 = .ok (.ishr, 1) := dk_122 (dk_at dksX0_wide_0 7 rfl rfl)
theorem dX0_wide_8 : decode cX0_wide 8 = .ok (.ior, 1) := dk_128 (dk_at dksX0_wide_0 8 rfl rfl)
theorem dX0_wide_9 : decode cX0_wide 9 = .ok (.ireturn, 1) := dk_172 (dk_at dksX0_wide_0 9 rfl rfl)
abbrev cX0_placed : ByteArray := prog_1_method_31_code
def yX0_placed : MethodName := ⟨RX0, "placed", "(I)I"⟩
def dkwX0_placed_1 : List UInt8 := [153, 0, 15, 42, 180, 0, 52, 180, 0, 218, 27, 46, 167, 0, 4, 2, 172]
abbrev dktX0_placed_1 : List UInt8 := dkwX0_placed_1 ++ []
def dkwX0_placed_0 : List UInt8 := [42, 27, 182, 0, 178, 154, 0, 6, 16, 254, 172, 42, 182, 0, 206, 42, 180, 0, 52, 27, 182, 0, 215]
abbrev dktX0_placed_0 : List UInt8 := dkwX0_placed_0 ++ dktX0_placed_1
theorem dksX0_placed_0 : cX0_placed.data.toList.drop 0 = dktX0_placed_0 := by decide +kernel
theorem dksX0_placed_1 : cX0_placed.data.toList.drop 23 = dktX0_placed_1 := dk_seg dksX0_placed_0 23 rfl rfl
theorem dX0_placed_0 : decode cX0_placed 0 = .ok (.aload_n 0, 1) := dk_42 (dk_at dksX0_placed_0 0 rfl rfl)
theorem dX0_placed_1 : decode cX0_placed 1 = .ok (.iload_n 1, 1) := dk_27 (dk_at dksX0_placed_0 1 rfl rfl)
theorem dX0_placed_2 : decode cX0_placed 2 = .ok (.invokevirtual 178, 3) := dk_182 0 178 (dk_at dksX0_placed_0 2 rfl rfl)
theorem dX0_placed_5 : decode cX0_placed 5 = .ok (.ifCond .ne 6, 3) := dk_154 0 6 (dk_at dksX0_placed_0 5 rfl rfl)
theorem dX0_placed_8 : decode cX0_placed 8 = .ok (.bipush (-2), 2) := dk_16 254 (dk_at dksX0_placed_0 8 rfl rfl)
theorem dX0_placed_10 : decode cX0_placed 10 = .ok (.ireturn, 1) := dk_172 (dk_at dksX0_placed_0 10 rfl rfl)
theorem dX0_placed_11 : decode cX0_placed 11 = .ok (.aload_n 0, 1) := dk_42 (dk_at dksX0_placed_0 11 rfl rfl)
theorem dX0_placed_12 : decode cX0_placed 12 = .ok (.invokevirtual 206, 3) := dk_182 0 206 (dk_at dksX0_placed_0 12 rfl rfl)
theorem dX0_placed_15 : decode cX0_placed 15 = .ok (.aload_n 0, 1) := dk_42 (dk_at dksX0_placed_0 15 rfl rfl)
theorem dX0_placed_16 : decode cX0_placed 16 = .ok (.getfield 52, 3) := dk_180 0 52 (dk_at dksX0_placed_0 16 rfl rfl)
theorem dX0_placed_19 : decode cX0_placed 19 = .ok (.iload_n 1, 1) := dk_27 (dk_at dksX0_placed_0 19 rfl rfl)
theorem dX0_placed_20 : decode cX0_placed 20 = .ok (.invokevirtual 215, 3) := dk_182 0 215 (dk_at dksX0_placed_0 20 rfl rfl)
theorem dX0_placed_23 : decode cX0_placed 23 = .ok (.ifCond .eq 15, 3) := dk_153 0 15 (dk_at dksX0_placed_1 0 rfl rfl)
theorem dX0_placed_26 : decode cX0_placed 26 = .ok (.aload_n 0, 1) := dk_42 (dk_at dksX0_placed_1 3 rfl rfl)
theorem dX0_placed_27 : decode cX0_placed 27 = .ok (.getfield 52, 3) := dk_180 0 52 (dk_at dksX0_placed_1 4 rfl rfl)
theorem dX0_placed_30 : decode cX0_placed 30 = .ok (.getfield 218, 3) := dk_180 0 218 (dk_at dksX0_placed_1 7 rfl rfl)
theorem dX0_placed_33 : decode cX0_placed 33 = .ok (.iload_n 1, 1) := dk_27 (dk_at dksX0_placed_1 10 rfl rfl)
theorem dX0_placed_34 : decode cX0_placed 34 = .ok (.iaload, 1) := dk_46 (dk_at dksX0_placed_1 11 rfl rfl)
theorem dX0_placed_35 : decode cX0_placed 35 = .ok (.goto 4, 3) := dk_167 0 4 (dk_at dksX0_placed_1 12 rfl rfl)
theorem dX0_placed_38 : decode cX0_placed 38 = .ok (.iconst (-1), 1) := dk_2 (dk_at dksX0_placed_1 15 rfl rfl)
theorem dX0_placed_39 : decode cX0_placed 39 = .ok (.ireturn, 1) := dk_172 (dk_at dksX0_placed_1 16 rfl rfl)
abbrev cX0_price : ByteArray := prog_1_method_34_code
def yX0_price : MethodName := ⟨RX0, "price", "(I)I"⟩
def dkwX0_price_5 : List UInt8 := [132, 5, 1, 167, 255, 226, 2, 172]
abbrev dktX0_price_5 : List UInt8 := dkwX0_price_5 ++ []
def dkwX0_price_4 : List UInt8 := [21, 4, 4, 96, 184, 0, 234, 163, 0, 22, 42, 27, 21, 5, 182, 0, 237, 153, 0, 6, 21, 5, 172]
abbrev dktX0_price_4 : List UInt8 := dkwX0_price_4 ++ dktX0_price_5
def dkwX0_price_3 : List UInt8 := [4, 42, 3, 3, 27, 182, 0, 224, 29, 100, 184, 0, 228, 54, 4, 21, 4, 54, 5, 21, 5, 16, 99]
abbrev dktX0_price_3 : List UInt8 := dkwX0_price_3 ++ dktX0_price_4
def dkwX0_price_2 : List UInt8 := [180, 0, 221, 27, 182, 0, 224, 184, 0, 228, 62, 132, 4, 1, 167, 255, 223, 29, 2, 160, 0, 5, 2, 172]
abbrev dktX0_price_2 : List UInt8 := dkwX0_price_2 ++ dktX0_price_3
def dkwX0_price_1 : List UInt8 := [3, 54, 4, 21, 4, 44, 180, 0, 196, 162, 0, 30, 29, 42, 44, 180, 0, 199, 21, 4, 46, 44]
abbrev dktX0_price_1 : List UInt8 := dkwX0_price_1 ++ dktX0_price_2
def dkwX0_price_0 : List UInt8 := [42, 27, 182, 0, 178, 154, 0, 6, 16, 254, 172, 42, 180, 0, 32, 27, 50, 77, 44, 182, 0, 193, 2, 62]
abbrev dktX0_price_0 : List UInt8 := dkwX0_price_0 ++ dktX0_price_1
theorem dksX0_price_0 : cX0_price.data.toList.drop 0 = dktX0_price_0 := by decide +kernel
theorem dksX0_price_1 : cX0_price.data.toList.drop 24 = dktX0_price_1 := dk_seg dksX0_price_0 24 rfl rfl
theorem dksX0_price_2 : cX0_price.data.toList.drop 46 = dktX0_price_2 := dk_seg dksX0_price_1 22 rfl rfl
theorem dksX0_price_3 : cX0_price.data.toList.drop 70 = dktX0_price_3 := dk_seg dksX0_price_2 24 rfl rfl
theorem dksX0_price_4 : cX0_price.data.toList.drop 93 = dktX0_price_4 := dk_seg dksX0_price_3 23 rfl rfl
theorem dksX0_price_5 : cX0_price.data.toList.drop 116 = dktX0_price_5 := dk_seg dksX0_price_4 23 rfl rfl
theorem dX0_price_0 : decode cX0_price 0 = .ok (.aload_n 0, 1) := dk_42 (dk_at dksX0_price_0 0 rfl rfl)
theorem dX0_price_1 : decode cX0_price 1 = .ok (.iload_n 1, 1) := dk_27 (dk_at dksX0_price_0 1 rfl rfl)
theorem dX0_price_2 : decode cX0_price 2 = .ok (.invokevirtual 178, 3) := dk_182 0 178 (dk_at dksX0_price_0 2 rfl rfl)
theorem dX0_price_5 : decode cX0_price 5 = .ok (.ifCond .ne 6, 3) := dk_154 0 6 (dk_at dksX0_price_0 5 rfl rfl)
theorem dX0_price_8 : decode cX0_price 8 = .ok (.bipush (-2), 2) := dk_16 254 (dk_at dksX0_price_0 8 rfl rfl)
theorem dX0_price_10 : decode cX0_price 10 = .ok (.ireturn, 1) := dk_172 (dk_at dksX0_price_0 10 rfl rfl)
theorem dX0_price_11 : decode cX0_price 11 = .ok (.aload_n 0, 1) := dk_42 (dk_at dksX0_price_0 11 rfl rfl)
theorem dX0_price_12 : decode cX0_price 12 = .ok (.getfield 32, 3) := dk_180 0 32 (dk_at dksX0_price_0 12 rfl rfl)
theorem dX0_price_15 : decode cX0_price 15 = .ok (.iload_n 1, 1) := dk_27 (dk_at dksX0_price_0 15 rfl rfl)
theorem dX0_price_16 : decode cX0_price 16 = .ok (.aaload, 1) := dk_50 (dk_at dksX0_price_0 16 rfl rfl)
theorem dX0_price_17 : decode cX0_price 17 = .ok (.astore_n 2, 1) := dk_77 (dk_at dksX0_price_0 17 rfl rfl)
theorem dX0_price_18 : decode cX0_price 18 = .ok (.aload_n 2, 1) := dk_44 (dk_at dksX0_price_0 18 rfl rfl)
theorem dX0_price_19 : decode cX0_price 19 = .ok (.invokevirtual 193, 3) := dk_182 0 193 (dk_at dksX0_price_0 19 rfl rfl)
theorem dX0_price_22 : decode cX0_price 22 = .ok (.iconst (-1), 1) := dk_2 (dk_at dksX0_price_0 22 rfl rfl)
theorem dX0_price_23 : decode cX0_price 23 = .ok (.istore_n 3, 1) := dk_62 (dk_at dksX0_price_0 23 rfl rfl)
theorem dX0_price_24 : decode cX0_price 24 = .ok (.iconst 0, 1) := dk_3 (dk_at dksX0_price_1 0 rfl rfl)
theorem dX0_price_25 : decode cX0_price 25 = .ok (.istore 4, 2) := dk_54 4 (dk_at dksX0_price_1 1 rfl rfl)
theorem dX0_price_27 : decode cX0_price 27 = .ok (.iload 4, 2) := dk_21 4 (dk_at dksX0_price_1 3 rfl rfl)
theorem dX0_price_29 : decode cX0_price 29 = .ok (.aload_n 2, 1) := dk_44 (dk_at dksX0_price_1 5 rfl rfl)
theorem dX0_price_30 : decode cX0_price 30 = .ok (.getfield 196, 3) := dk_180 0 196 (dk_at dksX0_price_1 6 rfl rfl)
theorem dX0_price_33 : decode cX0_price 33 = .ok (.if_icmp .ge 30, 3) := dk_162 0 30 (dk_at dksX0_price_1 9 rfl rfl)
theorem dX0_price_36 : decode cX0_price 36 = .ok (.iload_n 3, 1) := dk_29 (dk_at dksX0_price_1 12 rfl rfl)
theorem dX0_price_37 : decode cX0_price 37 = .ok (.aload_n 0, 1) := dk_42 (dk_at dksX0_price_1 13 rfl rfl)
theorem dX0_price_38 : decode cX0_price 38 = .ok (.aload_n 2, 1) := dk_44 (dk_at dksX0_price_1 14 rfl rfl)
theorem dX0_price_39 : decode cX0_price 39 = .ok (.getfield 199, 3) := dk_180 0 199 (dk_at dksX0_price_1 15 rfl rfl)
theorem dX0_price_42 : decode cX0_price 42 = .ok (.iload 4, 2) := dk_21 4 (dk_at dksX0_price_1 18 rfl rfl)
theorem dX0_price_44 : decode cX0_price 44 = .ok (.iaload, 1) := dk_46 (dk_at dksX0_price_1 20 rfl rfl)
theorem dX0_price_45 : decode cX0_price 45 = .ok (.aload_n 2, 1) := dk_44 (dk_at dksX0_price_1 21 rfl rfl)
theorem dX0_price_46 : decode cX0_price 46 = .ok (.getfield 221, 3) := dk_180 0 221 (dk_at dksX0_price_2 0 rfl rfl)
theorem dX0_price_49 : decode cX0_price 49 = .ok (.iload_n 1, 1) := dk_27 (dk_at dksX0_price_2 3 rfl rfl)
theorem dX0_price_50 : decode cX0_price 50 = .ok (.invokevirtual 224, 3) := dk_182 0 224 (dk_at dksX0_price_2 4 rfl rfl)
theorem dX0_price_53 : decode cX0_price 53 = .ok (.invokestatic 228, 3) := dk_184 0 228 (dk_at dksX0_price_2 7 rfl rfl)
theorem dX0_price_56 : decode cX0_price 56 = .ok (.istore_n 3, 1) := dk_62 (dk_at dksX0_price_2 10 rfl rfl)
theorem dX0_price_57 : decode cX0_price 57 = .ok (.iinc 4 1, 3) := dk_132 4 1 (dk_at dksX0_price_2 11 rfl rfl)
theorem dX0_price_60 : decode cX0_price 60 = .ok (.goto (-33), 3) := dk_167 255 223 (dk_at dksX0_price_2 14 rfl rfl)
theorem dX0_price_63 : decode cX0_price 63 = .ok (.iload_n 3, 1) := dk_29 (dk_at dksX0_price_2 17 rfl rfl)
theorem dX0_price_64 : decode cX0_price 64 = .ok (.iconst (-1), 1) := dk_2 (dk_at dksX0_price_2 18 rfl rfl)
theorem dX0_price_65 : decode cX0_price 65 = .ok (.if_icmp .ne 5, 3) := dk_160 0 5 (dk_at dksX0_price_2 19 rfl rfl)
theorem dX0_price_68 : decode cX0_price 68 = .ok (.iconst (-1), 1) := dk_2 (dk_at dksX0_price_2 22 rfl rfl)
theorem dX0_price_69 : decode cX0_price 69 = .ok (.ireturn, 1) := dk_172 (dk_at dksX0_price_2 23 rfl rfl)
theorem dX0_price_70 : decode cX0_price 70 = .ok (.iconst 1, 1) := dk_4 (dk_at dksX0_price_3 0 rfl rfl)
theorem dX0_price_71 : decode cX0_price 71 = .ok (.aload_n 0, 1) := dk_42 (dk_at dksX0_price_3 1 rfl rfl)
theorem dX0_price_72 : decode cX0_price 72 = .ok (.iconst 0, 1) := dk_3 (dk_at dksX0_price_3 2 rfl rfl)
theorem dX0_price_73 : decode cX0_price 73 = .ok (.iconst 0, 1) := dk_3 (dk_at dksX0_price_3 3 rfl rfl)
theorem dX0_price_74 : decode cX0_price 74 = .ok (.iload_n 1, 1) := dk_27 (dk_at dksX0_price_3 4 rfl rfl)
theorem dX0_price_75 : decode cX0_price 75 = .ok (.invokevirtual 224, 3) := dk_182 0 224 (dk_at dksX0_price_3 5 rfl rfl)
theorem dX0_price_78 : decode cX0_price 78 = .ok (.iload_n 3, 1) := dk_29 (dk_at dksX0_price_3 8 rfl rfl)
theorem dX0_price_79 : decode cX0_price 79 = .ok (.isub, 1) := dk_100 (dk_at dksX0_price_3 9 rfl rfl)
theorem dX0_price_80 : decode cX0_price 80 = .ok (.invokestatic 228, 3) := dk_184 0 228 (dk_at dksX0_price_3 10 rfl rfl)
theorem dX0_price_83 : decode cX0_price 83 = .ok (.istore 4, 2) := dk_54 4 (dk_at dksX0_price_3 13 rfl rfl)
theorem dX0_price_85 : decode cX0_price 85 = .ok (.iload 4, 2) := dk_21 4 (dk_at dksX0_price_3 15 rfl rfl)
theorem dX0_price_87 : decode cX0_price 87 = .ok (.istore 5, 2) := dk_54 5 (dk_at dksX0_price_3 17 rfl rfl)
theorem dX0_price_89 : decode cX0_price 89 = .ok (.iload 5, 2) := dk_21 5 (dk_at dksX0_price_3 19 rfl rfl)
theorem dX0_price_91 : decode cX0_price 91 = .ok (.bipush 99, 2) := dk_16 99 (dk_at dksX0_price_3 21 rfl rfl)
theorem dX0_price_93 : decode cX0_price 93 = .ok (.iload 4, 2) := dk_21 4 (dk_at dksX0_price_4 0 rfl rfl)
theorem dX0_price_95 : decode cX0_price 95 = .ok (.iconst 1, 1) := dk_4 (dk_at dksX0_price_4 2 rfl rfl)
theorem dX0_price_96 : decode cX0_price 96 = .ok (.iadd, 1) := dk_96 (dk_at dksX0_price_4 3 rfl rfl)
theorem dX0_price_97 : decode cX0_price 97 = .ok (.invokestatic 234, 3) := dk_184 0 234 (dk_at dksX0_price_4 4 rfl rfl)
theorem dX0_price_100 : decode cX0_price 100 = .ok (.if_icmp .gt 22, 3) := dk_163 0 22 (dk_at dksX0_price_4 7 rfl rfl)
theorem dX0_price_103 : decode cX0_price 103 = .ok (.aload_n 0, 1) := dk_42 (dk_at dksX0_price_4 10 rfl rfl)
theorem dX0_price_104 : decode cX0_price 104 = .ok (.iload_n 1, 1) := dk_27 (dk_at dksX0_price_4 11 rfl rfl)
theorem dX0_price_105 : decode cX0_price 105 = .ok (.iload 5, 2) := dk_21 5 (dk_at dksX0_price_4 12 rfl rfl)
theorem dX0_price_107 : decode cX0_price 107 = .ok (.invokevirtual 237, 3) := dk_182 0 237 (dk_at dksX0_price_4 14 rfl rfl)
theorem dX0_price_110 : decode cX0_price 110 = .ok (.ifCond .eq 6, 3) := dk_153 0 6 (dk_at dksX0_price_4 17 rfl rfl)
theorem dX0_price_113 : decode cX0_price 113 = .ok (.iload 5, 2) := dk_21 5 (dk_at dksX0_price_4 20 rfl rfl)
theorem dX0_price_115 : decode cX0_price 115 = .ok (.ireturn, 1) := dk_172 (dk_at dksX0_price_4 22 rfl rfl)
theorem dX0_price_116 : decode cX0_price 116 = .ok (.iinc 5 1, 3) := dk_132 5 1 (dk_at dksX0_price_5 0 rfl rfl)
theorem dX0_price_119 : decode cX0_price 119 = .ok (.goto (-30), 3) := dk_167 255 226 (dk_at dksX0_price_5 3 rfl rfl)
theorem dX0_price_122 : decode cX0_price 122 = .ok (.iconst (-1), 1) := dk_2 (dk_at dksX0_price_5 6 rfl rfl)
theorem dX0_price_123 : decode cX0_price 123 = .ok (.ireturn, 1) := dk_172 (dk_at dksX0_price_5 7 rfl rfl)
abbrev cX0_worthOf : ByteArray := prog_1_method_32_code
def yX0_worthOf : MethodName := ⟨RX0, "worthOf", "(III)I"⟩
def dkwX0_worthOf_0 : List UInt8 := [42, 180, 0, 52, 27, 28, 29, 182, 0, 202, 42, 180, 0, 52, 180, 0, 209, 172]
abbrev dktX0_worthOf_0 : List UInt8 := dkwX0_worthOf_0 ++ []
theorem dksX0_worthOf_0 : cX0_worthOf.data.toList.drop 0 = dktX0_worthOf_0 := by decide +kernel
theorem dX0_worthOf_0 : decode cX0_worthOf 0 = .ok (.aload_n 0, 1) := dk_42 (dk_at dksX0_worthOf_0 0 rfl rfl)
theorem dX0_worthOf_1 : decode cX0_worthOf 1 = .ok (.getfield 52, 3) := dk_180 0 52 (dk_at dksX0_worthOf_0 1 rfl rfl)
theorem dX0_worthOf_4 : decode cX0_worthOf 4 = .ok (.iload_n 1, 1) := dk_27 (dk_at dksX0_worthOf_0 4 rfl rfl)
theorem dX0_worthOf_5 : decode cX0_worthOf 5 = .ok (.iload_n 2, 1) := dk_28 (dk_at dksX0_worthOf_0 5 rfl rfl)
theorem dX0_worthOf_6 : decode cX0_worthOf 6 = .ok (.iload_n 3, 1) := dk_29 (dk_at dksX0_worthOf_0 6 rfl rfl)
theorem dX0_worthOf_7 : decode cX0_worthOf 7 = .ok (.invokevirtual 202, 3) := dk_182 0 202 (dk_at dksX0_worthOf_0 7 rfl rfl)
theorem dX0_worthOf_10 : decode cX0_worthOf 10 = .ok (.aload_n 0, 1) := dk_42 (dk_at dksX0_worthOf_0 10 rfl rfl)
theorem dX0_worthOf_11 : decode cX0_worthOf 11 = .ok (.getfield 52, 3) := dk_180 0 52 (dk_at dksX0_worthOf_0 11 rfl rfl)
theorem dX0_worthOf_14 : decode cX0_worthOf 14 = .ok (.getfield 209, 3) := dk_180 0 209 (dk_at dksX0_worthOf_0 14 rfl rfl)
theorem dX0_worthOf_17 : decode cX0_worthOf 17 = .ok (.ireturn, 1) := dk_172 (dk_at dksX0_worthOf_0 17 rfl rfl)
abbrev cX0_isInAt : ByteArray := prog_1_method_33_code
def yX0_isInAt : MethodName := ⟨RX0, "isInAt", "(II)Z"⟩
def dkwX0_isInAt_2 : List UInt8 := [58, 5, 42, 180, 0, 32, 27, 50, 29, 181, 0, 190, 25, 5, 191]
abbrev dktX0_isInAt_2 : List UInt8 := dkwX0_isInAt_2 ++ []
def dkwX0_isInAt_1 : List UInt8 := [42, 180, 0, 52, 27, 182, 0, 215, 54, 4, 42, 180, 0, 32, 27, 50, 29, 181, 0, 190, 21, 4, 172]
abbrev dktX0_isInAt_1 : List UInt8 := dkwX0_isInAt_1 ++ dktX0_isInAt_2
def dkwX0_isInAt_0 : List UInt8 := [42, 180, 0, 32, 27, 50, 180, 0, 190, 62, 42, 180, 0, 32, 27, 50, 28, 181, 0, 190, 42, 182, 0, 206]
abbrev dktX0_isInAt_0 : List UInt8 := dkwX0_isInAt_0 ++ dktX0_isInAt_1
theorem dksX0_isInAt_0 : cX0_isInAt.data.toList.drop 0 = dktX0_isInAt_0 := by decide +kernel
theorem dksX0_isInAt_1 : cX0_isInAt.data.toList.drop 24 = dktX0_isInAt_1 := dk_seg dksX0_isInAt_0 24 rfl rfl
theorem dksX0_isInAt_2 : cX0_isInAt.data.toList.drop 47 = dktX0_isInAt_2 := dk_seg dksX0_isInAt_1 23 rfl rfl
theorem dX0_isInAt_0 : decode cX0_isInAt 0 = .ok (.aload_n 0, 1) := dk_42 (dk_at dksX0_isInAt_0 0 rfl rfl)
theorem dX0_isInAt_1 : decode cX0_isInAt 1 = .ok (.getfield 32, 3) := dk_180 0 32 (dk_at dksX0_isInAt_0 1 rfl rfl)
theorem dX0_isInAt_4 : decode cX0_isInAt 4 = .ok (.iload_n 1, 1) := dk_27 (dk_at dksX0_isInAt_0 4 rfl rfl)
theorem dX0_isInAt_5 : decode cX0_isInAt 5 = .ok (.aaload, 1) := dk_50 (dk_at dksX0_isInAt_0 5 rfl rfl)
theorem dX0_isInAt_6 : decode cX0_isInAt 6 = .ok (.getfield 190, 3) := dk_180 0 190 (dk_at dksX0_isInAt_0 6 rfl rfl)
theorem dX0_isInAt_9 : decode cX0_isInAt 9 = .ok (.istore_n 3, 1) := dk_62 (dk_at dksX0_isInAt_0 9 rfl rfl)
theorem dX0_isInAt_10 : decode cX0_isInAt 10 = .ok (.aload_n 0, 1) := dk_42 (dk_at dksX0_isInAt_0 10 rfl rfl)
theorem dX0_isInAt_11 : decode cX0_isInAt 11 = .ok (.getfield 32, 3) := dk_180 0 32 (dk_at dksX0_isInAt_0 11 rfl rfl)
theorem dX0_isInAt_14 : decode cX0_isInAt 14 = .ok (.iload_n 1, 1) := dk_27 (dk_at dksX0_isInAt_0 14 rfl rfl)
theorem dX0_isInAt_15 : decode cX0_isInAt 15 = .ok (.aaload, 1) := dk_50 (dk_at dksX0_isInAt_0 15 rfl rfl)
theorem dX0_isInAt_16 : decode cX0_isInAt 16 = .ok (.iload_n 2, 1) := dk_28 (dk_at dksX0_isInAt_0 16 rfl rfl)
theorem dX0_isInAt_17 : decode cX0_isInAt 17 = .ok (.putfield 190, 3) := dk_181 0 190 (dk_at dksX0_isInAt_0 17 rfl rfl)
theorem dX0_isInAt_20 : decode cX0_isInAt 20 = .ok (.aload_n 0, 1) := dk_42 (dk_at dksX0_isInAt_0 20 rfl rfl)
theorem dX0_isInAt_21 : decode cX0_isInAt 21 = .ok (.invokevirtual 206, 3) := dk_182 0 206 (dk_at dksX0_isInAt_0 21 rfl rfl)
theorem dX0_isInAt_24 : decode cX0_isInAt 24 = .ok (.aload_n 0, 1) := dk_42 (dk_at dksX0_isInAt_1 0 rfl rfl)
theorem dX0_isInAt_25 : decode cX0_isInAt 25 = .ok (.getfield 52, 3) := dk_180 0 52 (dk_at dksX0_isInAt_1 1 rfl rfl)
theorem dX0_isInAt_28 : decode cX0_isInAt 28 = .ok (.iload_n 1, 1) := dk_27 (dk_at dksX0_isInAt_1 4 rfl rfl)
theorem dX0_isInAt_29 : decode cX0_isInAt 29 = .ok (.invokevirtual 215, 3) := dk_182 0 215 (dk_at dksX0_isInAt_1 5 rfl rfl)
theorem dX0_isInAt_32 : decode cX0_isInAt 32 = .ok (.istore 4, 2) := dk_54 4 (dk_at dksX0_isInAt_1 8 rfl rfl)
theorem dX0_isInAt_34 : decode cX0_isInAt 34 = .ok (.aload_n 0, 1) := dk_42 (dk_at dksX0_isInAt_1 10 rfl rfl)
theorem dX0_isInAt_35 : decode cX0_isInAt 35 = .ok (.getfield 32, 3) := dk_180 0 32 (dk_at dksX0_isInAt_1 11 rfl rfl)
theorem dX0_isInAt_38 : decode cX0_isInAt 38 = .ok (.iload_n 1, 1) := dk_27 (dk_at dksX0_isInAt_1 14 rfl rfl)
theorem dX0_isInAt_39 : decode cX0_isInAt 39 = .ok (.aaload, 1) := dk_50 (dk_at dksX0_isInAt_1 15 rfl rfl)
theorem dX0_isInAt_40 : decode cX0_isInAt 40 = .ok (.iload_n 3, 1) := dk_29 (dk_at dksX0_isInAt_1 16 rfl rfl)
theorem dX0_isInAt_41 : decode cX0_isInAt 41 = .ok (.putfield 190, 3) := dk_181 0 190 (dk_at dksX0_isInAt_1 17 rfl rfl)
theorem dX0_isInAt_44 : decode cX0_isInAt 44 = .ok (.iload 4, 2) := dk_21 4 (dk_at dksX0_isInAt_1 20 rfl rfl)
theorem dX0_isInAt_46 : decode cX0_isInAt 46 = .ok (.ireturn, 1) := dk_172 (dk_at dksX0_isInAt_1 22 rfl rfl)
theorem dX0_isInAt_47 : decode cX0_isInAt 47 = .ok (.astore 5, 2) := dk_58 5 (dk_at dksX0_isInAt_2 0 rfl rfl)
theorem dX0_isInAt_49 : decode cX0_isInAt 49 = .ok (.aload_n 0, 1) := dk_42 (dk_at dksX0_isInAt_2 2 rfl rfl)
theorem dX0_isInAt_50 : decode cX0_isInAt 50 = .ok (.getfield 32, 3) := dk_180 0 32 (dk_at dksX0_isInAt_2 3 rfl rfl)
theorem dX0_isInAt_53 : decode cX0_isInAt 53 = .ok (.iload_n 1, 1) := dk_27 (dk_at dksX0_isInAt_2 6 rfl rfl)
theorem dX0_isInAt_54 : decode cX0_isInAt 54 = .ok (.aaload, 1) := dk_50 (dk_at dksX0_isInAt_2 7 rfl rfl)
theorem dX0_isInAt_55 : decode cX0_isInAt 55 = .ok (.iload_n 3, 1) := dk_29 (dk_at dksX0_isInAt_2 8 rfl rfl)
theorem dX0_isInAt_56 : decode cX0_isInAt 56 = .ok (.putfield 190, 3) := dk_181 0 190 (dk_at dksX0_isInAt_2 9 rfl rfl)
theorem dX0_isInAt_59 : decode cX0_isInAt 59 = .ok (.aload 5, 2) := dk_25 5 (dk_at dksX0_isInAt_2 12 rfl rfl)
theorem dX0_isInAt_61 : decode cX0_isInAt 61 = .ok (.athrow, 1) := dk_191 (dk_at dksX0_isInAt_2 14 rfl rfl)
abbrev cX0_empty : ByteArray := prog_1_method_35_code
def yX0_empty : MethodName := ⟨RX0, "empty", "(I)I"⟩
def dkwX0_empty_5 : List UInt8 := [184, 0, 228, 61, 132, 4, 1, 167, 255, 178, 132, 3, 1, 167, 255, 161, 28, 172]
abbrev dktX0_empty_5 : List UInt8 := dkwX0_empty_5 ++ []
def dkwX0_empty_4 : List UInt8 := [180, 0, 32, 29, 50, 180, 0, 199, 21, 4, 46, 182, 0, 241, 153, 0, 7, 5, 167, 0, 4, 6]
abbrev dktX0_empty_4 : List UInt8 := dkwX0_empty_4 ++ dktX0_empty_5
def dkwX0_empty_3 : List UInt8 := [42, 180, 0, 32, 29, 50, 180, 0, 199, 21, 4, 46, 27, 122, 4, 126, 4, 160, 0, 33, 28, 42, 29, 42]
abbrev dktX0_empty_3 : List UInt8 := dkwX0_empty_3 ++ dktX0_empty_4
def dkwX0_empty_2 : List UInt8 := [180, 0, 52, 29, 182, 0, 215, 154, 0, 73, 21, 4, 42, 180, 0, 32, 29, 50, 180, 0, 196, 162, 0, 59]
abbrev dktX0_empty_2 : List UInt8 := dkwX0_empty_2 ++ dktX0_empty_3
def dkwX0_empty_1 : List UInt8 := [4, 126, 4, 160, 0, 5, 3, 172, 4, 61, 3, 62, 29, 42, 180, 0, 153, 162, 0, 93, 3, 54, 4, 42]
abbrev dktX0_empty_1 : List UInt8 := dkwX0_empty_1 ++ dktX0_empty_2
def dkwX0_empty_0 : List UInt8 := [42, 27, 182, 0, 116, 154, 0, 6, 16, 254, 172, 42, 182, 0, 206, 42, 180, 0, 52, 180, 0, 212, 27, 122]
abbrev dktX0_empty_0 : List UInt8 := dkwX0_empty_0 ++ dktX0_empty_1
theorem dksX0_empty_0 : cX0_empty.data.toList.drop 0 = dktX0_empty_0 := by decide +kernel
theorem dksX0_empty_1 : cX0_empty.data.toList.drop 24 = dktX0_empty_1 := dk_seg dksX0_empty_0 24 rfl rfl
theorem dksX0_empty_2 : cX0_empty.data.toList.drop 48 = dktX0_empty_2 := dk_seg dksX0_empty_1 24 rfl rfl
theorem dksX0_empty_3 : cX0_empty.data.toList.drop 72 = dktX0_empty_3 := dk_seg dksX0_empty_2 24 rfl rfl
theorem dksX0_empty_4 : cX0_empty.data.toList.drop 96 = dktX0_empty_4 := dk_seg dksX0_empty_3 24 rfl rfl
theorem dksX0_empty_5 : cX0_empty.data.toList.drop 118 = dktX0_empty_5 := dk_seg dksX0_empty_4 22 rfl rfl
theorem dX0_empty_0 : decode cX0_empty 0 = .ok (.aload_n 0, 1) := dk_42 (dk_at dksX0_empty_0 0 rfl rfl)
theorem dX0_empty_1 : decode cX0_empty 1 = .ok (.iload_n 1, 1) := dk_27 (dk_at dksX0_empty_0 1 rfl rfl)
theorem dX0_empty_2 : decode cX0_empty 2 = .ok (.invokevirtual 116, 3) := dk_182 0 116 (dk_at dksX0_empty_0 2 rfl rfl)
theorem dX0_empty_5 : decode cX0_empty 5 = .ok (.ifCond .ne 6, 3) := dk_154 0 6 (dk_at dksX0_empty_0 5 rfl rfl)
theorem dX0_empty_8 : decode cX0_empty 8 = .ok (.bipush (-2), 2) := dk_16 254 (dk_at dksX0_empty_0 8 rfl rfl)
theorem dX0_empty_10 : decode cX0_empty 10 = .ok (.ireturn, 1) := dk_172 (dk_at dksX0_empty_0 10 rfl rfl)
theorem dX0_empty_11 : decode cX0_empty 11 = .ok (.aload_n 0, 1) := dk_42 (dk_at dksX0_empty_0 11 rfl rfl)
theorem dX0_empty_12 : decode cX0_empty 12 = .ok (.invokevirtual 206, 3) := dk_182 0 206 (dk_at dksX0_empty_0 12 rfl rfl)
theorem dX0_empty_15 : decode cX0_empty 15 = .ok (.aload_n 0, 1) := dk_42 (dk_at dksX0_empty_0 15 rfl rfl)
theorem dX0_empty_16 : decode cX0_empty 16 = .ok (.getfield 52, 3) := dk_180 0 52 (dk_at dksX0_empty_0 16 rfl rfl)
theorem dX0_empty_19 : decode cX0_empty 19 = .ok (.getfield 212, 3) := dk_180 0 212 (dk_at dksX0_empty_0 19 rfl rfl)
theorem dX0_empty_22 : decode cX0_empty 22 = .ok (.iload_n 1, 1) := dk_27 (dk_at dksX0_empty_0 22 rfl rfl)
theorem dX0_empty_23 : decode cX0_empty 23 = .ok (.ishr, 1) := dk_122 (dk_at dksX0_empty_0 23 rfl rfl)
theorem dX0_empty_24 : decode cX0_empty 24 = .ok (.iconst 1, 1) := dk_4 (dk_at dksX0_empty_1 0 rfl rfl)
theorem dX0_empty_25 : decode cX0_empty 25 = .ok (.iand, 1) := dk_126 (dk_at dksX0_empty_1 1 rfl rfl)
theorem dX0_empty_26 : decode cX0_empty 26 = .ok (.iconst 1, 1) := dk_4 (dk_at dksX0_empty_1 2 rfl rfl)
theorem dX0_empty_27 : decode cX0_empty 27 = .ok (.if_icmp .ne 5, 3) := dk_160 0 5 (dk_at dksX0_empty_1 3 rfl rfl)
theorem dX0_empty_30 : decode cX0_empty 30 = .ok (.iconst 0, 1) := dk_3 (dk_at dksX0_empty_1 6 rfl rfl)
theorem dX0_empty_31 : decode cX0_empty 31 = .ok (.ireturn, 1) := dk_172 (dk_at dksX0_empty_1 7 rfl rfl)
theorem dX0_empty_32 : decode cX0_empty 32 = .ok (.iconst 1, 1) := dk_4 (dk_at dksX0_empty_1 8 rfl rfl)
theorem dX0_empty_33 : decode cX0_empty 33 = .ok (.istore_n 2, 1) := dk_61 (dk_at dksX0_empty_1 9 rfl rfl)
theorem dX0_empty_34 : decode cX0_empty 34 = .ok (.iconst 0, 1) := dk_3 (dk_at dksX0_empty_1 10 rfl rfl)
theorem dX0_empty_35 : decode cX0_empty 35 = .ok (.istore_n 3, 1) := dk_62 (dk_at dksX0_empty_1 11 rfl rfl)
theorem dX0_empty_36 : decode cX0_empty 36 = .ok (.iload_n 3, 1) := dk_29 (dk_at dksX0_empty_1 12 rfl rfl)
theorem dX0_empty_37 : decode cX0_empty 37 = .ok (.aload_n 0, 1) := dk_42 (dk_at dksX0_empty_1 13 rfl rfl)
theorem dX0_empty_38 : decode cX0_empty 38 = .ok (.getfield 153, 3) := dk_180 0 153 (dk_at dksX0_empty_1 14 rfl rfl)
theorem dX0_empty_41 : decode cX0_empty 41 = .ok (.if_icmp .ge 93, 3) := dk_162 0 93 (dk_at dksX0_empty_1 17 rfl rfl)
theorem dX0_empty_44 : decode cX0_empty 44 = .ok (.iconst 0, 1) := dk_3 (dk_at dksX0_empty_1 20 rfl rfl)
theorem dX0_empty_45 : decode cX0_empty 45 = .ok (.istore 4, 2) := dk_54 4 (dk_at dksX0_empty_1 21 rfl rfl)
theorem dX0_empty_47 : decode cX0_empty 47 = .ok (.aload_n 0, 1) := dk_42 (dk_at dksX0_empty_1 23 rfl rfl)
theorem dX0_empty_48 : decode cX0_empty 48 = .ok (.getfield 52, 3) := dk_180 0 52 (dk_at dksX0_empty_2 0 rfl rfl)
theorem dX0_empty_51 : decode cX0_empty 51 = .ok (.iload_n 3, 1) := dk_29 (dk_at dksX0_empty_2 3 rfl rfl)
theorem dX0_empty_52 : decode cX0_empty 52 = .ok (.invokevirtual 215, 3) := dk_182 0 215 (dk_at dksX0_empty_2 4 rfl rfl)
theorem dX0_empty_55 : decode cX0_empty 55 = .ok (.ifCond .ne 73, 3) := dk_154 0 73 (dk_at dksX0_empty_2 7 rfl rfl)
theorem dX0_empty_58 : decode cX0_empty 58 = .ok (.iload 4, 2) := dk_21 4 (dk_at dksX0_empty_2 10 rfl rfl)
theorem dX0_empty_60 : decode cX0_empty 60 = .ok (.aload_n 0, 1) := dk_42 (dk_at dksX0_empty_2 12 rfl rfl)
theorem dX0_empty_61 : decode cX0_empty 61 = .ok (.getfield 32, 3) := dk_180 0 32 (dk_at dksX0_empty_2 13 rfl rfl)
theorem dX0_empty_64 : decode cX0_empty 64 = .ok (.iload_n 3, 1) := dk_29 (dk_at dksX0_empty_2 16 rfl rfl)
theorem dX0_empty_65 : decode cX0_empty 65 = .ok (.aaload, 1) := dk_50 (dk_at dksX0_empty_2 17 rfl rfl)
theorem dX0_empty_66 : decode cX0_empty 66 = .ok (.getfield 196, 3) := dk_180 0 196 (dk_at dksX0_empty_2 18 rfl rfl)
theorem dX0_empty_69 : decode cX0_empty 69 = .ok (.if_icmp .ge 59, 3) := dk_162 0 59 (dk_at dksX0_empty_2 21 rfl rfl)
theorem dX0_empty_72 : decode cX0_empty 72 = .ok (.aload_n 0, 1) := dk_42 (dk_at dksX0_empty_3 0 rfl rfl)
theorem dX0_empty_73 : decode cX0_empty 73 = .ok (.getfield 32, 3) := dk_180 0 32 (dk_at dksX0_empty_3 1 rfl rfl)
theorem dX0_empty_76 : decode cX0_empty 76 = .ok (.iload_n 3, 1) := dk_29 (dk_at dksX0_empty_3 4 rfl rfl)
theorem dX0_empty_77 : decode cX0_empty 77 = .ok (.aaload, 1) := dk_50 (dk_at dksX0_empty_3 5 rfl rfl)
theorem dX0_empty_78 : decode cX0_empty 78 = .ok (.getfield 199, 3) := dk_180 0 199 (dk_at dksX0_empty_3 6 rfl rfl)
theorem dX0_empty_81 : decode cX0_empty 81 = .ok (.iload 4, 2) := dk_21 4 (dk_at dksX0_empty_3 9 rfl rfl)
theorem dX0_empty_83 : decode cX0_empty 83 = .ok (.iaload, 1) := dk_46 (dk_at dksX0_empty_3 11 rfl rfl)
theorem dX0_empty_84 : decode cX0_empty 84 = .ok (.iload_n 1, 1) := dk_27 (dk_at dksX0_empty_3 12 rfl rfl)
theorem dX0_empty_85 : decode cX0_empty 85 = .ok (.ishr, 1) := dk_122 (dk_at dksX0_empty_3 13 rfl rfl)
theorem dX0_empty_86 : decode cX0_empty 86 = .ok (.iconst 1, 1) := dk_4 (dk_at dksX0_empty_3 14 rfl rfl)
theorem dX0_empty_87 : decode cX0_empty 87 = .ok (.iand, 1) := dk_126 (dk_at dksX0_empty_3 15 rfl rfl)
theorem dX0_empty_88 : decode cX0_empty 88 = .ok (.iconst 1, 1) := dk_4 (dk_at dksX0_empty_3 16 rfl rfl)
theorem dX0_empty_89 : decode cX0_empty 89 = .ok (.if_icmp .ne 33, 3) := dk_160 0 33 (dk_at dksX0_empty_3 17 rfl rfl)
theorem dX0_empty_92 : decode cX0_empty 92 = .ok (.iload_n 2, 1) := dk_28 (dk_at dksX0_empty_3 20 rfl rfl)
theorem dX0_empty_93 : decode cX0_empty 93 = .ok (.aload_n 0, 1) := dk_42 (dk_at dksX0_empty_3 21 rfl rfl)
theorem dX0_empty_94 : decode cX0_empty 94 = .ok (.iload_n 3, 1) := dk_29 (dk_at dksX0_empty_3 22 rfl rfl)
theorem dX0_empty_95 : decode cX0_empty 95 = .ok (.aload_n 0, 1) := dk_42 (dk_at dksX0_empty_3 23 rfl rfl)
theorem dX0_empty_96 : decode cX0_empty 96 = .ok (.getfield 32, 3) := dk_180 0 32 (dk_at dksX0_empty_4 0 rfl rfl)
theorem dX0_empty_99 : decode cX0_empty 99 = .ok (.iload_n 3, 1) := dk_29 (dk_at dksX0_empty_4 3 rfl rfl)
theorem dX0_empty_100 : decode cX0_empty 100 = .ok (.aaload, 1) := dk_50 (dk_at dksX0_empty_4 4 rfl rfl)
theorem dX0_empty_101 : decode cX0_empty 101 = .ok (.getfield 199, 3) := dk_180 0 199 (dk_at dksX0_empty_4 5 rfl rfl)
theorem dX0_empty_104 : decode cX0_empty 104 = .ok (.iload 4, 2) := dk_21 4 (dk_at dksX0_empty_4 8 rfl rfl)
theorem dX0_empty_106 : decode cX0_empty 106 = .ok (.iaload, 1) := dk_46 (dk_at dksX0_empty_4 10 rfl rfl)
theorem dX0_empty_107 : decode cX0_empty 107 = .ok (.invokevirtual 241, 3) := dk_182 0 241 (dk_at dksX0_empty_4 11 rfl rfl)
theorem dX0_empty_110 : decode cX0_empty 110 = .ok (.ifCond .eq 7, 3) := dk_153 0 7 (dk_at dksX0_empty_4 14 rfl rfl)
theorem dX0_empty_113 : decode cX0_empty 113 = .ok (.iconst 2, 1) := dk_5 (dk_at dksX0_empty_4 17 rfl rfl)
theorem dX0_empty_114 : decode cX0_empty 114 = .ok (.goto 4, 3) := dk_167 0 4 (dk_at dksX0_empty_4 18 rfl rfl)
theorem dX0_empty_117 : decode cX0_empty 117 = .ok (.iconst 3, 1) := dk_6 (dk_at dksX0_empty_4 21 rfl rfl)
theorem dX0_empty_118 : decode cX0_empty 118 = .ok (.invokestatic 228, 3) := dk_184 0 228 (dk_at dksX0_empty_5 0 rfl rfl)
theorem dX0_empty_121 : decode cX0_empty 121 = .ok (.istore_n 2, 1) := dk_61 (dk_at dksX0_empty_5 3 rfl rfl)
theorem dX0_empty_122 : decode cX0_empty 122 = .ok (.iinc 4 1, 3) := dk_132 4 1 (dk_at dksX0_empty_5 4 rfl rfl)
theorem dX0_empty_125 : decode cX0_empty 125 = .ok (.goto (-78), 3) := dk_167 255 178 (dk_at dksX0_empty_5 7 rfl rfl)
theorem dX0_empty_128 : decode cX0_empty 128 = .ok (.iinc 3 1, 3) := dk_132 3 1 (dk_at dksX0_empty_5 10 rfl rfl)
theorem dX0_empty_131 : decode cX0_empty 131 = .ok (.goto (-95), 3) := dk_167 255 161 (dk_at dksX0_empty_5 13 rfl rfl)
theorem dX0_empty_134 : decode cX0_empty 134 = .ok (.iload_n 2, 1) := dk_28 (dk_at dksX0_empty_5 16 rfl rfl)
theorem dX0_empty_135 : decode cX0_empty 135 = .ok (.ireturn, 1) := dk_172 (dk_at dksX0_empty_5 17 rfl rfl)
abbrev cX0_meets : ByteArray := prog_1_method_36_code
def yX0_meets : MethodName := ⟨RX0, "meets", "(II)Z"⟩
def dkwX0_meets_4 : List UInt8 := [167, 0, 4, 3, 62, 132, 4, 1, 167, 255, 163, 29, 172]
abbrev dktX0_meets_4 : List UInt8 := dkwX0_meets_4 ++ []
def dkwX0_meets_3 : List UInt8 := [21, 4, 50, 180, 0, 199, 42, 180, 0, 52, 180, 0, 218, 21, 4, 46, 46, 126, 153, 0, 7, 4]
abbrev dktX0_meets_3 : List UInt8 := dkwX0_meets_3 ++ dktX0_meets_4
def dkwX0_meets_2 : List UInt8 := [160, 0, 7, 28, 167, 0, 7, 28, 184, 0, 244, 54, 5, 29, 154, 0, 30, 21, 5, 42, 180, 0, 32]
abbrev dktX0_meets_2 : List UInt8 := dkwX0_meets_2 ++ dktX0_meets_3
def dkwX0_meets_1 : List UInt8 := [153, 0, 72, 42, 180, 0, 32, 21, 4, 50, 180, 0, 221, 42, 180, 0, 32, 27, 50, 180, 0, 221]
abbrev dktX0_meets_1 : List UInt8 := dkwX0_meets_1 ++ dktX0_meets_2
def dkwX0_meets_0 : List UInt8 := [3, 62, 3, 54, 4, 21, 4, 42, 180, 0, 153, 162, 0, 90, 42, 180, 0, 52, 21, 4, 182, 0, 215]
abbrev dktX0_meets_0 : List UInt8 := dkwX0_meets_0 ++ dktX0_meets_1
theorem dksX0_meets_0 : cX0_meets.data.toList.drop 0 = dktX0_meets_0 := by decide +kernel
theorem dksX0_meets_1 : cX0_meets.data.toList.drop 23 = dktX0_meets_1 := dk_seg dksX0_meets_0 23 rfl rfl
theorem dksX0_meets_2 : cX0_meets.data.toList.drop 45 = dktX0_meets_2 := dk_seg dksX0_meets_1 22 rfl rfl
theorem dksX0_meets_3 : cX0_meets.data.toList.drop 68 = dktX0_meets_3 := dk_seg dksX0_meets_2 23 rfl rfl
theorem dksX0_meets_4 : cX0_meets.data.toList.drop 90 = dktX0_meets_4 := dk_seg dksX0_meets_3 22 rfl rfl
theorem dX0_meets_0 : decode cX0_meets 0 = .ok (.iconst 0, 1) := dk_3 (dk_at dksX0_meets_0 0 rfl rfl)
theorem dX0_meets_1 : decode cX0_meets 1 = .ok (.istore_n 3, 1) := dk_62 (dk_at dksX0_meets_0 1 rfl rfl)
theorem dX0_meets_2 : decode cX0_meets 2 = .ok (.iconst 0, 1) := dk_3 (dk_at dksX0_meets_0 2 rfl rfl)
theorem dX0_meets_3 : decode cX0_meets 3 = .ok (.istore 4, 2) := dk_54 4 (dk_at dksX0_meets_0 3 rfl rfl)
theorem dX0_meets_5 : decode cX0_meets 5 = .ok (.iload 4, 2) := dk_21 4 (dk_at dksX0_meets_0 5 rfl rfl)
theorem dX0_meets_7 : decode cX0_meets 7 = .ok (.aload_n 0, 1) := dk_42 (dk_at dksX0_meets_0 7 rfl rfl)
theorem dX0_meets_8 : decode cX0_meets 8 = .ok (.getfield 153, 3) := dk_180 0 153 (dk_at dksX0_meets_0 8 rfl rfl)
theorem dX0_meets_11 : decode cX0_meets 11 = .ok (.if_icmp .ge 90, 3) := dk_162 0 90 (dk_at dksX0_meets_0 11 rfl rfl)
theorem dX0_meets_14 : decode cX0_meets 14 = .ok (.aload_n 0, 1) := dk_42 (dk_at dksX0_meets_0 14 rfl rfl)
theorem dX0_meets_15 : decode cX0_meets 15 = .ok (.getfield 52, 3) := dk_180 0 52 (dk_at dksX0_meets_0 15 rfl rfl)
theorem dX0_meets_18 : decode cX0_meets 18 = .ok (.iload 4, 2) := dk_21 4 (dk_at dksX0_meets_0 18 rfl rfl)
theorem dX0_meets_20 : decode cX0_meets 20 = .ok (.invokevirtual 215, 3) := dk_182 0 215 (dk_at dksX0_meets_0 20 rfl rfl)
theorem dX0_meets_23 : decode cX0_meets 23 = .ok (.ifCond .eq 72, 3) := dk_153 0 72 (dk_at dksX0_meets_1 0 rfl rfl)
theorem dX0_meets_26 : decode cX0_meets 26 = .ok (.aload_n 0, 1) := dk_42 (dk_at dksX0_meets_1 3 rfl rfl)
theorem dX0_meets_27 : decode cX0_meets 27 = .ok (.getfield 32, 3) := dk_180 0 32 (dk_at dksX0_meets_1 4 rfl rfl)
theorem dX0_meets_30 : decode cX0_meets 30 = .ok (.iload 4, 2) := dk_21 4 (dk_at dksX0_meets_1 7 rfl rfl)
theorem dX0_meets_32 : decode cX0_meets 32 = .ok (.aaload, 1) := dk_50 (dk_at dksX0_meets_1 9 rfl rfl)
theorem dX0_meets_33 : decode cX0_meets 33 = .ok (.getfield 221, 3) := dk_180 0 221 (dk_at dksX0_meets_1 10 rfl rfl)
theorem dX0_meets_36 : decode cX0_meets 36 = .ok (.aload_n 0, 1) := dk_42 (dk_at dksX0_meets_1 13 rfl rfl)
theorem dX0_meets_37 : decode cX0_meets 37 = .ok (.getfield 32, 3) := dk_180 0 32 (dk_at dksX0_meets_1 14 rfl rfl)
theorem dX0_meets_40 : decode cX0_meets 40 = .ok (.iload_n 1, 1) := dk_27 (dk_at dksX0_meets_1 17 rfl rfl)
theorem dX0_meets_41 : decode cX0_meets 41 = .ok (.aaload, 1) := dk_50 (dk_at dksX0_meets_1 18 rfl rfl)
theorem dX0_meets_42 : decode cX0_meets 42 = .ok (.getfield 221, 3) := dk_180 0 221 (dk_at dksX0_meets_1 19 rfl rfl)
theorem dX0_meets_45 : decode cX0_meets 45 = .ok (.if_icmp .ne 7, 3) := dk_160 0 7 (dk_at dksX0_meets_2 0 rfl rfl)
theorem dX0_meets_48 : decode cX0_meets 48 = .ok (.iload_n 2, 1) := dk_28 (dk_at dksX0_meets_2 3 rfl rfl)
theorem dX0_meets_49 : decode cX0_meets 49 = .ok (.goto 7, 3) := dk_167 0 7 (dk_at dksX0_meets_2 4 rfl rfl)
theorem dX0_meets_52 : decode cX0_meets 52 = .ok (.iload_n 2, 1) := dk_28 (dk_at dksX0_meets_2 7 rfl rfl)
theorem dX0_meets_53 : decode cX0_meets 53 = .ok (.invokestatic 244, 3) := dk_184 0 244 (dk_at dksX0_meets_2 8 rfl rfl)
theorem dX0_meets_56 : decode cX0_meets 56 = .ok (.istore 5, 2) := dk_54 5 (dk_at dksX0_meets_2 11 rfl rfl)
theorem dX0_meets_58 : decode cX0_meets 58 = .ok (.iload_n 3, 1) := dk_29 (dk_at dksX0_meets_2 13 rfl rfl)
theorem dX0_meets_59 : decode cX0_meets 59 = .ok (.ifCond .ne 30, 3) := dk_154 0 30 (dk_at dksX0_meets_2 14 rfl rfl)
theorem dX0_meets_62 : decode cX0_meets 62 = .ok (.iload 5, 2) := dk_21 5 (dk_at dksX0_meets_2 17 rfl rfl)
theorem dX0_meets_64 : decode cX0_meets 64 = .ok (.aload_n 0, 1) := dk_42 (dk_at dksX0_meets_2 19 rfl rfl)
theorem dX0_meets_65 : decode cX0_meets 65 = .ok (.getfield 32, 3) := dk_180 0 32 (dk_at dksX0_meets_2 20 rfl rfl)
theorem dX0_meets_68 : decode cX0_meets 68 = .ok (.iload 4, 2) := dk_21 4 (dk_at dksX0_meets_3 0 rfl rfl)
theorem dX0_meets_70 : decode cX0_meets 70 = .ok (.aaload, 1) := dk_50 (dk_at dksX0_meets_3 2 rfl rfl)
theorem dX0_meets_71 : decode cX0_meets 71 = .ok (.getfield 199, 3) := dk_180 0 199 (dk_at dksX0_meets_3 3 rfl rfl)
theorem dX0_meets_74 : decode cX0_meets 74 = .ok (.aload_n 0, 1) := dk_42 (dk_at dksX0_meets_3 6 rfl rfl)
theorem dX0_meets_75 : decode cX0_meets 75 = .ok (.getfield 52, 3) := dk_180 0 52 (dk_at dksX0_meets_3 7 rfl rfl)
theorem dX0_meets_78 : decode cX0_meets 78 = .ok (.getfield 218, 3) := dk_180 0 218 (dk_at dksX0_meets_3 10 rfl rfl)
theorem dX0_meets_81 : decode cX0_meets 81 = .ok (.iload 4, 2) := dk_21 4 (dk_at dksX0_meets_3 13 rfl rfl)
theorem dX0_meets_83 : decode cX0_meets 83 = .ok (.iaload, 1) := dk_46 (dk_at dksX0_meets_3 15 rfl rfl)
theorem dX0_meets_84 : decode cX0_meets 84 = .ok (.iaload, 1) := dk_46 (dk_at dksX0_meets_3 16 rfl rfl)
theorem dX0_meets_85 : decode cX0_meets 85 = .ok (.iand, 1) := dk_126 (dk_at dksX0_meets_3 17 rfl rfl)
theorem dX0_meets_86 : decode cX0_meets 86 = .ok (.ifCond .eq 7, 3) := dk_153 0 7 (dk_at dksX0_meets_3 18 rfl rfl)
theorem dX0_meets_89 : decode cX0_meets 89 = .ok (.iconst 1, 1) := dk_4 (dk_at dksX0_meets_3 21 rfl rfl)
theorem dX0_meets_90 : decode cX0_meets 90 = .ok (.goto 4, 3) := dk_167 0 4 (dk_at dksX0_meets_4 0 rfl rfl)
theorem dX0_meets_93 : decode cX0_meets 93 = .ok (.iconst 0, 1) := dk_3 (dk_at dksX0_meets_4 3 rfl rfl)
theorem dX0_meets_94 : decode cX0_meets 94 = .ok (.istore_n 3, 1) := dk_62 (dk_at dksX0_meets_4 4 rfl rfl)
theorem dX0_meets_95 : decode cX0_meets 95 = .ok (.iinc 4 1, 3) := dk_132 4 1 (dk_at dksX0_meets_4 5 rfl rfl)
theorem dX0_meets_98 : decode cX0_meets 98 = .ok (.goto (-93), 3) := dk_167 255 163 (dk_at dksX0_meets_4 8 rfl rfl)
theorem dX0_meets_101 : decode cX0_meets 101 = .ok (.iload_n 3, 1) := dk_29 (dk_at dksX0_meets_4 11 rfl rfl)
theorem dX0_meets_102 : decode cX0_meets 102 = .ok (.ireturn, 1) := dk_172 (dk_at dksX0_meets_4 12 rfl rfl)
abbrev cX0_again : ByteArray := prog_1_method_37_code
def yX0_again : MethodName := ⟨RX0, "again", "(I)I"⟩
def dkwX0_again_1 : List UInt8 := [172]
abbrev dktX0_again_1 : List UInt8 := dkwX0_again_1 ++ []
def dkwX0_again_0 : List UInt8 := [27, 133, 9, 10, 184, 0, 89, 154, 0, 6, 16, 253, 172, 42, 180, 0, 247, 61, 42, 27, 181, 0, 247, 28]
abbrev dktX0_again_0 : List UInt8 := dkwX0_again_0 ++ dktX0_again_1
theorem dksX0_again_0 : cX0_again.data.toList.drop 0 = dktX0_again_0 := by decide +kernel
theorem dksX0_again_1 : cX0_again.data.toList.drop 24 = dktX0_again_1 := dk_seg dksX0_again_0 24 rfl rfl
theorem dX0_again_0 : decode cX0_again 0 = .ok (.iload_n 1, 1) := dk_27 (dk_at dksX0_again_0 0 rfl rfl)
theorem dX0_again_1 : decode cX0_again 1 = .ok (.i2l, 1) := dk_133 (dk_at dksX0_again_0 1 rfl rfl)
theorem dX0_again_2 : decode cX0_again 2 = .ok (.lconst 0, 1) := dk_9 (dk_at dksX0_again_0 2 rfl rfl)
theorem dX0_again_3 : decode cX0_again 3 = .ok (.lconst 1, 1) := dk_10 (dk_at dksX0_again_0 3 rfl rfl)
theorem dX0_again_4 : decode cX0_again 4 = .ok (.invokestatic 89, 3) := dk_184 0 89 (dk_at dksX0_again_0 4 rfl rfl)
theorem dX0_again_7 : decode cX0_again 7 = .ok (.ifCond .ne 6, 3) := dk_154 0 6 (dk_at dksX0_again_0 7 rfl rfl)
theorem dX0_again_10 : decode cX0_again 10 = .ok (.bipush (-3), 2) := dk_16 253 (dk_at dksX0_again_0 10 rfl rfl)
theorem dX0_again_12 : decode cX0_again 12 = .ok (.ireturn, 1) := dk_172 (dk_at dksX0_again_0 12 rfl rfl)
theorem dX0_again_13 : decode cX0_again 13 = .ok (.aload_n 0, 1) := dk_42 (dk_at dksX0_again_0 13 rfl rfl)
theorem dX0_again_14 : decode cX0_again 14 = .ok (.getfield 247, 3) := dk_180 0 247 (dk_at dksX0_again_0 14 rfl rfl)
theorem dX0_again_17 : decode cX0_again 17 = .ok (.istore_n 2, 1) := dk_61 (dk_at dksX0_again_0 17 rfl rfl)
theorem dX0_again_18 : decode cX0_again 18 = .ok (.aload_n 0, 1) := dk_42 (dk_at dksX0_again_0 18 rfl rfl)
theorem dX0_again_19 : decode cX0_again 19 = .ok (.iload_n 1, 1) := dk_27 (dk_at dksX0_again_0 19 rfl rfl)
theorem dX0_again_20 : decode cX0_again 20 = .ok (.putfield 247, 3) := dk_181 0 247 (dk_at dksX0_again_0 20 rfl rfl)
theorem dX0_again_23 : decode cX0_again 23 = .ok (.iload_n 2, 1) := dk_28 (dk_at dksX0_again_0 23 rfl rfl)
theorem dX0_again_24 : decode cX0_again 24 = .ok (.ireturn, 1) := dk_172 (dk_at dksX0_again_1 0 rfl rfl)
abbrev cX0_watch : ByteArray := prog_1_method_39_code
def yX0_watch : MethodName := ⟨RX0, "watch", "(II)I"⟩
def dkwX0_watch_1 : List UInt8 := [180, 0, 74, 27, 28, 42, 180, 0, 9, 182, 0, 253, 42, 180, 0, 74, 182, 0, 254, 172]
abbrev dktX0_watch_1 : List UInt8 := dkwX0_watch_1 ++ []
def dkwX0_watch_0 : List UInt8 := [42, 28, 182, 0, 132, 154, 0, 6, 16, 254, 172, 42, 27, 182, 0, 250, 154, 0, 6, 16, 253, 172, 42]
abbrev dktX0_watch_0 : List UInt8 := dkwX0_watch_0 ++ dktX0_watch_1
theorem dksX0_watch_0 : cX0_watch.data.toList.drop 0 = dktX0_watch_0 := by decide +kernel
theorem dksX0_watch_1 : cX0_watch.data.toList.drop 23 = dktX0_watch_1 := dk_seg dksX0_watch_0 23 rfl rfl
theorem dX0_watch_0 : decode cX0_watch 0 = .ok (.aload_n 0, 1) := dk_42 (dk_at dksX0_watch_0 0 rfl rfl)
theorem dX0_watch_1 : decode cX0_watch 1 = .ok (.iload_n 2, 1) := dk_28 (dk_at dksX0_watch_0 1 rfl rfl)
theorem dX0_watch_2 : decode cX0_watch 2 = .ok (.invokevirtual 132, 3) := dk_182 0 132 (dk_at dksX0_watch_0 2 rfl rfl)
theorem dX0_watch_5 : decode cX0_watch 5 = .ok (.ifCond .ne 6, 3) := dk_154 0 6 (dk_at dksX0_watch_0 5 rfl rfl)
theorem dX0_watch_8 : decode cX0_watch 8 = .ok (.bipush (-2), 2) := dk_16 254 (dk_at dksX0_watch_0 8 rfl rfl)
theorem dX0_watch_10 : decode cX0_watch 10 = .ok (.ireturn, 1) := dk_172 (dk_at dksX0_watch_0 10 rfl rfl)
theorem dX0_watch_11 : decode cX0_watch 11 = .ok (.aload_n 0, 1) := dk_42 (dk_at dksX0_watch_0 11 rfl rfl)
theorem dX0_watch_12 : decode cX0_watch 12 = .ok (.iload_n 1, 1) := dk_27 (dk_at dksX0_watch_0 12 rfl rfl)
theorem dX0_watch_13 : decode cX0_watch 13 = .ok (.invokevirtual 250, 3) := dk_182 0 250 (dk_at dksX0_watch_0 13 rfl rfl)
theorem dX0_watch_16 : decode cX0_watch 16 = .ok (.ifCond .ne 6, 3) := dk_154 0 6 (dk_at dksX0_watch_0 16 rfl rfl)
theorem dX0_watch_19 : decode cX0_watch 19 = .ok (.bipush (-3), 2) := dk_16 253 (dk_at dksX0_watch_0 19 rfl rfl)
theorem dX0_watch_21 : decode cX0_watch 21 = .ok (.ireturn, 1) := dk_172 (dk_at dksX0_watch_0 21 rfl rfl)
theorem dX0_watch_22 : decode cX0_watch 22 = .ok (.aload_n 0, 1) := dk_42 (dk_at dksX0_watch_0 22 rfl rfl)
theorem dX0_watch_23 : decode cX0_watch 23 = .ok (.getfield 74, 3) := dk_180 0 74 (dk_at dksX0_watch_1 0 rfl rfl)
theorem dX0_watch_26 : decode cX0_watch 26 = .ok (.iload_n 1, 1) := dk_27 (dk_at dksX0_watch_1 3 rfl rfl)
theorem dX0_watch_27 : decode cX0_watch 27 = .ok (.iload_n 2, 1) := dk_28 (dk_at dksX0_watch_1 4 rfl rfl)
theorem dX0_watch_28 : decode cX0_watch 28 = .ok (.aload_n 0, 1) := dk_42 (dk_at dksX0_watch_1 5 rfl rfl)
theorem dX0_watch_29 : decode cX0_watch 29 = .ok (.getfield 9, 3) := dk_180 0 9 (dk_at dksX0_watch_1 6 rfl rfl)
theorem dX0_watch_32 : decode cX0_watch 32 = .ok (.invokevirtual 253, 3) := dk_182 0 253 (dk_at dksX0_watch_1 9 rfl rfl)
theorem dX0_watch_35 : decode cX0_watch 35 = .ok (.aload_n 0, 1) := dk_42 (dk_at dksX0_watch_1 12 rfl rfl)
theorem dX0_watch_36 : decode cX0_watch 36 = .ok (.getfield 74, 3) := dk_180 0 74 (dk_at dksX0_watch_1 13 rfl rfl)
theorem dX0_watch_39 : decode cX0_watch 39 = .ok (.invokevirtual 254, 3) := dk_182 0 254 (dk_at dksX0_watch_1 16 rfl rfl)
theorem dX0_watch_42 : decode cX0_watch 42 = .ok (.ireturn, 1) := dk_172 (dk_at dksX0_watch_1 19 rfl rfl)
abbrev cX0_isRule : ByteArray := prog_1_method_38_code
def yX0_isRule : MethodName := ⟨RX0, "isRule", "(I)Z"⟩
def dkwX0_isRule_0 : List UInt8 := [27, 133, 9, 42, 180, 0, 67, 190, 4, 100, 133, 184, 0, 89, 172]
abbrev dktX0_isRule_0 : List UInt8 := dkwX0_isRule_0 ++ []
theorem dksX0_isRule_0 : cX0_isRule.data.toList.drop 0 = dktX0_isRule_0 := by decide +kernel
theorem dX0_isRule_0 : decode cX0_isRule 0 = .ok (.iload_n 1, 1) := dk_27 (dk_at dksX0_isRule_0 0 rfl rfl)
theorem dX0_isRule_1 : decode cX0_isRule 1 = .ok (.i2l, 1) := dk_133 (dk_at dksX0_isRule_0 1 rfl rfl)
theorem dX0_isRule_2 : decode cX0_isRule 2 = .ok (.lconst 0, 1) := dk_9 (dk_at dksX0_isRule_0 2 rfl rfl)
theorem dX0_isRule_3 : decode cX0_isRule 3 = .ok (.aload_n 0, 1) := dk_42 (dk_at dksX0_isRule_0 3 rfl rfl)
theorem dX0_isRule_4 : decode cX0_isRule 4 = .ok (.getfield 67, 3) := dk_180 0 67 (dk_at dksX0_isRule_0 4 rfl rfl)
theorem dX0_isRule_7 : decode cX0_isRule 7 = .ok (.arraylength, 1) := dk_190 (dk_at dksX0_isRule_0 7 rfl rfl)
theorem dX0_isRule_8 : decode cX0_isRule 8 = .ok (.iconst 1, 1) := dk_4 (dk_at dksX0_isRule_0 8 rfl rfl)
theorem dX0_isRule_9 : decode cX0_isRule 9 = .ok (.isub, 1) := dk_100 (dk_at dksX0_isRule_0 9 rfl rfl)
theorem dX0_isRule_10 : decode cX0_isRule 10 = .ok (.i2l, 1) := dk_133 (dk_at dksX0_isRule_0 10 rfl rfl)
theorem dX0_isRule_11 : decode cX0_isRule 11 = .ok (.invokestatic 89, 3) := dk_184 0 89 (dk_at dksX0_isRule_0 11 rfl rfl)
theorem dX0_isRule_14 : decode cX0_isRule 14 = .ok (.ireturn, 1) := dk_172 (dk_at dksX0_isRule_0 14 rfl rfl)
abbrev cX0_log : ByteArray := prog_1_method_40_code
def yX0_log : MethodName := ⟨RX0, "log", "(III)I"⟩
def dkwX0_log_2 : List UInt8 := [180, 1, 2, 29, 46, 172]
abbrev dktX0_log_2 : List UInt8 := dkwX0_log_2 ++ []
def dkwX0_log_1 : List UInt8 := [154, 0, 6, 16, 253, 172, 42, 180, 0, 74, 27, 28, 42, 180, 0, 9, 182, 0, 253, 42, 180, 0, 74]
abbrev dktX0_log_1 : List UInt8 := dkwX0_log_1 ++ dktX0_log_2
def dkwX0_log_0 : List UInt8 := [42, 29, 182, 0, 116, 153, 0, 11, 42, 28, 182, 0, 132, 154, 0, 6, 16, 254, 172, 42, 27, 182, 0, 250]
abbrev dktX0_log_0 : List UInt8 := dkwX0_log_0 ++ dktX0_log_1
theorem dksX0_log_0 : cX0_log.data.toList.drop 0 = dktX0_log_0 := by decide +kernel
theorem dksX0_log_1 : cX0_log.data.toList.drop 24 = dktX0_log_1 := dk_seg dksX0_log_0 24 rfl rfl
theorem dksX0_log_2 : cX0_log.data.toList.drop 47 = dktX0_log_2 := dk_seg dksX0_log_1 23 rfl rfl
theorem dX0_log_0 : decode cX0_log 0 = .ok (.aload_n 0, 1) := dk_42 (dk_at dksX0_log_0 0 rfl rfl)
theorem dX0_log_1 : decode cX0_log 1 = .ok (.iload_n 3, 1) := dk_29 (dk_at dksX0_log_0 1 rfl rfl)
theorem dX0_log_2 : decode cX0_log 2 = .ok (.invokevirtual 116, 3) := dk_182 0 116 (dk_at dksX0_log_0 2 rfl rfl)
theorem dX0_log_5 : decode cX0_log 5 = .ok (.ifCond .eq 11, 3) := dk_153 0 11 (dk_at dksX0_log_0 5 rfl rfl)
theorem dX0_log_8 : decode cX0_log 8 = .ok (.aload_n 0, 1) := dk_42 (dk_at dksX0_log_0 8 rfl rfl)
theorem dX0_log_9 : decode cX0_log 9 = .ok (.iload_n 2, 1) := dk_28 (dk_at dksX0_log_0 9 rfl rfl)
theorem dX0_log_10 : decode cX0_log 10 = .ok (.invokevirtual 132, 3) := dk_182 0 132 (dk_at dksX0_log_0 10 rfl rfl)
theorem dX0_log_13 : decode cX0_log 13 = .ok (.ifCond .ne 6, 3) := dk_154 0 6 (dk_at dksX0_log_0 13 rfl rfl)
theorem dX0_log_16 : decode cX0_log 16 = .ok (.bipush (-2), 2) := dk_16 254 (dk_at dksX0_log_0 16 rfl rfl)
theorem dX0_log_18 : decode cX0_log 18 = .ok (.ireturn, 1) := dk_172 (dk_at dksX0_log_0 18 rfl rfl)
theorem dX0_log_19 : decode cX0_log 19 = .ok (.aload_n 0, 1) := dk_42 (dk_at dksX0_log_0 19 rfl rfl)
theorem dX0_log_20 : decode cX0_log 20 = .ok (.iload_n 1, 1) := dk_27 (dk_at dksX0_log_0 20 rfl rfl)
theorem dX0_log_21 : decode cX0_log 21 = .ok (.invokevirtual 250, 3) := dk_182 0 250 (dk_at dksX0_log_0 21 rfl rfl)
theorem dX0_log_24 : decode cX0_log 24 = .ok (.ifCond .ne 6, 3) := dk_154 0 6 (dk_at dksX0_log_1 0 rfl rfl)
theorem dX0_log_27 : decode cX0_log 27 = .ok (.bipush (-3), 2) := dk_16 253 (dk_at dksX0_log_1 3 rfl rfl)
theorem dX0_log_29 : decode cX0_log 29 = .ok (.ireturn, 1) := dk_172 (dk_at dksX0_log_1 5 rfl rfl)
theorem dX0_log_30 : decode cX0_log 30 = .ok (.aload_n 0, 1) := dk_42 (dk_at dksX0_log_1 6 rfl rfl)
theorem dX0_log_31 : decode cX0_log 31 = .ok (.getfield 74, 3) := dk_180 0 74 (dk_at dksX0_log_1 7 rfl rfl)
theorem dX0_log_34 : decode cX0_log 34 = .ok (.iload_n 1, 1) := dk_27 (dk_at dksX0_log_1 10 rfl rfl)
theorem dX0_log_35 : decode cX0_log 35 = .ok (.iload_n 2, 1) := dk_28 (dk_at dksX0_log_1 11 rfl rfl)
theorem dX0_log_36 : decode cX0_log 36 = .ok (.aload_n 0, 1) := dk_42 (dk_at dksX0_log_1 12 rfl rfl)
theorem dX0_log_37 : decode cX0_log 37 = .ok (.getfield 9, 3) := dk_180 0 9 (dk_at dksX0_log_1 13 rfl rfl)
theorem dX0_log_40 : decode cX0_log 40 = .ok (.invokevirtual 253, 3) := dk_182 0 253 (dk_at dksX0_log_1 16 rfl rfl)
theorem dX0_log_43 : decode cX0_log 43 = .ok (.aload_n 0, 1) := dk_42 (dk_at dksX0_log_1 19 rfl rfl)
theorem dX0_log_44 : decode cX0_log 44 = .ok (.getfield 74, 3) := dk_180 0 74 (dk_at dksX0_log_1 20 rfl rfl)
theorem dX0_log_47 : decode cX0_log 47 = .ok (.getfield 258, 3) := dk_180 1 2 (dk_at dksX0_log_2 0 rfl rfl)
theorem dX0_log_50 : decode cX0_log 50 = .ok (.iload_n 3, 1) := dk_29 (dk_at dksX0_log_2 3 rfl rfl)
theorem dX0_log_51 : decode cX0_log 51 = .ok (.iaload, 1) := dk_46 (dk_at dksX0_log_2 4 rfl rfl)
theorem dX0_log_52 : decode cX0_log 52 = .ok (.ireturn, 1) := dk_172 (dk_at dksX0_log_2 5 rfl rfl)
abbrev cX0_state : ByteArray := prog_1_method_41_code
def yX0_state : MethodName := ⟨RX0, "state", "(IIII)I"⟩
def dkwX0_state_2 : List UInt8 := [180, 0, 74, 27, 28, 21, 4, 182, 0, 253, 42, 180, 0, 74, 180, 1, 5, 29, 46, 172]
abbrev dktX0_state_2 : List UInt8 := dkwX0_state_2 ++ []
def dkwX0_state_1 : List UInt8 := [153, 0, 18, 21, 4, 133, 9, 42, 180, 0, 9, 133, 184, 0, 89, 154, 0, 6, 16, 253, 172, 42]
abbrev dktX0_state_1 : List UInt8 := dkwX0_state_1 ++ dktX0_state_2
def dkwX0_state_0 : List UInt8 := [42, 29, 182, 0, 178, 153, 0, 11, 42, 28, 182, 0, 132, 154, 0, 6, 16, 254, 172, 42, 27, 182, 0, 250]
abbrev dktX0_state_0 : List UInt8 := dkwX0_state_0 ++ dktX0_state_1
theorem dksX0_state_0 : cX0_state.data.toList.drop 0 = dktX0_state_0 := by decide +kernel
theorem dksX0_state_1 : cX0_state.data.toList.drop 24 = dktX0_state_1 := dk_seg dksX0_state_0 24 rfl rfl
theorem dksX0_state_2 : cX0_state.data.toList.drop 46 = dktX0_state_2 := dk_seg dksX0_state_1 22 rfl rfl
theorem dX0_state_0 : decode cX0_state 0 = .ok (.aload_n 0, 1) := dk_42 (dk_at dksX0_state_0 0 rfl rfl)
theorem dX0_state_1 : decode cX0_state 1 = .ok (.iload_n 3, 1) := dk_29 (dk_at dksX0_state_0 1 rfl rfl)
theorem dX0_state_2 : decode cX0_state 2 = .ok (.invokevirtual 178, 3) := dk_182 0 178 (dk_at dksX0_state_0 2 rfl rfl)
theorem dX0_state_5 : decode cX0_state 5 = .ok (.ifCond .eq 11, 3) := dk_153 0 11 (dk_at dksX0_state_0 5 rfl rfl)
theorem dX0_state_8 : decode cX0_state 8 = .ok (.aload_n 0, 1) := dk_42 (dk_at dksX0_state_0 8 rfl rfl)
theorem dX0_state_9 : decode cX0_state 9 = .ok (.iload_n 2, 1) := dk_28 (dk_at dksX0_state_0 9 rfl rfl)
theorem dX0_state_10 : decode cX0_state 10 = .ok (.invokevirtual 132, 3) := dk_182 0 132 (dk_at dksX0_state_0 10 rfl rfl)
theorem dX0_state_13 : decode cX0_state 13 = .ok (.ifCond .ne 6, 3) := dk_154 0 6 (dk_at dksX0_state_0 13 rfl rfl)
theorem dX0_state_16 : decode cX0_state 16 = .ok (.bipush (-2), 2) := dk_16 254 (dk_at dksX0_state_0 16 rfl rfl)
theorem dX0_state_18 : decode cX0_state 18 = .ok (.ireturn, 1) := dk_172 (dk_at dksX0_state_0 18 rfl rfl)
theorem dX0_state_19 : decode cX0_state 19 = .ok (.aload_n 0, 1) := dk_42 (dk_at dksX0_state_0 19 rfl rfl)
theorem dX0_state_20 : decode cX0_state 20 = .ok (.iload_n 1, 1) := dk_27 (dk_at dksX0_state_0 20 rfl rfl)
theorem dX0_state_21 : decode cX0_state 21 = .ok (.invokevirtual 250, 3) := dk_182 0 250 (dk_at dksX0_state_0 21 rfl rfl)
theorem dX0_state_24 : decode cX0_state 24 = .ok (.ifCond .eq 18, 3) := dk_153 0 18 (dk_at dksX0_state_1 0 rfl rfl)
theorem dX0_state_27 : decode cX0_state 27 = .ok (.iload 4, 2) := dk_21 4 (dk_at dksX0_state_1 3 rfl rfl)
theorem dX0_state_29 : decode cX0_state 29 = .ok (.i2l, 1) := dk_133 (dk_at dksX0_state_1 5 rfl rfl)
theorem dX0_state_30 : decode cX0_state 30 = .ok (.lconst 0, 1) := dk_9 (dk_at dksX0_state_1 6 rfl rfl)
theorem dX0_state_31 : decode cX0_state 31 = .ok (.aload_n 0, 1) := dk_42 (dk_at dksX0_state_1 7 rfl rfl)
theorem dX0_state_32 : decode cX0_state 32 = .ok (.getfield 9, 3) := dk_180 0 9 (dk_at dksX0_state_1 8 rfl rfl)
theorem dX0_state_35 : decode cX0_state 35 = .ok (.i2l, 1) := dk_133 (dk_at dksX0_state_1 11 rfl rfl)
theorem dX0_state_36 : decode cX0_state 36 = .ok (.invokestatic 89, 3) := dk_184 0 89 (dk_at dksX0_state_1 12 rfl rfl)
theorem dX0_state_39 : decode cX0_state 39 = .ok (.ifCond .ne 6, 3) := dk_154 0 6 (dk_at dksX0_state_1 15 rfl rfl)
theorem dX0_state_42 : decode cX0_state 42 = .ok (.bipush (-3), 2) := dk_16 253 (dk_at dksX0_state_1 18 rfl rfl)
theorem dX0_state_44 : decode cX0_state 44 = .ok (.ireturn, 1) := dk_172 (dk_at dksX0_state_1 20 rfl rfl)
theorem dX0_state_45 : decode cX0_state 45 = .ok (.aload_n 0, 1) := dk_42 (dk_at dksX0_state_1 21 rfl rfl)
theorem dX0_state_46 : decode cX0_state 46 = .ok (.getfield 74, 3) := dk_180 0 74 (dk_at dksX0_state_2 0 rfl rfl)
theorem dX0_state_49 : decode cX0_state 49 = .ok (.iload_n 1, 1) := dk_27 (dk_at dksX0_state_2 3 rfl rfl)
theorem dX0_state_50 : decode cX0_state 50 = .ok (.iload_n 2, 1) := dk_28 (dk_at dksX0_state_2 4 rfl rfl)
theorem dX0_state_51 : decode cX0_state 51 = .ok (.iload 4, 2) := dk_21 4 (dk_at dksX0_state_2 5 rfl rfl)
theorem dX0_state_53 : decode cX0_state 53 = .ok (.invokevirtual 253, 3) := dk_182 0 253 (dk_at dksX0_state_2 7 rfl rfl)
theorem dX0_state_56 : decode cX0_state 56 = .ok (.aload_n 0, 1) := dk_42 (dk_at dksX0_state_2 10 rfl rfl)
theorem dX0_state_57 : decode cX0_state 57 = .ok (.getfield 74, 3) := dk_180 0 74 (dk_at dksX0_state_2 11 rfl rfl)
theorem dX0_state_60 : decode cX0_state 60 = .ok (.getfield 261, 3) := dk_180 1 5 (dk_at dksX0_state_2 14 rfl rfl)
theorem dX0_state_63 : decode cX0_state 63 = .ok (.iload_n 3, 1) := dk_29 (dk_at dksX0_state_2 17 rfl rfl)
theorem dX0_state_64 : decode cX0_state 64 = .ok (.iaload, 1) := dk_46 (dk_at dksX0_state_2 18 rfl rfl)
theorem dX0_state_65 : decode cX0_state 65 = .ok (.ireturn, 1) := dk_172 (dk_at dksX0_state_2 19 rfl rfl)
abbrev cX0_value : ByteArray := prog_1_method_44_code
def yX0_value : MethodName := ⟨RX0, "value", "(II)I"⟩
def dkwX0_value_2 : List UInt8 := [42, 180, 1, 8, 29, 108, 167, 0, 9, 42, 180, 1, 11, 29, 108, 172]
abbrev dktX0_value_2 : List UInt8 := dkwX0_value_2 ++ []
def dkwX0_value_1 : List UInt8 := [182, 1, 21, 154, 0, 5, 2, 172, 42, 180, 1, 8, 42, 180, 1, 11, 184, 1, 24, 62, 28, 154, 0, 12]
abbrev dktX0_value_1 : List UInt8 := dkwX0_value_1 ++ dktX0_value_2
def dkwX0_value_0 : List UInt8 := [42, 27, 182, 0, 250, 153, 0, 13, 28, 133, 9, 10, 184, 0, 89, 154, 0, 6, 16, 253, 172, 42, 27]
abbrev dktX0_value_0 : List UInt8 := dkwX0_value_0 ++ dktX0_value_1
theorem dksX0_value_0 : cX0_value.data.toList.drop 0 = dktX0_value_0 := by decide +kernel
theorem dksX0_value_1 : cX0_value.data.toList.drop 23 = dktX0_value_1 := dk_seg dksX0_value_0 23 rfl rfl
theorem dksX0_value_2 : cX0_value.data.toList.drop 47 = dktX0_value_2 := dk_seg dksX0_value_1 24 rfl rfl
theorem dX0_value_0 : decode cX0_value 0 = .ok (.aload_n 0, 1) := dk_42 (dk_at dksX0_value_0 0 rfl rfl)
theorem dX0_value_1 : decode cX0_value 1 = .ok (.iload_n 1, 1) := dk_27 (dk_at dksX0_value_0 1 rfl rfl)
theorem dX0_value_2 : decode cX0_value 2 = .ok (.invokevirtual 250, 3) := dk_182 0 250 (dk_at dksX0_value_0 2 rfl rfl)
theorem dX0_value_5 : decode cX0_value 5 = .ok (.ifCond .eq 13, 3) := dk_153 0 13 (dk_at dksX0_value_0 5 rfl rfl)
theorem dX0_value_8 : decode cX0_value 8 = .ok (.iload_n 2, 1) := dk_28 (dk_at dksX0_value_0 8 rfl rfl)
theorem dX0_value_9 : decode cX0_value 9 = .ok (.i2l, 1) := dk_133 (dk_at dksX0_value_0 9 rfl rfl)
theorem dX0_value_10 : decode cX0_value 10 = .ok (.lconst 0, 1) := dk_9 (dk_at dksX0_value_0 10 rfl rfl)
theorem dX0_value_11 : decode cX0_value 11 = .ok (.lconst 1, 1) := dk_10 (dk_at dksX0_value_0 11 rfl rfl)
theorem dX0_value_12 : decode cX0_value 12 = .ok (.invokestatic 89, 3) := dk_184 0 89 (dk_at dksX0_value_0 12 rfl rfl)
theorem dX0_value_15 : decode cX0_value 15 = .ok (.ifCond .ne 6, 3) := dk_154 0 6 (dk_at dksX0_value_0 15 rfl rfl)
theorem dX0_value_18 : decode cX0_value 18 = .ok (.bipush (-3), 2) := dk_16 253 (dk_at dksX0_value_0 18 rfl rfl)
theorem dX0_value_20 : decode cX0_value 20 = .ok (.ireturn, 1) := dk_172 (dk_at dksX0_value_0 20 rfl rfl)
theorem dX0_value_21 : decode cX0_value 21 = .ok (.aload_n 0, 1) := dk_42 (dk_at dksX0_value_0 21 rfl rfl)
theorem dX0_value_22 : decode cX0_value 22 = .ok (.iload_n 1, 1) := dk_27 (dk_at dksX0_value_0 22 rfl rfl)
theorem dX0_value_23 : decode cX0_value 23 = .ok (.invokevirtual 277, 3) := dk_182 1 21 (dk_at dksX0_value_1 0 rfl rfl)
theorem dX0_value_26 : decode cX0_value 26 = .ok (.ifCond .ne 5, 3) := dk_154 0 5 (dk_at dksX0_value_1 3 rfl rfl)
theorem dX0_value_29 : decode cX0_value 29 = .ok (.iconst (-1), 1) := dk_2 (dk_at dksX0_value_1 6 rfl rfl)
theorem dX0_value_30 : decode cX0_value 30 = .ok (.ireturn, 1) := dk_172 (dk_at dksX0_value_1 7 rfl rfl)
theorem dX0_value_31 : decode cX0_value 31 = .ok (.aload_n 0, 1) := dk_42 (dk_at dksX0_value_1 8 rfl rfl)
theorem dX0_value_32 : decode cX0_value 32 = .ok (.getfield 264, 3) := dk_180 1 8 (dk_at dksX0_value_1 9 rfl rfl)
theorem dX0_value_35 : decode cX0_value 35 = .ok (.aload_n 0, 1) := dk_42 (dk_at dksX0_value_1 12 rfl rfl)
theorem dX0_value_36 : decode cX0_value 36 = .ok (.getfield 267, 3) := dk_180 1 11 (dk_at dksX0_value_1 13 rfl rfl)
theorem dX0_value_39 : decode cX0_value 39 = .ok (.invokestatic 280, 3) := dk_184 1 24 (dk_at dksX0_value_1 16 rfl rfl)
theorem dX0_value_42 : decode cX0_value 42 = .ok (.istore_n 3, 1) := dk_62 (dk_at dksX0_value_1 19 rfl rfl)
theorem dX0_value_43 : decode cX0_value 43 = .ok (.iload_n 2, 1) := dk_28 (dk_at dksX0_value_1 20 rfl rfl)
theorem dX0_value_44 : decode cX0_value 44 = .ok (.ifCond .ne 12, 3) := dk_154 0 12 (dk_at dksX0_value_1 21 rfl rfl)
theorem dX0_value_47 : decode cX0_value 47 = .ok (.aload_n 0, 1) := dk_42 (dk_at dksX0_value_2 0 rfl rfl)
theorem dX0_value_48 : decode cX0_value 48 = .ok (.getfield 264, 3) := dk_180 1 8 (dk_at dksX0_value_2 1 rfl rfl)
theorem dX0_value_51 : decode cX0_value 51 = .ok (.iload_n 3, 1) := dk_29 (dk_at dksX0_value_2 4 rfl rfl)
theorem dX0_value_52 : decode cX0_value 52 = .ok (.idiv, 1) := dk_108 (dk_at dksX0_value_2 5 rfl rfl)
theorem dX0_value_53 : decode cX0_value 53 = .ok (.goto 9, 3) := dk_167 0 9 (dk_at dksX0_value_2 6 rfl rfl)
theorem dX0_value_56 : decode cX0_value 56 = .ok (.aload_n 0, 1) := dk_42 (dk_at dksX0_value_2 9 rfl rfl)
theorem dX0_value_57 : decode cX0_value 57 = .ok (.getfield 267, 3) := dk_180 1 11 (dk_at dksX0_value_2 10 rfl rfl)
theorem dX0_value_60 : decode cX0_value 60 = .ok (.iload_n 3, 1) := dk_29 (dk_at dksX0_value_2 13 rfl rfl)
theorem dX0_value_61 : decode cX0_value 61 = .ok (.idiv, 1) := dk_108 (dk_at dksX0_value_2 14 rfl rfl)
theorem dX0_value_62 : decode cX0_value 62 = .ok (.ireturn, 1) := dk_172 (dk_at dksX0_value_2 15 rfl rfl)
abbrev cX0_layValue : ByteArray := prog_1_method_42_code
def yX0_layValue : MethodName := ⟨RX0, "layValue", "(I)Z"⟩
def dkwX0_layValue_5 : List UInt8 := [158, 0, 7, 4, 167, 0, 4, 3, 172]
abbrev dktX0_layValue_5 : List UInt8 := dkwX0_layValue_5 ++ []
def dkwX0_layValue_4 : List UInt8 := [180, 0, 74, 182, 0, 254, 184, 0, 234, 181, 1, 15, 132, 2, 1, 167, 255, 168, 42, 180, 0, 100]
abbrev dktX0_layValue_4 : List UInt8 := dkwX0_layValue_4 ++ dktX0_layValue_5
def dkwX0_layValue_3 : List UInt8 := [42, 89, 180, 1, 11, 42, 180, 0, 20, 28, 50, 180, 1, 18, 96, 181, 1, 11, 42, 42, 180, 1, 15, 42]
abbrev dktX0_layValue_3 : List UInt8 := dkwX0_layValue_3 ++ dktX0_layValue_4
def dkwX0_layValue_2 : List UInt8 := [180, 1, 8, 42, 180, 0, 20, 28, 50, 180, 1, 18, 42, 180, 0, 74, 182, 0, 254, 104, 96, 181, 1, 8]
abbrev dktX0_layValue_2 : List UInt8 := dkwX0_layValue_2 ++ dktX0_layValue_3
def dkwX0_layValue_1 : List UInt8 := [180, 0, 100, 96, 162, 0, 84, 42, 180, 0, 74, 27, 28, 42, 180, 0, 9, 182, 0, 253, 42, 89]
abbrev dktX0_layValue_1 : List UInt8 := dkwX0_layValue_1 ++ dktX0_layValue_2
def dkwX0_layValue_0 : List UInt8 := [42, 3, 181, 1, 8, 42, 3, 181, 1, 11, 42, 19, 1, 14, 181, 1, 15, 5, 61, 28, 5, 42]
abbrev dktX0_layValue_0 : List UInt8 := dkwX0_layValue_0 ++ dktX0_layValue_1
theorem dksX0_layValue_0 : cX0_layValue.data.toList.drop 0 = dktX0_layValue_0 := by decide +kernel
theorem dksX0_layValue_1 : cX0_layValue.data.toList.drop 22 = dktX0_layValue_1 := dk_seg dksX0_layValue_0 22 rfl rfl
theorem dksX0_layValue_2 : cX0_layValue.data.toList.drop 44 = dktX0_layValue_2 := dk_seg dksX0_layValue_1 22 rfl rfl
theorem dksX0_layValue_3 : cX0_layValue.data.toList.drop 68 = dktX0_layValue_3 := dk_seg dksX0_layValue_2 24 rfl rfl
theorem dksX0_layValue_4 : cX0_layValue.data.toList.drop 92 = dktX0_layValue_4 := dk_seg dksX0_layValue_3 24 rfl rfl
theorem dksX0_layValue_5 : cX0_layValue.data.toList.drop 114 = dktX0_layValue_5 := dk_seg dksX0_layValue_4 22 rfl rfl
theorem dX0_layValue_0 : decode cX0_layValue 0 = .ok (.aload_n 0, 1) := dk_42 (dk_at dksX0_layValue_0 0 rfl rfl)
theorem dX0_layValue_1 : decode cX0_layValue 1 = .ok (.iconst 0, 1) := dk_3 (dk_at dksX0_layValue_0 1 rfl rfl)
theorem dX0_layValue_2 : decode cX0_layValue 2 = .ok (.putfield 264, 3) := dk_181 1 8 (dk_at dksX0_layValue_0 2 rfl rfl)
theorem dX0_layValue_5 : decode cX0_layValue 5 = .ok (.aload_n 0, 1) := dk_42 (dk_at dksX0_layValue_0 5 rfl rfl)
theorem dX0_layValue_6 : decode cX0_layValue 6 = .ok (.iconst 0, 1) := dk_3 (dk_at dksX0_layValue_0 6 rfl rfl)
theorem dX0_layValue_7 : decode cX0_layValue 7 = .ok (.putfield 267, 3) := dk_181 1 11 (dk_at dksX0_layValue_0 7 rfl rfl)
theorem dX0_layValue_10 : decode cX0_layValue 10 = .ok (.aload_n 0, 1) := dk_42 (dk_at dksX0_layValue_0 10 rfl rfl)
theorem dX0_layValue_11 : decode cX0_layValue 11 = .ok (.ldc_w 270, 3) := dk_19 1 14 (dk_at dksX0_layValue_0 11 rfl rfl)
theorem dX0_layValue_14 : decode cX0_layValue 14 = .ok (.putfield 271, 3) := dk_181 1 15 (dk_at dksX0_layValue_0 14 rfl rfl)
theorem dX0_layValue_17 : decode cX0_layValue 17 = .ok (.iconst 2, 1) := dk_5 (dk_at dksX0_layValue_0 17 rfl rfl)
theorem dX0_layValue_18 : decode cX0_layValue 18 = .ok (.istore_n 2, 1) := dk_61 (dk_at dksX0_layValue_0 18 rfl rfl)
theorem dX0_layValue_19 : decode cX0_layValue 19 = .ok (.iload_n 2, 1) := dk_28 (dk_at dksX0_layValue_0 19 rfl rfl)
theorem dX0_layValue_20 : decode cX0_layValue 20 = .ok (.iconst 2, 1) := dk_5 (dk_at dksX0_layValue_0 20 rfl rfl)
theorem dX0_layValue_21 : decode cX0_layValue 21 = .ok (.aload_n 0, 1) := dk_42 (dk_at dksX0_layValue_0 21 rfl rfl)
theorem dX0_layValue_22 : decode cX0_layValue 22 = .ok (.getfield 100, 3) := dk_180 0 100 (dk_at dksX0_layValue_1 0 rfl rfl)
theorem dX0_layValue_25 : decode cX0_layValue 25 = .ok (.iadd, 1) := dk_96 (dk_at dksX0_layValue_1 3 rfl rfl)
theorem dX0_layValue_26 : decode cX0_layValue 26 = .ok (.if_icmp .ge 84, 3) := dk_162 0 84 (dk_at dksX0_layValue_1 4 rfl rfl)
theorem dX0_layValue_29 : decode cX0_layValue 29 = .ok (.aload_n 0, 1) := dk_42 (dk_at dksX0_layValue_1 7 rfl rfl)
theorem dX0_layValue_30 : decode cX0_layValue 30 = .ok (.getfield 74, 3) := dk_180 0 74 (dk_at dksX0_layValue_1 8 rfl rfl)
theorem dX0_layValue_33 : decode cX0_layValue 33 = .ok (.iload_n 1, 1) := dk_27 (dk_at dksX0_layValue_1 11 rfl rfl)
theorem dX0_layValue_34 : decode cX0_layValue 34 = .ok (.iload_n 2, 1) := dk_28 (dk_at dksX0_layValue_1 12 rfl rfl)
theorem dX0_layValue_35 : decode cX0_layValue 35 = .ok (.aload_n 0, 1) := dk_42 (dk_at dksX0_layValue_1 13 rfl rfl)
theorem dX0_layValue_36 : decode cX0_layValue 36 = .ok (.getfield 9, 3) := dk_180 0 9 (dk_at dksX0_layValue_1 14 rfl rfl)
theorem dX0_layValue_39 : decode cX0_layValue 39 = .ok (.invokevirtual 253, 3) := dk_182 0 253 (dk_at dksX0_layValue_1 17 rfl rfl)
theorem dX0_layValue_42 : decode cX0_layValue 42 = .ok (.aload_n 0, 1) := dk_42 (dk_at dksX0_layValue_1 20 rfl rfl)
theorem dX0_layValue_43 : decode cX0_layValue 43 = .ok (.dup, 1) := dk_89 (dk_at dksX0_layValue_1 21 rfl rfl)
theorem dX0_layValue_44 : decode cX0_layValue 44 = .ok (.getfield 264, 3) := dk_180 1 8 (dk_at dksX0_layValue_2 0 rfl rfl)
theorem dX0_layValue_47 : decode cX0_layValue 47 = .ok (.aload_n 0, 1) := dk_42 (dk_at dksX0_layValue_2 3 rfl rfl)
theorem dX0_layValue_48 : decode cX0_layValue 48 = .ok (.getfield 20, 3) := dk_180 0 20 (dk_at dksX0_layValue_2 4 rfl rfl)
theorem dX0_layValue_51 : decode cX0_layValue 51 = .ok (.iload_n 2, 1) := dk_28 (dk_at dksX0_layValue_2 7 rfl rfl)
theorem dX0_layValue_52 : decode cX0_layValue 52 = .ok (.aaload, 1) := dk_50 (dk_at dksX0_layValue_2 8 rfl rfl)
theorem dX0_layValue_53 : decode cX0_layValue 53 = .ok (.getfield 274, 3) := dk_180 1 18 (dk_at dksX0_layValue_2 9 rfl rfl)
theorem dX0_layValue_56 : decode cX0_layValue 56 = .ok (.aload_n 0, 1) := dk_42 (dk_at dksX0_layValue_2 12 rfl rfl)
theorem dX0_layValue_57 : decode cX0_layValue 57 = .ok (.getfield 74, 3) := dk_180 0 74 (dk_at dksX0_layValue_2 13 rfl rfl)
theorem dX0_layValue_60 : decode cX0_layValue 60 = .ok (.invokevirtual 254, 3) := dk_182 0 254 (dk_at dksX0_layValue_2 16 rfl rfl)
theorem dX0_layValue_63 : decode cX0_layValue 63 = .ok (.imul, 1) := dk_104 (dk_at dksX0_layValue_2 19 rfl rfl)
theorem dX0_layValue_64 : decode cX0_layValue 64 = .ok (.iadd, 1) := dk_96 (dk_at dksX0_layValue_2 20 rfl rfl)
theorem dX0_layValue_65 : decode cX0_layValue 65 = .ok (.putfield 264, 3) := dk_181 1 8 (dk_at dksX0_layValue_2 21 rfl rfl)
theorem dX0_layValue_68 : decode cX0_layValue 68 = .ok (.aload_n 0, 1) := dk_42 (dk_at dksX0_layValue_3 0 rfl rfl)
theorem dX0_layValue_69 : decode cX0_layValue 69 = .ok (.dup, 1) := dk_89 (dk_at dksX0_layValue_3 1 rfl rfl)
theorem dX0_layValue_70 : decode cX0_layValue 70 = .ok (.getfield 267, 3) := dk_180 1 11 (dk_at dksX0_layValue_3 2 rfl rfl)
theorem dX0_layValue_73 : decode cX0_layValue 73 = .ok (.aload_n 0, 1) := dk_42 (dk_at dksX0_layValue_3 5 rfl rfl)
theorem dX0_layValue_74 : decode cX0_layValue 74 = .ok (.getfield 20, 3) := dk_180 0 20 (dk_at dksX0_layValue_3 6 rfl rfl)
theorem dX0_layValue_77 : decode cX0_layValue 77 = .ok (.iload_n 2, 1) := dk_28 (dk_at dksX0_layValue_3 9 rfl rfl)
theorem dX0_layValue_78 : decode cX0_layValue 78 = .ok (.aaload, 1) := dk_50 (dk_at dksX0_layValue_3 10 rfl rfl)
theorem dX0_layValue_79 : decode cX0_layValue 79 = .ok (.getfield 274, 3) := dk_180 1 18 (dk_at dksX0_layValue_3 11 rfl rfl)
theorem dX0_layValue_82 : decode cX0_layValue 82 = .ok (.iadd, 1) := dk_96 (dk_at dksX0_layValue_3 14 rfl rfl)
theorem dX0_layValue_83 : decode cX0_layValue 83 = .ok (.putfield 267, 3) := dk_181 1 11 (dk_at dksX0_layValue_3 15 rfl rfl)
theorem dX0_layValue_86 : decode cX0_layValue 86 = .ok (.aload_n 0, 1) := dk_42 (dk_at dksX0_layValue_3 18 rfl rfl)
theorem dX0_layValue_87 : decode cX0_layValue 87 = .ok (.aload_n 0, 1) := dk_42 (dk_at dksX0_layValue_3 19 rfl rfl)
theorem dX0_layValue_88 : decode cX0_layValue 88 = .ok (.getfield 271, 3) := dk_180 1 15 (dk_at dksX0_layValue_3 20 rfl rfl)
theorem dX0_layValue_91 : decode cX0_layValue 91 = .ok (.aload_n 0, 1) := dk_42 (dk_at dksX0_layValue_3 23 rfl rfl)
theorem dX0_layValue_92 : decode cX0_layValue 92 = .ok (.getfield 74, 3) := dk_180 0 74 (dk_at dksX0_layValue_4 0 rfl rfl)
theorem dX0_layValue_95 : decode cX0_layValue 95 = .ok (.invokevirtual 254, 3) := dk_182 0 254 (dk_at dksX0_layValue_4 3 rfl rfl)
theorem dX0_layValue_98 : decode cX0_layValue 98 = .ok (.invokestatic 234, 3) := dk_184 0 234 (dk_at dksX0_layValue_4 6 rfl rfl)
theorem dX0_layValue_101 : decode cX0_layValue 101 = .ok (.putfield 271, 3) := dk_181 1 15 (dk_at dksX0_layValue_4 9 rfl rfl)
theorem dX0_layValue_104 : decode cX0_layValue 104 = .ok (.iinc 2 1, 3) := dk_132 2 1 (dk_at dksX0_layValue_4 12 rfl rfl)
theorem dX0_layValue_107 : decode cX0_layValue 107 = .ok (.goto (-88), 3) := dk_167 255 168 (dk_at dksX0_layValue_4 15 rfl rfl)
theorem dX0_layValue_110 : decode cX0_layValue 110 = .ok (.aload_n 0, 1) := dk_42 (dk_at dksX0_layValue_4 18 rfl rfl)
theorem dX0_layValue_111 : decode cX0_layValue 111 = .ok (.getfield 100, 3) := dk_180 0 100 (dk_at dksX0_layValue_4 19 rfl rfl)
theorem dX0_layValue_114 : decode cX0_layValue 114 = .ok (.ifCond .le 7, 3) := dk_158 0 7 (dk_at dksX0_layValue_5 0 rfl rfl)
theorem dX0_layValue_117 : decode cX0_layValue 117 = .ok (.iconst 1, 1) := dk_4 (dk_at dksX0_layValue_5 3 rfl rfl)
theorem dX0_layValue_118 : decode cX0_layValue 118 = .ok (.goto 4, 3) := dk_167 0 4 (dk_at dksX0_layValue_5 4 rfl rfl)
theorem dX0_layValue_121 : decode cX0_layValue 121 = .ok (.iconst 0, 1) := dk_3 (dk_at dksX0_layValue_5 7 rfl rfl)
theorem dX0_layValue_122 : decode cX0_layValue 122 = .ok (.ireturn, 1) := dk_172 (dk_at dksX0_layValue_5 8 rfl rfl)
abbrev cX0_divisor : ByteArray := prog_1_method_43_code
def yX0_divisor : MethodName := ⟨RX0, "divisor", "(II)I"⟩
def dkwX0_divisor_0 : List UInt8 := [26, 61, 27, 62, 29, 153, 0, 16, 28, 29, 112, 54, 4, 29, 61, 21, 4, 62, 167, 255, 242, 28, 172]
abbrev dktX0_divisor_0 : List UInt8 := dkwX0_divisor_0 ++ []
theorem dksX0_divisor_0 : cX0_divisor.data.toList.drop 0 = dktX0_divisor_0 := by decide +kernel
theorem dX0_divisor_0 : decode cX0_divisor 0 = .ok (.iload_n 0, 1) := dk_26 (dk_at dksX0_divisor_0 0 rfl rfl)
theorem dX0_divisor_1 : decode cX0_divisor 1 = .ok (.istore_n 2, 1) := dk_61 (dk_at dksX0_divisor_0 1 rfl rfl)
theorem dX0_divisor_2 : decode cX0_divisor 2 = .ok (.iload_n 1, 1) := dk_27 (dk_at dksX0_divisor_0 2 rfl rfl)
theorem dX0_divisor_3 : decode cX0_divisor 3 = .ok (.istore_n 3, 1) := dk_62 (dk_at dksX0_divisor_0 3 rfl rfl)
theorem dX0_divisor_4 : decode cX0_divisor 4 = .ok (.iload_n 3, 1) := dk_29 (dk_at dksX0_divisor_0 4 rfl rfl)
theorem dX0_divisor_5 : decode cX0_divisor 5 = .ok (.ifCond .eq 16, 3) := dk_153 0 16 (dk_at dksX0_divisor_0 5 rfl rfl)
theorem dX0_divisor_8 : decode cX0_divisor 8 = .ok (.iload_n 2, 1) := dk_28 (dk_at dksX0_divisor_0 8 rfl rfl)
theorem dX0_divisor_9 : decode cX0_divisor 9 = .ok (.iload_n 3, 1) := dk_29 (dk_at dksX0_divisor_0 9 rfl rfl)
theorem dX0_divisor_10 : decode cX0_divisor 10 = .ok (.irem, 1) := dk_112 (dk_at dksX0_divisor_0 10 rfl rfl)
theorem dX0_divisor_11 : decode cX0_divisor 11 = .ok (.istore 4, 2) := dk_54 4 (dk_at dksX0_divisor_0 11 rfl rfl)
theorem dX0_divisor_13 : decode cX0_divisor 13 = .ok (.iload_n 3, 1) := dk_29 (dk_at dksX0_divisor_0 13 rfl rfl)
theorem dX0_divisor_14 : decode cX0_divisor 14 = .ok (.istore_n 2, 1) := dk_61 (dk_at dksX0_divisor_0 14 rfl rfl)
theorem dX0_divisor_15 : decode cX0_divisor 15 = .ok (.iload 4, 2) := dk_21 4 (dk_at dksX0_divisor_0 15 rfl rfl)
theorem dX0_divisor_17 : decode cX0_divisor 17 = .ok (.istore_n 3, 1) := dk_62 (dk_at dksX0_divisor_0 17 rfl rfl)
theorem dX0_divisor_18 : decode cX0_divisor 18 = .ok (.goto (-14), 3) := dk_167 255 242 (dk_at dksX0_divisor_0 18 rfl rfl)
theorem dX0_divisor_21 : decode cX0_divisor 21 = .ok (.iload_n 2, 1) := dk_28 (dk_at dksX0_divisor_0 21 rfl rfl)
theorem dX0_divisor_22 : decode cX0_divisor 22 = .ok (.ireturn, 1) := dk_172 (dk_at dksX0_divisor_0 22 rfl rfl)
abbrev cX0_sure : ByteArray := prog_1_method_45_code
def yX0_sure : MethodName := ⟨RX0, "sure", "(I)I"⟩
def dkwX0_sure_1 : List UInt8 := [167, 0, 4, 2, 172]
abbrev dktX0_sure_1 : List UInt8 := dkwX0_sure_1 ++ []
def dkwX0_sure_0 : List UInt8 := [42, 27, 182, 0, 250, 154, 0, 6, 16, 253, 172, 42, 27, 182, 1, 21, 153, 0, 10, 42, 180, 1, 15]
abbrev dktX0_sure_0 : List UInt8 := dkwX0_sure_0 ++ dktX0_sure_1
theorem dksX0_sure_0 : cX0_sure.data.toList.drop 0 = dktX0_sure_0 := by decide +kernel
theorem dksX0_sure_1 : cX0_sure.data.toList.drop 23 = dktX0_sure_1 := dk_seg dksX0_sure_0 23 rfl rfl
theorem dX0_sure_0 : decode cX0_sure 0 = .ok (.aload_n 0, 1) := dk_42 (dk_at dksX0_sure_0 0 rfl rfl)
theorem dX0_sure_1 : decode cX0_sure 1 = .ok (.iload_n 1, 1) := dk_27 (dk_at dksX0_sure_0 1 rfl rfl)
theorem dX0_sure_2 : decode cX0_sure 2 = .ok (.invokevirtual 250, 3) := dk_182 0 250 (dk_at dksX0_sure_0 2 rfl rfl)
theorem dX0_sure_5 : decode cX0_sure 5 = .ok (.ifCond .ne 6, 3) := dk_154 0 6 (dk_at dksX0_sure_0 5 rfl rfl)
theorem dX0_sure_8 : decode cX0_sure 8 = .ok (.bipush (-3), 2) := dk_16 253 (dk_at dksX0_sure_0 8 rfl rfl)
theorem dX0_sure_10 : decode cX0_sure 10 = .ok (.ireturn, 1) := dk_172 (dk_at dksX0_sure_0 10 rfl rfl)
theorem dX0_sure_11 : decode cX0_sure 11 = .ok (.aload_n 0, 1) := dk_42 (dk_at dksX0_sure_0 11 rfl rfl)
theorem dX0_sure_12 : decode cX0_sure 12 = .ok (.iload_n 1, 1) := dk_27 (dk_at dksX0_sure_0 12 rfl rfl)
theorem dX0_sure_13 : decode cX0_sure 13 = .ok (.invokevirtual 277, 3) := dk_182 1 21 (dk_at dksX0_sure_0 13 rfl rfl)
theorem dX0_sure_16 : decode cX0_sure 16 = .ok (.ifCond .eq 10, 3) := dk_153 0 10 (dk_at dksX0_sure_0 16 rfl rfl)
theorem dX0_sure_19 : decode cX0_sure 19 = .ok (.aload_n 0, 1) := dk_42 (dk_at dksX0_sure_0 19 rfl rfl)
theorem dX0_sure_20 : decode cX0_sure 20 = .ok (.getfield 271, 3) := dk_180 1 15 (dk_at dksX0_sure_0 20 rfl rfl)
theorem dX0_sure_23 : decode cX0_sure 23 = .ok (.goto 4, 3) := dk_167 0 4 (dk_at dksX0_sure_1 0 rfl rfl)
theorem dX0_sure_26 : decode cX0_sure 26 = .ok (.iconst (-1), 1) := dk_2 (dk_at dksX0_sure_1 3 rfl rfl)
theorem dX0_sure_27 : decode cX0_sure 27 = .ok (.ireturn, 1) := dk_172 (dk_at dksX0_sure_1 4 rfl rfl)
abbrev cX0_rule : ByteArray := prog_1_method_46_code
def yX0_rule : MethodName := ⟨RX0, "rule", "()I"⟩
def dkwX0_rule_1 : List UInt8 := [180, 1, 8, 28, 164, 0, 10, 42, 180, 1, 8, 61, 29, 60, 132, 3, 1, 167, 255, 221, 27, 172]
abbrev dktX0_rule_1 : List UInt8 := dkwX0_rule_1 ++ []
def dkwX0_rule_0 : List UInt8 := [2, 60, 2, 61, 3, 62, 29, 42, 180, 0, 67, 190, 162, 0, 32, 42, 29, 182, 1, 21, 153, 0, 18, 42]
abbrev dktX0_rule_0 : List UInt8 := dkwX0_rule_0 ++ dktX0_rule_1
theorem dksX0_rule_0 : cX0_rule.data.toList.drop 0 = dktX0_rule_0 := by decide +kernel
theorem dksX0_rule_1 : cX0_rule.data.toList.drop 24 = dktX0_rule_1 := dk_seg dksX0_rule_0 24 rfl rfl
theorem dX0_rule_0 : decode cX0_rule 0 = .ok (.iconst (-1), 1) := dk_2 (dk_at dksX0_rule_0 0 rfl rfl)
theorem dX0_rule_1 : decode cX0_rule 1 = .ok (.istore_n 1, 1) := dk_60 (dk_at dksX0_rule_0 1 rfl rfl)
theorem dX0_rule_2 : decode cX0_rule 2 = .ok (.iconst (-1), 1) := dk_2 (dk_at dksX0_rule_0 2 rfl rfl)
theorem dX0_rule_3 : decode cX0_rule 3 = .ok (.istore_n 2, 1) := dk_61 (dk_at dksX0_rule_0 3 rfl rfl)
theorem dX0_rule_4 : decode cX0_rule 4 = .ok (.iconst 0, 1) := dk_3 (dk_at dksX0_rule_0 4 rfl rfl)
theorem dX0_rule_5 : decode cX0_rule 5 = .ok (.istore_n 3, 1) := dk_62 (dk_at dksX0_rule_0 5 rfl rfl)
theorem dX0_rule_6 : decode cX0_rule 6 = .ok (.iload_n 3, 1) := dk_29 (dk_at dksX0_rule_0 6 rfl rfl)
theorem dX0_rule_7 : decode cX0_rule 7 = .ok (.aload_n 0, 1) := dk_42 (dk_at dksX0_rule_0 7 rfl rfl)
theorem dX0_rule_8 : decode cX0_rule 8 = .ok (.getfield 67, 3) := dk_180 0 67 (dk_at dksX0_rule_0 8 rfl rfl)
theorem dX0_rule_11 : decode cX0_rule 11 = .ok (.arraylength, 1) := dk_190 (dk_at dksX0_rule_0 11 rfl rfl)
theorem dX0_rule_12 : decode cX0_rule 12 = .ok (.if_icmp .ge 32, 3) := dk_162 0 32 (dk_at dksX0_rule_0 12 rfl rfl)
theorem dX0_rule_15 : decode cX0_rule 15 = .ok (.aload_n 0, 1) := dk_42 (dk_at dksX0_rule_0 15 rfl rfl)
theorem dX0_rule_16 : decode cX0_rule 16 = .ok (.iload_n 3, 1) := dk_29 (dk_at dksX0_rule_0 16 rfl rfl)
theorem dX0_rule_17 : decode cX0_rule 17 = .ok (.invokevirtual 277, 3) := dk_182 1 21 (dk_at dksX0_rule_0 17 rfl rfl)
theorem dX0_rule_20 : decode cX0_rule 20 = .ok (.ifCond .eq 18, 3) := dk_153 0 18 (dk_at dksX0_rule_0 20 rfl rfl)
theorem dX0_rule_23 : decode cX0_rule 23 = .ok (.aload_n 0, 1) := dk_42 (dk_at dksX0_rule_0 23 rfl rfl)
theorem dX0_rule_24 : decode cX0_rule 24 = .ok (.getfield 264, 3) := dk_180 1 8 (dk_at dksX0_rule_1 0 rfl rfl)
theorem dX0_rule_27 : decode cX0_rule 27 = .ok (.iload_n 2, 1) := dk_28 (dk_at dksX0_rule_1 3 rfl rfl)
theorem dX0_rule_28 : decode cX0_rule 28 = .ok (.if_icmp .le 10, 3) := dk_164 0 10 (dk_at dksX0_rule_1 4 rfl rfl)
theorem dX0_rule_31 : decode cX0_rule 31 = .ok (.aload_n 0, 1) := dk_42 (dk_at dksX0_rule_1 7 rfl rfl)
theorem dX0_rule_32 : decode cX0_rule 32 = .ok (.getfield 264, 3) := dk_180 1 8 (dk_at dksX0_rule_1 8 rfl rfl)
theorem dX0_rule_35 : decode cX0_rule 35 = .ok (.istore_n 2, 1) := dk_61 (dk_at dksX0_rule_1 11 rfl rfl)
theorem dX0_rule_36 : decode cX0_rule 36 = .ok (.iload_n 3, 1) := dk_29 (dk_at dksX0_rule_1 12 rfl rfl)
theorem dX0_rule_37 : decode cX0_rule 37 = .ok (.istore_n 1, 1) := dk_60 (dk_at dksX0_rule_1 13 rfl rfl)
theorem dX0_rule_38 : decode cX0_rule 38 = .ok (.iinc 3 1, 3) := dk_132 3 1 (dk_at dksX0_rule_1 14 rfl rfl)
theorem dX0_rule_41 : decode cX0_rule 41 = .ok (.goto (-35), 3) := dk_167 255 221 (dk_at dksX0_rule_1 17 rfl rfl)
theorem dX0_rule_44 : decode cX0_rule 44 = .ok (.iload_n 1, 1) := dk_27 (dk_at dksX0_rule_1 20 rfl rfl)
theorem dX0_rule_45 : decode cX0_rule 45 = .ok (.ireturn, 1) := dk_172 (dk_at dksX0_rule_1 21 rfl rfl)
abbrev cX0_alert : ByteArray := prog_1_method_47_code
def yX0_alert : MethodName := ⟨RX0, "alert", "(IIIIII)I"⟩
def dkwX0_alert_11 : List UInt8 := [21, 14, 172]
abbrev dktX0_alert_11 : List UInt8 := dkwX0_alert_11 ++ []
def dkwX0_alert_10 : List UInt8 := [54, 13, 132, 15, 1, 167, 255, 196, 21, 13, 2, 159, 0, 8, 21, 6, 154, 0, 8, 21, 13, 167, 0, 5]
abbrev dktX0_alert_10 : List UInt8 := dkwX0_alert_10 ++ dktX0_alert_11
def dkwX0_alert_9 : List UInt8 := [184, 1, 36, 28, 2, 182, 0, 224, 100, 54, 16, 21, 16, 21, 14, 162, 0, 11, 21, 16, 54, 14, 21, 15]
abbrev dktX0_alert_9 : List UInt8 := dkwX0_alert_9 ++ dktX0_alert_10
def dkwX0_alert_8 : List UInt8 := [42, 25, 11, 42, 180, 0, 26, 27, 50, 21, 15, 182, 1, 32, 153, 0, 36, 21, 12, 42, 21, 15, 21, 7]
abbrev dktX0_alert_8 : List UInt8 := dkwX0_alert_8 ++ dktX0_alert_9
def dkwX0_alert_7 : List UInt8 := [182, 0, 224, 54, 12, 2, 54, 13, 19, 1, 14, 54, 14, 21, 4, 54, 15, 21, 15, 21, 5, 163, 0, 59]
abbrev dktX0_alert_7 : List UInt8 := dkwX0_alert_7 ++ dktX0_alert_8
def dkwX0_alert_6 : List UInt8 := [21, 8, 21, 9, 21, 10, 4, 160, 0, 7, 4, 167, 0, 4, 3, 183, 1, 29, 58, 11, 42, 3, 3, 2]
abbrev dktX0_alert_6 : List UInt8 := dkwX0_alert_6 ++ dktX0_alert_7
def dkwX0_alert_5 : List UInt8 := [153, 0, 14, 21, 6, 133, 9, 10, 184, 0, 89, 154, 0, 6, 16, 253, 172, 187, 0, 145, 89, 21, 7]
abbrev dktX0_alert_5 : List UInt8 := dkwX0_alert_5 ++ dktX0_alert_6
def dkwX0_alert_4 : List UInt8 := [182, 0, 116, 153, 0, 33, 21, 5, 133, 21, 4, 133, 42, 180, 0, 9, 4, 100, 133, 184, 0, 89]
abbrev dktX0_alert_4 : List UInt8 := dkwX0_alert_4 ++ dktX0_alert_5
def dkwX0_alert_3 : List UInt8 := [21, 8, 6, 163, 0, 55, 21, 9, 16, 8, 163, 0, 48, 21, 10, 4, 163, 0, 42, 42, 21, 4]
abbrev dktX0_alert_3 : List UInt8 := dkwX0_alert_3 ++ dktX0_alert_4
def dkwX0_alert_2 : List UInt8 := [184, 0, 89, 153, 0, 78, 29, 155, 0, 74, 21, 7, 133, 10, 20, 0, 93, 184, 0, 89, 153, 0, 61]
abbrev dktX0_alert_2 : List UInt8 := dkwX0_alert_2 ++ dktX0_alert_3
def dkwX0_alert_1 : List UInt8 := [112, 54, 8, 29, 16, 10, 108, 16, 10, 112, 54, 9, 29, 16, 10, 112, 54, 10, 28, 133, 9, 20, 1, 27]
abbrev dktX0_alert_1 : List UInt8 := dkwX0_alert_1 ++ dktX0_alert_2
def dkwX0_alert_0 : List UInt8 := [42, 27, 182, 0, 112, 154, 0, 6, 16, 254, 172, 29, 17, 3, 232, 108, 54, 7, 29, 16, 100, 108, 16, 10]
abbrev dktX0_alert_0 : List UInt8 := dkwX0_alert_0 ++ dktX0_alert_1
theorem dksX0_alert_0 : cX0_alert.data.toList.drop 0 = dktX0_alert_0 := by decide +kernel
theorem dksX0_alert_1 : cX0_alert.data.toList.drop 24 = dktX0_alert_1 := dk_seg dksX0_alert_0 24 rfl rfl
theorem dksX0_alert_2 : cX0_alert.data.toList.drop 48 = dktX0_alert_2 := dk_seg dksX0_alert_1 24 rfl rfl
theorem dksX0_alert_3 : cX0_alert.data.toList.drop 71 = dktX0_alert_3 := dk_seg dksX0_alert_2 23 rfl rfl
theorem dksX0_alert_4 : cX0_alert.data.toList.drop 93 = dktX0_alert_4 := dk_seg dksX0_alert_3 22 rfl rfl
theorem dksX0_alert_5 : cX0_alert.data.toList.drop 115 = dktX0_alert_5 := dk_seg dksX0_alert_4 22 rfl rfl
theorem dksX0_alert_6 : cX0_alert.data.toList.drop 138 = dktX0_alert_6 := dk_seg dksX0_alert_5 23 rfl rfl
theorem dksX0_alert_7 : cX0_alert.data.toList.drop 162 = dktX0_alert_7 := dk_seg dksX0_alert_6 24 rfl rfl
theorem dksX0_alert_8 : cX0_alert.data.toList.drop 186 = dktX0_alert_8 := dk_seg dksX0_alert_7 24 rfl rfl
theorem dksX0_alert_9 : cX0_alert.data.toList.drop 210 = dktX0_alert_9 := dk_seg dksX0_alert_8 24 rfl rfl
theorem dksX0_alert_10 : cX0_alert.data.toList.drop 234 = dktX0_alert_10 := dk_seg dksX0_alert_9 24 rfl rfl
theorem dksX0_alert_11 : cX0_alert.data.toList.drop 258 = dktX0_alert_11 := dk_seg dksX0_alert_10 24 rfl rfl
theorem dX0_alert_0 : decode cX0_alert 0 = .ok (.aload_n 0, 1) := dk_42 (dk_at dksX0_alert_0 0 rfl rfl)
theorem dX0_alert_1 : decode cX0_alert 1 = .ok (.iload_n 1, 1) := dk_27 (dk_at dksX0_alert_0 1 rfl rfl)
theorem dX0_alert_2 : decode cX0_alert 2 = .ok (.invokevirtual 112, 3) := dk_182 0 112 (dk_at dksX0_alert_0 2 rfl rfl)
theorem dX0_alert_5 : decode cX0_alert 5 = .ok (.ifCond .ne 6, 3) := dk_154 0 6 (dk_at dksX0_alert_0 5 rfl rfl)
theorem dX0_alert_8 : decode cX0_alert 8 = .ok (.bipush (-2), 2) := dk_16 254 (dk_at dksX0_alert_0 8 rfl rfl)
theorem dX0_alert_10 : decode cX0_alert 10 = .ok (.ireturn, 1) := dk_172 (dk_at dksX0_alert_0 10 rfl rfl)
theorem dX0_alert_11 : decode cX0_alert 11 = .ok (.iload_n 3, 1) := dk_29 (dk_at dksX0_alert_0 11 rfl rfl)
theorem dX0_alert_12 : decode cX0_alert 12 = .ok (.sipush 1000, 3) := dk_17 3 232 (dk_at dksX0_alert_0 12 rfl rfl)
theorem dX0_alert_15 : decode cX0_alert 15 = .ok (.idiv, 1) := dk_108 (dk_at dksX0_alert_0 15 rfl rfl)
theorem dX0_alert_16 : decode cX0_alert 16 = .ok (.istore 7, 2) := dk_54 7 (dk_at dksX0_alert_0 16 rfl rfl)
theorem dX0_alert_18 : decode cX0_alert 18 = .ok (.iload_n 3, 1) := dk_29 (dk_at dksX0_alert_0 18 rfl rfl)
theorem dX0_alert_19 : decode cX0_alert 19 = .ok (.bipush 100, 2) := dk_16 100 (dk_at dksX0_alert_0 19 rfl rfl)
theorem dX0_alert_21 : decode cX0_alert 21 = .ok (.idiv, 1) := dk_108 (dk_at dksX0_alert_0 21 rfl rfl)
theorem dX0_alert_22 : decode cX0_alert 22 = .ok (.bipush 10, 2) := dk_16 10 (dk_at dksX0_alert_0 22 rfl rfl)
theorem dX0_alert_24 : decode cX0_alert 24 = .ok (.irem, 1) := dk_112 (dk_at dksX0_alert_1 0 rfl rfl)
theorem dX0_alert_25 : decode cX0_alert 25 = .ok (.istore 8, 2) := dk_54 8 (dk_at dksX0_alert_1 1 rfl rfl)
theorem dX0_alert_27 : decode cX0_alert 27 = .ok (.iload_n 3, 1) := dk_29 (dk_at dksX0_alert_1 3 rfl rfl)
theorem dX0_alert_28 : decode cX0_alert 28 = .ok (.bipush 10, 2) := dk_16 10 (dk_at dksX0_alert_1 4 rfl rfl)
theorem dX0_alert_30 : decode cX0_alert 30 = .ok (.idiv, 1) := dk_108 (dk_at dksX0_alert_1 6 rfl rfl)
theorem dX0_alert_31 : decode cX0_alert 31 = .ok (.bipush 10, 2) := dk_16 10 (dk_at dksX0_alert_1 7 rfl rfl)
theorem dX0_alert_33 : decode cX0_alert 33 = .ok (.irem, 1) := dk_112 (dk_at dksX0_alert_1 9 rfl rfl)
theorem dX0_alert_34 : decode cX0_alert 34 = .ok (.istore 9, 2) := dk_54 9 (dk_at dksX0_alert_1 10 rfl rfl)
theorem dX0_alert_36 : decode cX0_alert 36 = .ok (.iload_n 3, 1) := dk_29 (dk_at dksX0_alert_1 12 rfl rfl)
theorem dX0_alert_37 : decode cX0_alert 37 = .ok (.bipush 10, 2) := dk_16 10 (dk_at dksX0_alert_1 13 rfl rfl)
theorem dX0_alert_39 : decode cX0_alert 39 = .ok (.irem, 1) := dk_112 (dk_at dksX0_alert_1 15 rfl rfl)
theorem dX0_alert_40 : decode cX0_alert 40 = .ok (.istore 10, 2) := dk_54 10 (dk_at dksX0_alert_1 16 rfl rfl)
theorem dX0_alert_42 : decode cX0_alert 42 = .ok (.iload_n 2, 1) := dk_28 (dk_at dksX0_alert_1 18 rfl rfl)
theorem dX0_alert_43 : decode cX0_alert 43 = .ok (.i2l, 1) := dk_133 (dk_at dksX0_alert_1 19 rfl rfl)
theorem dX0_alert_44 : decode cX0_alert 44 = .ok (.lconst 0, 1) := dk_9 (dk_at dksX0_alert_1 20 rfl rfl)
theorem dX0_alert_45 : decode cX0_alert 45 = .ok (.ldc2_w 283, 3) := dk_20 1 27 (dk_at dksX0_alert_1 21 rfl rfl)
theorem dX0_alert_48 : decode cX0_alert 48 = .ok (.invokestatic 89, 3) := dk_184 0 89 (dk_at dksX0_alert_2 0 rfl rfl)
theorem dX0_alert_51 : decode cX0_alert 51 = .ok (.ifCond .eq 78, 3) := dk_153 0 78 (dk_at dksX0_alert_2 3 rfl rfl)
theorem dX0_alert_54 : decode cX0_alert 54 = .ok (.iload_n 3, 1) := dk_29 (dk_at dksX0_alert_2 6 rfl rfl)
theorem dX0_alert_55 : decode cX0_alert 55 = .ok (.ifCond .lt 74, 3) := dk_155 0 74 (dk_at dksX0_alert_2 7 rfl rfl)
theorem dX0_alert_58 : decode cX0_alert 58 = .ok (.iload 7, 2) := dk_21 7 (dk_at dksX0_alert_2 10 rfl rfl)
theorem dX0_alert_60 : decode cX0_alert 60 = .ok (.i2l, 1) := dk_133 (dk_at dksX0_alert_2 12 rfl rfl)
theorem dX0_alert_61 : decode cX0_alert 61 = .ok (.lconst 1, 1) := dk_10 (dk_at dksX0_alert_2 13 rfl rfl)
theorem dX0_alert_62 : decode cX0_alert 62 = .ok (.ldc2_w 93, 3) := dk_20 0 93 (dk_at dksX0_alert_2 14 rfl rfl)
theorem dX0_alert_65 : decode cX0_alert 65 = .ok (.invokestatic 89, 3) := dk_184 0 89 (dk_at dksX0_alert_2 17 rfl rfl)
theorem dX0_alert_68 : decode cX0_alert 68 = .ok (.ifCond .eq 61, 3) := dk_153 0 61 (dk_at dksX0_alert_2 20 rfl rfl)
theorem dX0_alert_71 : decode cX0_alert 71 = .ok (.iload 8, 2) := dk_21 8 (dk_at dksX0_alert_3 0 rfl rfl)
theorem dX0_alert_73 : decode cX0_alert 73 = .ok (.iconst 3, 1) := dk_6 (dk_at dksX0_alert_3 2 rfl rfl)
theorem dX0_alert_74 : decode cX0_alert 74 = .ok (.if_icmp .gt 55, 3) := dk_163 0 55 (dk_at dksX0_alert_3 3 rfl rfl)
theorem dX0_alert_77 : decode cX0_alert 77 = .ok (.iload 9, 2) := dk_21 9 (dk_at dksX0_alert_3 6 rfl rfl)
theorem dX0_alert_79 : decode cX0_alert 79 = .ok (.bipush 8, 2) := dk_16 8 (dk_at dksX0_alert_3 8 rfl rfl)
theorem dX0_alert_81 : decode cX0_alert 81 = .ok (.if_icmp .gt 48, 3) := dk_163 0 48 (dk_at dksX0_alert_3 10 rfl rfl)
theorem dX0_alert_84 : decode cX0_alert 84 = .ok (.iload 10, 2) := dk_21 10 (dk_at dksX0_alert_3 13 rfl rfl)
theorem dX0_alert_86 : decode cX0_alert 86 = .ok (.iconst 1, 1) := dk_4 (dk_at dksX0_alert_3 15 rfl rfl)
theorem dX0_alert_87 : decode cX0_alert 87 = .ok (.if_icmp .gt 42, 3) := dk_163 0 42 (dk_at dksX0_alert_3 16 rfl rfl)
theorem dX0_alert_90 : decode cX0_alert 90 = .ok (.aload_n 0, 1) := dk_42 (dk_at dksX0_alert_3 19 rfl rfl)
theorem dX0_alert_91 : decode cX0_alert 91 = .ok (.iload 4, 2) := dk_21 4 (dk_at dksX0_alert_3 20 rfl rfl)
theorem dX0_alert_93 : decode cX0_alert 93 = .ok (.invokevirtual 116, 3) := dk_182 0 116 (dk_at dksX0_alert_4 0 rfl rfl)
theorem dX0_alert_96 : decode cX0_alert 96 = .ok (.ifCond .eq 33, 3) := dk_153 0 33 (dk_at dksX0_alert_4 3 rfl rfl)
theorem dX0_alert_99 : decode cX0_alert 99 = .ok (.iload 5, 2) := dk_21 5 (dk_at dksX0_alert_4 6 rfl rfl)
theorem dX0_alert_101 : decode cX0_alert 101 = .ok (.i2l, 1) := dk_133 (dk_at dksX0_alert_4 8 rfl rfl)
theorem dX0_alert_102 : decode cX0_alert 102 = .ok (.iload 4, 2) := dk_21 4 (dk_at dksX0_alert_4 9 rfl rfl)
theorem dX0_alert_104 : decode cX0_alert 104 = .ok (.i2l, 1) := dk_133 (dk_at dksX0_alert_4 11 rfl rfl)
theorem dX0_alert_105 : decode cX0_alert 105 = .ok (.aload_n 0, 1) := dk_42 (dk_at dksX0_alert_4 12 rfl rfl)
theorem dX0_alert_106 : decode cX0_alert 106 = .ok (.getfield 9, 3) := dk_180 0 9 (dk_at dksX0_alert_4 13 rfl rfl)
theorem dX0_alert_109 : decode cX0_alert 109 = .ok (.iconst 1, 1) := dk_4 (dk_at dksX0_alert_4 16 rfl rfl)
theorem dX0_alert_110 : decode cX0_alert 110 = .ok (.isub, 1) := dk_100 (dk_at dksX0_alert_4 17 rfl rfl)
theorem dX0_alert_111 : decode cX0_alert 111 = .ok (.i2l, 1) := dk_133 (dk_at dksX0_alert_4 18 rfl rfl)
theorem dX0_alert_112 : decode cX0_alert 112 = .ok (.invokestatic 89, 3) := dk_184 0 89 (dk_at dksX0_alert_4 19 rfl rfl)
theorem dX0_alert_115 : decode cX0_alert 115 = .ok (.ifCond .eq 14, 3) := dk_153 0 14 (dk_at dksX0_alert_5 0 rfl rfl)
theorem dX0_alert_118 : decode cX0_alert 118 = .ok (.iload 6, 2) := dk_21 6 (dk_at dksX0_alert_5 3 rfl rfl)
theorem dX0_alert_120 : decode cX0_alert 120 = .ok (.i2l, 1) := dk_133 (dk_at dksX0_alert_5 5 rfl rfl)
theorem dX0_alert_121 : decode cX0_alert 121 = .ok (.lconst 0, 1) := dk_9 (dk_at dksX0_alert_5 6 rfl rfl)
theorem dX0_alert_122 : decode cX0_alert 122 = .ok (.lconst 1, 1) := dk_10 (dk_at dksX0_alert_5 7 rfl rfl)
theorem dX0_alert_123 : decode cX0_alert 123 = .ok (.invokestatic 89, 3) := dk_184 0 89 (dk_at dksX0_alert_5 8 rfl rfl)
theorem dX0_alert_126 : decode cX0_alert 126 = .ok (.ifCond .ne 6, 3) := dk_154 0 6 (dk_at dksX0_alert_5 11 rfl rfl)
theorem dX0_alert_129 : decode cX0_alert 129 = .ok (.bipush (-3), 2) := dk_16 253 (dk_at dksX0_alert_5 14 rfl rfl)
theorem dX0_alert_131 : decode cX0_alert 131 = .ok (.ireturn, 1) := dk_172 (dk_at dksX0_alert_5 16 rfl rfl)
theorem dX0_alert_132 : decode cX0_alert 132 = .ok (.new 145, 3) := dk_187 0 145 (dk_at dksX0_alert_5 17 rfl rfl)
theorem dX0_alert_135 : decode cX0_alert 135 = .ok (.dup, 1) := dk_89 (dk_at dksX0_alert_5 20 rfl rfl)
theorem dX0_alert_136 : decode cX0_alert 136 = .ok (.iload 7, 2) := dk_21 7 (dk_at dksX0_alert_5 21 rfl rfl)
theorem dX0_alert_138 : decode cX0_alert 138 = .ok (.iload 8, 2) := dk_21 8 (dk_at dksX0_alert_6 0 rfl rfl)
theorem dX0_alert_140 : decode cX0_alert 140 = .ok (.iload 9, 2) := dk_21 9 (dk_at dksX0_alert_6 2 rfl rfl)
theorem dX0_alert_142 : decode cX0_alert 142 = .ok (.iload 10, 2) := dk_21 10 (dk_at dksX0_alert_6 4 rfl rfl)
theorem dX0_alert_144 : decode cX0_alert 144 = .ok (.iconst 1, 1) := dk_4 (dk_at dksX0_alert_6 6 rfl rfl)
theorem dX0_alert_145 : decode cX0_alert 145 = .ok (.if_icmp .ne 7, 3) := dk_160 0 7 (dk_at dksX0_alert_6 7 rfl rfl)
theorem dX0_alert_148 : decode cX0_alert 148 = .ok (.iconst 1, 1) := dk_4 (dk_at dksX0_alert_6 10 rfl rfl)
theorem dX0_alert_149 : decode cX0_alert 149 = .ok (.goto 4, 3) := dk_167 0 4 (dk_at dksX0_alert_6 11 rfl rfl)
theorem dX0_alert_152 : decode cX0_alert 152 = .ok (.iconst 0, 1) := dk_3 (dk_at dksX0_alert_6 14 rfl rfl)
theorem dX0_alert_153 : decode cX0_alert 153 = .ok (.invokespecial 285, 3) := dk_183 1 29 (dk_at dksX0_alert_6 15 rfl rfl)
theorem dX0_alert_156 : decode cX0_alert 156 = .ok (.astore 11, 2) := dk_58 11 (dk_at dksX0_alert_6 18 rfl rfl)
theorem dX0_alert_158 : decode cX0_alert 158 = .ok (.aload_n 0, 1) := dk_42 (dk_at dksX0_alert_6 20 rfl rfl)
theorem dX0_alert_159 : decode cX0_alert 159 = .ok (.iconst 0, 1) := dk_3 (dk_at dksX0_alert_6 21 rfl rfl)
theorem dX0_alert_160 : decode cX0_alert 160 = .ok (.iconst 0, 1) := dk_3 (dk_at dksX0_alert_6 22 rfl rfl)
theorem dX0_alert_161 : decode cX0_alert 161 = .ok (.iconst (-1), 1) := dk_2 (dk_at dksX0_alert_6 23 rfl rfl)
theorem dX0_alert_162 : decode cX0_alert 162 = .ok (.invokevirtual 224, 3) := dk_182 0 224 (dk_at dksX0_alert_7 0 rfl rfl)
theorem dX0_alert_165 : decode cX0_alert 165 = .ok (.istore 12, 2) := dk_54 12 (dk_at dksX0_alert_7 3 rfl rfl)
theorem dX0_alert_167 : decode cX0_alert 167 = .ok (.iconst (-1), 1) := dk_2 (dk_at dksX0_alert_7 5 rfl rfl)
theorem dX0_alert_168 : decode cX0_alert 168 = .ok (.istore 13, 2) := dk_54 13 (dk_at dksX0_alert_7 6 rfl rfl)
theorem dX0_alert_170 : decode cX0_alert 170 = .ok (.ldc_w 270, 3) := dk_19 1 14 (dk_at dksX0_alert_7 8 rfl rfl)
theorem dX0_alert_173 : decode cX0_alert 173 = .ok (.istore 14, 2) := dk_54 14 (dk_at dksX0_alert_7 11 rfl rfl)
theorem dX0_alert_175 : decode cX0_alert 175 = .ok (.iload 4, 2) := dk_21 4 (dk_at dksX0_alert_7 13 rfl rfl)
theorem dX0_alert_177 : decode cX0_alert 177 = .ok (.istore 15, 2) := dk_54 15 (dk_at dksX0_alert_7 15 rfl rfl)
theorem dX0_alert_179 : decode cX0_alert 179 = .ok (.iload 15, 2) := dk_21 15 (dk_at dksX0_alert_7 17 rfl rfl)
theorem dX0_alert_181 : decode cX0_alert 181 = .ok (.iload 5, 2) := dk_21 5 (dk_at dksX0_alert_7 19 rfl rfl)
theorem dX0_alert_183 : decode cX0_alert 183 = .ok (.if_icmp .gt 59, 3) := dk_163 0 59 (dk_at dksX0_alert_7 21 rfl rfl)
theorem dX0_alert_186 : decode cX0_alert 186 = .ok (.aload_n 0, 1) := dk_42 (dk_at dksX0_alert_8 0 rfl rfl)
theorem dX0_alert_187 : decode cX0_alert 187 = .ok (.aload 11, 2) := dk_25 11 (dk_at dksX0_alert_8 1 rfl rfl)
theorem dX0_alert_189 : decode cX0_alert 189 = .ok (.aload_n 0, 1) := dk_42 (dk_at dksX0_alert_8 3 rfl rfl)
theorem dX0_alert_190 : decode cX0_alert 190 = .ok (.getfield 26, 3) := dk_180 0 26 (dk_at dksX0_alert_8 4 rfl rfl)
theorem dX0_alert_193 : decode cX0_alert 193 = .ok (.iload_n 1, 1) := dk_27 (dk_at dksX0_alert_8 7 rfl rfl)
theorem dX0_alert_194 : decode cX0_alert 194 = .ok (.aaload, 1) := dk_50 (dk_at dksX0_alert_8 8 rfl rfl)
theorem dX0_alert_195 : decode cX0_alert 195 = .ok (.iload 15, 2) := dk_21 15 (dk_at dksX0_alert_8 9 rfl rfl)
theorem dX0_alert_197 : decode cX0_alert 197 = .ok (.invokevirtual 288, 3) := dk_182 1 32 (dk_at dksX0_alert_8 11 rfl rfl)
theorem dX0_alert_200 : decode cX0_alert 200 = .ok (.ifCond .eq 36, 3) := dk_153 0 36 (dk_at dksX0_alert_8 14 rfl rfl)
theorem dX0_alert_203 : decode cX0_alert 203 = .ok (.iload 12, 2) := dk_21 12 (dk_at dksX0_alert_8 17 rfl rfl)
theorem dX0_alert_205 : decode cX0_alert 205 = .ok (.aload_n 0, 1) := dk_42 (dk_at dksX0_alert_8 19 rfl rfl)
theorem dX0_alert_206 : decode cX0_alert 206 = .ok (.iload 15, 2) := dk_21 15 (dk_at dksX0_alert_8 20 rfl rfl)
theorem dX0_alert_208 : decode cX0_alert 208 = .ok (.iload 7, 2) := dk_21 7 (dk_at dksX0_alert_8 22 rfl rfl)
theorem dX0_alert_210 : decode cX0_alert 210 = .ok (.invokestatic 292, 3) := dk_184 1 36 (dk_at dksX0_alert_9 0 rfl rfl)
theorem dX0_alert_213 : decode cX0_alert 213 = .ok (.iload_n 2, 1) := dk_28 (dk_at dksX0_alert_9 3 rfl rfl)
theorem dX0_alert_214 : decode cX0_alert 214 = .ok (.iconst (-1), 1) := dk_2 (dk_at dksX0_alert_9 4 rfl rfl)
theorem dX0_alert_215 : decode cX0_alert 215 = .ok (.invokevirtual 224, 3) := dk_182 0 224 (dk_at dksX0_alert_9 5 rfl rfl)
theorem dX0_alert_218 : decode cX0_alert 218 = .ok (.isub, 1) := dk_100 (dk_at dksX0_alert_9 8 rfl rfl)
theorem dX0_alert_219 : decode cX0_alert 219 = .ok (.istore 16, 2) := dk_54 16 (dk_at dksX0_alert_9 9 rfl rfl)
theorem dX0_alert_221 : decode cX0_alert 221 = .ok (.iload 16, 2) := dk_21 16 (dk_at dksX0_alert_9 11 rfl rfl)
theorem dX0_alert_223 : decode cX0_alert 223 = .ok (.iload 14, 2) := dk_21 14 (dk_at dksX0_alert_9 13 rfl rfl)
theorem dX0_alert_225 : decode cX0_alert 225 = .ok (.if_icmp .ge 11, 3) := dk_162 0 11 (dk_at dksX0_alert_9 15 rfl rfl)
theorem dX0_alert_228 : decode cX0_alert 228 = .ok (.iload 16, 2) := dk_21 16 (dk_at dksX0_alert_9 18 rfl rfl)
theorem dX0_alert_230 : decode cX0_alert 230 = .ok (.istore 14, 2) := dk_54 14 (dk_at dksX0_alert_9 20 rfl rfl)
theorem dX0_alert_232 : decode cX0_alert 232 = .ok (.iload 15, 2) := dk_21 15 (dk_at dksX0_alert_9 22 rfl rfl)
theorem dX0_alert_234 : decode cX0_alert 234 = .ok (.istore 13, 2) := dk_54 13 (dk_at dksX0_alert_10 0 rfl rfl)
theorem dX0_alert_236 : decode cX0_alert 236 = .ok (.iinc 15 1, 3) := dk_132 15 1 (dk_at dksX0_alert_10 2 rfl rfl)
theorem dX0_alert_239 : decode cX0_alert 239 = .ok (.goto (-60), 3) := dk_167 255 196 (dk_at dksX0_alert_10 5 rfl rfl)
theorem dX0_alert_242 : decode cX0_alert 242 = .ok (.iload 13, 2) := dk_21 13 (dk_at dksX0_alert_10 8 rfl rfl)
theorem dX0_alert_244 : decode cX0_alert 244 = .ok (.iconst (-1), 1) := dk_2 (dk_at dksX0_alert_10 10 rfl rfl)
theorem dX0_alert_245 : decode cX0_alert 245 = .ok (.if_icmp .eq 8, 3) := dk_159 0 8 (dk_at dksX0_alert_10 11 rfl rfl)
theorem dX0_alert_248 : decode cX0_alert 248 = .ok (.iload 6, 2) := dk_21 6 (dk_at dksX0_alert_10 14 rfl rfl)
theorem dX0_alert_250 : decode cX0_alert 250 = .ok (.ifCond .ne 8, 3) := dk_154 0 8 (dk_at dksX0_alert_10 16 rfl rfl)
theorem dX0_alert_253 : decode cX0_alert 253 = .ok (.iload 13, 2) := dk_21 13 (dk_at dksX0_alert_10 19 rfl rfl)
theorem dX0_alert_255 : decode cX0_alert 255 = .ok (.goto 5, 3) := dk_167 0 5 (dk_at dksX0_alert_10 21 rfl rfl)
theorem dX0_alert_258 : decode cX0_alert 258 = .ok (.iload 14, 2) := dk_21 14 (dk_at dksX0_alert_11 0 rfl rfl)
theorem dX0_alert_260 : decode cX0_alert 260 = .ok (.ireturn, 1) := dk_172 (dk_at dksX0_alert_11 2 rfl rfl)
abbrev cX0_share : ByteArray := prog_1_method_49_code
def yX0_share : MethodName := ⟨RX0, "share", "(II)I"⟩
def dkwX0_share_1 : List UInt8 := [172, 42, 180, 0, 78, 27, 46, 62, 42, 180, 0, 78, 27, 28, 79, 29, 172]
abbrev dktX0_share_1 : List UInt8 := dkwX0_share_1 ++ []
def dkwX0_share_0 : List UInt8 := [27, 184, 1, 39, 154, 0, 6, 16, 254, 172, 28, 133, 10, 20, 1, 42, 184, 0, 89, 154, 0, 6, 16, 253]
abbrev dktX0_share_0 : List UInt8 := dkwX0_share_0 ++ dktX0_share_1
theorem dksX0_share_0 : cX0_share.data.toList.drop 0 = dktX0_share_0 := by decide +kernel
theorem dksX0_share_1 : cX0_share.data.toList.drop 24 = dktX0_share_1 := dk_seg dksX0_share_0 24 rfl rfl
theorem dX0_share_0 : decode cX0_share 0 = .ok (.iload_n 1, 1) := dk_27 (dk_at dksX0_share_0 0 rfl rfl)
theorem dX0_share_1 : decode cX0_share 1 = .ok (.invokestatic 295, 3) := dk_184 1 39 (dk_at dksX0_share_0 1 rfl rfl)
theorem dX0_share_4 : decode cX0_share 4 = .ok (.ifCond .ne 6, 3) := dk_154 0 6 (dk_at dksX0_share_0 4 rfl rfl)
theorem dX0_share_7 : decode cX0_share 7 = .ok (.bipush (-2), 2) := dk_16 254 (dk_at dksX0_share_0 7 rfl rfl)
theorem dX0_share_9 : decode cX0_share 9 = .ok (.ireturn, 1) := dk_172 (dk_at dksX0_share_0 9 rfl rfl)
theorem dX0_share_10 : decode cX0_share 10 = .ok (.iload_n 2, 1) := dk_28 (dk_at dksX0_share_0 10 rfl rfl)
theorem dX0_share_11 : decode cX0_share 11 = .ok (.i2l, 1) := dk_133 (dk_at dksX0_share_0 11 rfl rfl)
theorem dX0_share_12 : decode cX0_share 12 = .ok (.lconst 1, 1) := dk_10 (dk_at dksX0_share_0 12 rfl rfl)
theorem dX0_share_13 : decode cX0_share 13 = .ok (.ldc2_w 298, 3) := dk_20 1 42 (dk_at dksX0_share_0 13 rfl rfl)
theorem dX0_share_16 : decode cX0_share 16 = .ok (.invokestatic 89, 3) := dk_184 0 89 (dk_at dksX0_share_0 16 rfl rfl)
theorem dX0_share_19 : decode cX0_share 19 = .ok (.ifCond .ne 6, 3) := dk_154 0 6 (dk_at dksX0_share_0 19 rfl rfl)
theorem dX0_share_22 : decode cX0_share 22 = .ok (.bipush (-3), 2) := dk_16 253 (dk_at dksX0_share_0 22 rfl rfl)
theorem dX0_share_24 : decode cX0_share 24 = .ok (.ireturn, 1) := dk_172 (dk_at dksX0_share_1 0 rfl rfl)
theorem dX0_share_25 : decode cX0_share 25 = .ok (.aload_n 0, 1) := dk_42 (dk_at dksX0_share_1 1 rfl rfl)
theorem dX0_share_26 : decode cX0_share 26 = .ok (.getfield 78, 3) := dk_180 0 78 (dk_at dksX0_share_1 2 rfl rfl)
theorem dX0_share_29 : decode cX0_share 29 = .ok (.iload_n 1, 1) := dk_27 (dk_at dksX0_share_1 5 rfl rfl)
theorem dX0_share_30 : decode cX0_share 30 = .ok (.iaload, 1) := dk_46 (dk_at dksX0_share_1 6 rfl rfl)
theorem dX0_share_31 : decode cX0_share 31 = .ok (.istore_n 3, 1) := dk_62 (dk_at dksX0_share_1 7 rfl rfl)
theorem dX0_share_32 : decode cX0_share 32 = .ok (.aload_n 0, 1) := dk_42 (dk_at dksX0_share_1 8 rfl rfl)
theorem dX0_share_33 : decode cX0_share 33 = .ok (.getfield 78, 3) := dk_180 0 78 (dk_at dksX0_share_1 9 rfl rfl)
theorem dX0_share_36 : decode cX0_share 36 = .ok (.iload_n 1, 1) := dk_27 (dk_at dksX0_share_1 12 rfl rfl)
theorem dX0_share_37 : decode cX0_share 37 = .ok (.iload_n 2, 1) := dk_28 (dk_at dksX0_share_1 13 rfl rfl)
theorem dX0_share_38 : decode cX0_share 38 = .ok (.iastore, 1) := dk_79 (dk_at dksX0_share_1 14 rfl rfl)
theorem dX0_share_39 : decode cX0_share 39 = .ok (.iload_n 3, 1) := dk_29 (dk_at dksX0_share_1 15 rfl rfl)
theorem dX0_share_40 : decode cX0_share 40 = .ok (.ireturn, 1) := dk_172 (dk_at dksX0_share_1 16 rfl rfl)
abbrev cX0_isLand : ByteArray := prog_1_method_48_code
def yX0_isLand : MethodName := ⟨RX0, "isLand", "(I)Z"⟩
def dkwX0_isLand_0 : List UInt8 := [26, 133, 9, 20, 0, 107, 184, 0, 89, 172]
abbrev dktX0_isLand_0 : List UInt8 := dkwX0_isLand_0 ++ []
theorem dksX0_isLand_0 : cX0_isLand.data.toList.drop 0 = dktX0_isLand_0 := by decide +kernel
theorem dX0_isLand_0 : decode cX0_isLand 0 = .ok (.iload_n 0, 1) := dk_26 (dk_at dksX0_isLand_0 0 rfl rfl)
theorem dX0_isLand_1 : decode cX0_isLand 1 = .ok (.i2l, 1) := dk_133 (dk_at dksX0_isLand_0 1 rfl rfl)
theorem dX0_isLand_2 : decode cX0_isLand 2 = .ok (.lconst 0, 1) := dk_9 (dk_at dksX0_isLand_0 2 rfl rfl)
theorem dX0_isLand_3 : decode cX0_isLand 3 = .ok (.ldc2_w 107, 3) := dk_20 0 107 (dk_at dksX0_isLand_0 3 rfl rfl)
theorem dX0_isLand_6 : decode cX0_isLand 6 = .ok (.invokestatic 89, 3) := dk_184 0 89 (dk_at dksX0_isLand_0 6 rfl rfl)
theorem dX0_isLand_9 : decode cX0_isLand 9 = .ok (.ireturn, 1) := dk_172 (dk_at dksX0_isLand_0 9 rfl rfl)
abbrev cX0_close : ByteArray := prog_1_method_50_code
def yX0_close : MethodName := ⟨RX0, "close", "(I)I"⟩
def dkwX0_close_8 : List UInt8 := [182, 0, 97, 42, 180, 0, 20, 4, 50, 182, 0, 97, 28, 172]
abbrev dktX0_close_8 : List UInt8 := dkwX0_close_8 ++ []
def dkwX0_close_7 : List UInt8 := [181, 1, 50, 42, 89, 180, 1, 44, 4, 96, 181, 1, 44, 42, 2, 181, 0, 15, 42, 180, 0, 20, 3, 50]
abbrev dktX0_close_7 : List UInt8 := dkwX0_close_7 ++ dktX0_close_8
def dkwX0_close_6 : List UInt8 := [16, 8, 160, 0, 8, 42, 29, 182, 0, 181, 132, 3, 255, 167, 255, 230, 42, 89, 180, 1, 50, 28, 96]
abbrev dktX0_close_6 : List UInt8 := dkwX0_close_6 ++ dktX0_close_7
def dkwX0_close_5 : List UInt8 := [167, 255, 184, 42, 180, 0, 153, 4, 100, 62, 29, 155, 0, 28, 42, 180, 0, 74, 180, 1, 5, 29, 46]
abbrev dktX0_close_5 : List UInt8 := dkwX0_close_5 ++ dktX0_close_6
def dkwX0_close_4 : List UInt8 := [96, 16, 20, 100, 92, 46, 4, 96, 79, 42, 180, 0, 82, 16, 7, 92, 46, 4, 96, 79, 132, 3, 1]
abbrev dktX0_close_4 : List UInt8 := dkwX0_close_4 ++ dktX0_close_5
def dkwX0_close_3 : List UInt8 := [16, 20, 162, 0, 19, 42, 180, 0, 32, 21, 4, 16, 10, 112, 50, 180, 1, 47, 167, 0, 10, 7, 21, 4]
abbrev dktX0_close_3 : List UInt8 := dkwX0_close_3 ++ dktX0_close_4
def dkwX0_close_2 : List UInt8 := [42, 180, 0, 9, 162, 0, 70, 42, 180, 0, 74, 180, 1, 2, 29, 46, 54, 4, 42, 180, 0, 82, 21, 4]
abbrev dktX0_close_2 : List UInt8 := dkwX0_close_2 ++ dktX0_close_3
def dkwX0_close_1 : List UInt8 := [42, 180, 0, 74, 27, 4, 42, 180, 0, 9, 182, 0, 253, 42, 180, 0, 74, 182, 0, 254, 61, 3, 62, 29]
abbrev dktX0_close_1 : List UInt8 := dkwX0_close_1 ++ dktX0_close_2
def dkwX0_close_0 : List UInt8 := [42, 27, 182, 0, 250, 154, 0, 6, 16, 253, 172, 42, 180, 1, 44, 17, 1, 44, 160, 0, 6, 16, 252, 172]
abbrev dktX0_close_0 : List UInt8 := dkwX0_close_0 ++ dktX0_close_1
theorem dksX0_close_0 : cX0_close.data.toList.drop 0 = dktX0_close_0 := by decide +kernel
theorem dksX0_close_1 : cX0_close.data.toList.drop 24 = dktX0_close_1 := dk_seg dksX0_close_0 24 rfl rfl
theorem dksX0_close_2 : cX0_close.data.toList.drop 48 = dktX0_close_2 := dk_seg dksX0_close_1 24 rfl rfl
theorem dksX0_close_3 : cX0_close.data.toList.drop 72 = dktX0_close_3 := dk_seg dksX0_close_2 24 rfl rfl
theorem dksX0_close_4 : cX0_close.data.toList.drop 96 = dktX0_close_4 := dk_seg dksX0_close_3 24 rfl rfl
theorem dksX0_close_5 : cX0_close.data.toList.drop 119 = dktX0_close_5 := dk_seg dksX0_close_4 23 rfl rfl
theorem dksX0_close_6 : cX0_close.data.toList.drop 142 = dktX0_close_6 := dk_seg dksX0_close_5 23 rfl rfl
theorem dksX0_close_7 : cX0_close.data.toList.drop 165 = dktX0_close_7 := dk_seg dksX0_close_6 23 rfl rfl
theorem dksX0_close_8 : cX0_close.data.toList.drop 189 = dktX0_close_8 := dk_seg dksX0_close_7 24 rfl rfl
theorem dX0_close_0 : decode cX0_close 0 = .ok (.aload_n 0, 1) := dk_42 (dk_at dksX0_close_0 0 rfl rfl)
theorem dX0_close_1 : decode cX0_close 1 = .ok (.iload_n 1, 1) := dk_27 (dk_at dksX0_close_0 1 rfl rfl)
theorem dX0_close_2 : decode cX0_close 2 = .ok (.invokevirtual 250, 3) := dk_182 0 250 (dk_at dksX0_close_0 2 rfl rfl)
theorem dX0_close_5 : decode cX0_close 5 = .ok (.ifCond .ne 6, 3) := dk_154 0 6 (dk_at dksX0_close_0 5 rfl rfl)
theorem dX0_close_8 : decode cX0_close 8 = .ok (.bipush (-3), 2) := dk_16 253 (dk_at dksX0_close_0 8 rfl rfl)
theorem dX0_close_10 : decode cX0_close 10 = .ok (.ireturn, 1) := dk_172 (dk_at dksX0_close_0 10 rfl rfl)
theorem dX0_close_11 : decode cX0_close 11 = .ok (.aload_n 0, 1) := dk_42 (dk_at dksX0_close_0 11 rfl rfl)
theorem dX0_close_12 : decode cX0_close 12 = .ok (.getfield 300, 3) := dk_180 1 44 (dk_at dksX0_close_0 12 rfl rfl)
theorem dX0_close_15 : decode cX0_close 15 = .ok (.sipush 300, 3) := dk_17 1 44 (dk_at dksX0_close_0 15 rfl rfl)
theorem dX0_close_18 : decode cX0_close 18 = .ok (.if_icmp .ne 6, 3) := dk_160 0 6 (dk_at dksX0_close_0 18 rfl rfl)
theorem dX0_close_21 : decode cX0_close 21 = .ok (.bipush (-4), 2) := dk_16 252 (dk_at dksX0_close_0 21 rfl rfl)
theorem dX0_close_23 : decode cX0_close 23 = .ok (.ireturn, 1) := dk_172 (dk_at dksX0_close_0 23 rfl rfl)
theorem dX0_close_24 : decode cX0_close 24 = .ok (.aload_n 0, 1) := dk_42 (dk_at dksX0_close_1 0 rfl rfl)
theorem dX0_close_25 : decode cX0_close 25 = .ok (.getfield 74, 3) := dk_180 0 74 (dk_at dksX0_close_1 1 rfl rfl)
theorem dX0_close_28 : decode cX0_close 28 = .ok (.iload_n 1, 1) := dk_27 (dk_at dksX0_close_1 4 rfl rfl)
theorem dX0_close_29 : decode cX0_close 29 = .ok (.iconst 1, 1) := dk_4 (dk_at dksX0_close_1 5 rfl rfl)
theorem dX0_close_30 : decode cX0_close 30 = .ok (.aload_n 0, 1) := dk_42 (dk_at dksX0_close_1 6 rfl rfl)
theorem dX0_close_31 : decode cX0_close 31 = .ok (.getfield 9, 3) := dk_180 0 9 (dk_at dksX0_close_1 7 rfl rfl)
theorem dX0_close_34 : decode cX0_close 34 = .ok (.invokevirtual 253, 3) := dk_182 0 253 (dk_at dksX0_close_1 10 rfl rfl)
theorem dX0_close_37 : decode cX0_close 37 = .ok (.aload_n 0, 1) := dk_42 (dk_at dksX0_close_1 13 rfl rfl)
theorem dX0_close_38 : decode cX0_close 38 = .ok (.getfield 74, 3) := dk_180 0 74 (dk_at dksX0_close_1 14 rfl rfl)
theorem dX0_close_41 : decode cX0_close 41 = .ok (.invokevirtual 254, 3) := dk_182 0 254 (dk_at dksX0_close_1 17 rfl rfl)
theorem dX0_close_44 : decode cX0_close 44 = .ok (.istore_n 2, 1) := dk_61 (dk_at dksX0_close_1 20 rfl rfl)
theorem dX0_close_45 : decode cX0_close 45 = .ok (.iconst 0, 1) := dk_3 (dk_at dksX0_close_1 21 rfl rfl)
theorem dX0_close_46 : decode cX0_close 46 = .ok (.istore_n 3, 1) := dk_62 (dk_at dksX0_close_1 22 rfl rfl)
theorem dX0_close_47 : decode cX0_close 47 = .ok (.iload_n 3, 1) := dk_29 (dk_at dksX0_close_1 23 rfl rfl)
theorem dX0_close_48 : decode cX0_close 48 = .ok (.aload_n 0, 1) := dk_42 (dk_at dksX0_close_2 0 rfl rfl)
theorem dX0_close_49 : decode cX0_close 49 = .ok (.getfield 9, 3) := dk_180 0 9 (dk_at dksX0_close_2 1 rfl rfl)
theorem dX0_close_52 : decode cX0_close 52 = .ok (.if_icmp .ge 70, 3) := dk_162 0 70 (dk_at dksX0_close_2 4 rfl rfl)
theorem dX0_close_55 : decode cX0_close 55 = .ok (.aload_n 0, 1) := dk_42 (dk_at dksX0_close_2 7 rfl rfl)
theorem dX0_close_56 : decode cX0_close 56 = .ok (.getfield 74, 3) := dk_180 0 74 (dk_at dksX0_close_2 8 rfl rfl)
theorem dX0_close_59 : decode cX0_close 59 = .ok (.getfield 258, 3) := dk_180 1 2 (dk_at dksX0_close_2 11 rfl rfl)
theorem dX0_close_62 : decode cX0_close 62 = .ok (.iload_n 3, 1) := dk_29 (dk_at dksX0_close_2 14 rfl rfl)
theorem dX0_close_63 : decode cX0_close 63 = .ok (.iaload, 1) := dk_46 (dk_at dksX0_close_2 15 rfl rfl)
theorem dX0_close_64 : decode cX0_close 64 = .ok (.istore 4, 2) := dk_54 4 (dk_at dksX0_close_2 16 rfl rfl)
theorem dX0_close_66 : decode cX0_close 66 = .ok (.aload_n 0, 1) := dk_42 (dk_at dksX0_close_2 18 rfl rfl)
theorem dX0_close_67 : decode cX0_close 67 = .ok (.getfield 82, 3) := dk_180 0 82 (dk_at dksX0_close_2 19 rfl rfl)
theorem dX0_close_70 : decode cX0_close 70 = .ok (.iload 4, 2) := dk_21 4 (dk_at dksX0_close_2 22 rfl rfl)
theorem dX0_close_72 : decode cX0_close 72 = .ok (.bipush 20, 2) := dk_16 20 (dk_at dksX0_close_3 0 rfl rfl)
theorem dX0_close_74 : decode cX0_close 74 = .ok (.if_icmp .ge 19, 3) := dk_162 0 19 (dk_at dksX0_close_3 2 rfl rfl)
theorem dX0_close_77 : decode cX0_close 77 = .ok (.aload_n 0, 1) := dk_42 (dk_at dksX0_close_3 5 rfl rfl)
theorem dX0_close_78 : decode cX0_close 78 = .ok (.getfield 32, 3) := dk_180 0 32 (dk_at dksX0_close_3 6 rfl rfl)
theorem dX0_close_81 : decode cX0_close 81 = .ok (.iload 4, 2) := dk_21 4 (dk_at dksX0_close_3 9 rfl rfl)
theorem dX0_close_83 : decode cX0_close 83 = .ok (.bipush 10, 2) := dk_16 10 (dk_at dksX0_close_3 11 rfl rfl)
theorem dX0_close_85 : decode cX0_close 85 = .ok (.irem, 1) := dk_112 (dk_at dksX0_close_3 13 rfl rfl)
theorem dX0_close_86 : decode cX0_close 86 = .ok (.aaload, 1) := dk_50 (dk_at dksX0_close_3 14 rfl rfl)
theorem dX0_close_87 : decode cX0_close 87 = .ok (.getfield 303, 3) := dk_180 1 47 (dk_at dksX0_close_3 15 rfl rfl)
theorem dX0_close_90 : decode cX0_close 90 = .ok (.goto 10, 3) := dk_167 0 10 (dk_at dksX0_close_3 18 rfl rfl)
theorem dX0_close_93 : decode cX0_close 93 = .ok (.iconst 4, 1) := dk_7 (dk_at dksX0_close_3 21 rfl rfl)
theorem dX0_close_94 : decode cX0_close 94 = .ok (.iload 4, 2) := dk_21 4 (dk_at dksX0_close_3 22 rfl rfl)
theorem dX0_close_96 : decode cX0_close 96 = .ok (.iadd, 1) := dk_96 (dk_at dksX0_close_4 0 rfl rfl)
theorem dX0_close_97 : decode cX0_close 97 = .ok (.bipush 20, 2) := dk_16 20 (dk_at dksX0_close_4 1 rfl rfl)
theorem dX0_close_99 : decode cX0_close 99 = .ok (.isub, 1) := dk_100 (dk_at dksX0_close_4 3 rfl rfl)
theorem dX0_close_100 : decode cX0_close 100 = .ok (.dup2, 1) := dk_92 (dk_at dksX0_close_4 4 rfl rfl)
theorem dX0_close_101 : decode cX0_close 101 = .ok (.iaload, 1) := dk_46 (dk_at dksX0_close_4 5 rfl rfl)
theorem dX0_close_102 : decode cX0_close 102 = .ok (.iconst 1, 1) := dk_4 (dk_at dksX0_close_4 6 rfl rfl)
theorem dX0_close_103 : decode cX0_close 103 = .ok (.iadd, 1) := dk_96 (dk_at dksX0_close_4 7 rfl rfl)
theorem dX0_close_104 : decode cX0_close 104 = .ok (.iastore, 1) := dk_79 (dk_at dksX0_close_4 8 rfl rfl)
theorem dX0_close_105 : decode cX0_close 105 = .ok (.aload_n 0, 1) := dk_42 (dk_at dksX0_close_4 9 rfl rfl)
theorem dX0_close_106 : decode cX0_close 106 = .ok (.getfield 82, 3) := dk_180 0 82 (dk_at dksX0_close_4 10 rfl rfl)
theorem dX0_close_109 : decode cX0_close 109 = .ok (.bipush 7, 2) := dk_16 7 (dk_at dksX0_close_4 13 rfl rfl)
theorem dX0_close_111 : decode cX0_close 111 = .ok (.dup2, 1) := dk_92 (dk_at dksX0_close_4 15 rfl rfl)
theorem dX0_close_112 : decode cX0_close 112 = .ok (.iaload, 1) := dk_46 (dk_at dksX0_close_4 16 rfl rfl)
theorem dX0_close_113 : decode cX0_close 113 = .ok (.iconst 1, 1) := dk_4 (dk_at dksX0_close_4 17 rfl rfl)
theorem dX0_close_114 : decode cX0_close 114 = .ok (.iadd, 1) := dk_96 (dk_at dksX0_close_4 18 rfl rfl)
theorem dX0_close_115 : decode cX0_close 115 = .ok (.iastore, 1) := dk_79 (dk_at dksX0_close_4 19 rfl rfl)
theorem dX0_close_116 : decode cX0_close 116 = .ok (.iinc 3 1, 3) := dk_132 3 1 (dk_at dksX0_close_4 20 rfl rfl)
theorem dX0_close_119 : decode cX0_close 119 = .ok (.goto (-72), 3) := dk_167 255 184 (dk_at dksX0_close_5 0 rfl rfl)
theorem dX0_close_122 : decode cX0_close 122 = .ok (.aload_n 0, 1) := dk_42 (dk_at dksX0_close_5 3 rfl rfl)
theorem dX0_close_123 : decode cX0_close 123 = .ok (.getfield 153, 3) := dk_180 0 153 (dk_at dksX0_close_5 4 rfl rfl)
theorem dX0_close_126 : decode cX0_close 126 = .ok (.iconst 1, 1) := dk_4 (dk_at dksX0_close_5 7 rfl rfl)
theorem dX0_close_127 : decode cX0_close 127 = .ok (.isub, 1) := dk_100 (dk_at dksX0_close_5 8 rfl rfl)
theorem dX0_close_128 : decode cX0_close 128 = .ok (.istore_n 3, 1) := dk_62 (dk_at dksX0_close_5 9 rfl rfl)
theorem dX0_close_129 : decode cX0_close 129 = .ok (.iload_n 3, 1) := dk_29 (dk_at dksX0_close_5 10 rfl rfl)
theorem dX0_close_130 : decode cX0_close 130 = .ok (.ifCond .lt 28, 3) := dk_155 0 28 (dk_at dksX0_close_5 11 rfl rfl)
theorem dX0_close_133 : decode cX0_close 133 = .ok (.aload_n 0, 1) := dk_42 (dk_at dksX0_close_5 14 rfl rfl)
theorem dX0_close_134 : decode cX0_close 134 = .ok (.getfield 74, 3) := dk_180 0 74 (dk_at dksX0_close_5 15 rfl rfl)
theorem dX0_close_137 : decode cX0_close 137 = .ok (.getfield 261, 3) := dk_180 1 5 (dk_at dksX0_close_5 18 rfl rfl)
theorem dX0_close_140 : decode cX0_close 140 = .ok (.iload_n 3, 1) := dk_29 (dk_at dksX0_close_5 21 rfl rfl)
theorem dX0_close_141 : decode cX0_close 141 = .ok (.iaload, 1) := dk_46 (dk_at dksX0_close_5 22 rfl rfl)
theorem dX0_close_142 : decode cX0_close 142 = .ok (.bipush 8, 2) := dk_16 8 (dk_at dksX0_close_6 0 rfl rfl)
theorem dX0_close_144 : decode cX0_close 144 = .ok (.if_icmp .ne 8, 3) := dk_160 0 8 (dk_at dksX0_close_6 2 rfl rfl)
theorem dX0_close_147 : decode cX0_close 147 = .ok (.aload_n 0, 1) := dk_42 (dk_at dksX0_close_6 5 rfl rfl)
theorem dX0_close_148 : decode cX0_close 148 = .ok (.iload_n 3, 1) := dk_29 (dk_at dksX0_close_6 6 rfl rfl)
theorem dX0_close_149 : decode cX0_close 149 = .ok (.invokevirtual 181, 3) := dk_182 0 181 (dk_at dksX0_close_6 7 rfl rfl)
theorem dX0_close_152 : decode cX0_close 152 = .ok (.iinc 3 (-1), 3) := dk_132 3 255 (dk_at dksX0_close_6 10 rfl rfl)
theorem dX0_close_155 : decode cX0_close 155 = .ok (.goto (-26), 3) := dk_167 255 230 (dk_at dksX0_close_6 13 rfl rfl)
theorem dX0_close_158 : decode cX0_close 158 = .ok (.aload_n 0, 1) := dk_42 (dk_at dksX0_close_6 16 rfl rfl)
theorem dX0_close_159 : decode cX0_close 159 = .ok (.dup, 1) := dk_89 (dk_at dksX0_close_6 17 rfl rfl)
theorem dX0_close_160 : decode cX0_close 160 = .ok (.getfield 306, 3) := dk_180 1 50 (dk_at dksX0_close_6 18 rfl rfl)
theorem dX0_close_163 : decode cX0_close 163 = .ok (.iload_n 2, 1) := dk_28 (dk_at dksX0_close_6 21 rfl rfl)
theorem dX0_close_164 : decode cX0_close 164 = .ok (.iadd, 1) := dk_96 (dk_at dksX0_close_6 22 rfl rfl)
theorem dX0_close_165 : decode cX0_close 165 = .ok (.putfield 306, 3) := dk_181 1 50 (dk_at dksX0_close_7 0 rfl rfl)
theorem dX0_close_168 : decode cX0_close 168 = .ok (.aload_n 0, 1) := dk_42 (dk_at dksX0_close_7 3 rfl rfl)
theorem dX0_close_169 : decode cX0_close 169 = .ok (.dup, 1) := dk_89 (dk_at dksX0_close_7 4 rfl rfl)
theorem dX0_close_170 : decode cX0_close 170 = .ok (.getfield 300, 3) := dk_180 1 44 (dk_at dksX0_close_7 5 rfl rfl)
theorem dX0_close_173 : decode cX0_close 173 = .ok (.iconst 1, 1) := dk_4 (dk_at dksX0_close_7 8 rfl rfl)
theorem dX0_close_174 : decode cX0_close 174 = .ok (.iadd, 1) := dk_96 (dk_at dksX0_close_7 9 rfl rfl)
theorem dX0_close_175 : decode cX0_close 175 = .ok (.putfield 300, 3) := dk_181 1 44 (dk_at dksX0_close_7 10 rfl rfl)
theorem dX0_close_178 : decode cX0_close 178 = .ok (.aload_n 0, 1) := dk_42 (dk_at dksX0_close_7 13 rfl rfl)
theorem dX0_close_179 : decode cX0_close 179 = .ok (.iconst (-1), 1) := dk_2 (dk_at dksX0_close_7 14 rfl rfl)
theorem dX0_close_180 : decode cX0_close 180 = .ok (.putfield 15, 3) := dk_181 0 15 (dk_at dksX0_close_7 15 rfl rfl)
theorem dX0_close_183 : decode cX0_close 183 = .ok (.aload_n 0, 1) := dk_42 (dk_at dksX0_close_7 18 rfl rfl)
theorem dX0_close_184 : decode cX0_close 184 = .ok (.getfield 20, 3) := dk_180 0 20 (dk_at dksX0_close_7 19 rfl rfl)
theorem dX0_close_187 : decode cX0_close 187 = .ok (.iconst 0, 1) := dk_3 (dk_at dksX0_close_7 22 rfl rfl)
theorem dX0_close_188 : decode cX0_close 188 = .ok (.aaload, 1) := dk_50 (dk_at dksX0_close_7 23 rfl rfl)
theorem dX0_close_189 : decode cX0_close 189 = .ok (.invokevirtual 97, 3) := dk_182 0 97 (dk_at dksX0_close_8 0 rfl rfl)
theorem dX0_close_192 : decode cX0_close 192 = .ok (.aload_n 0, 1) := dk_42 (dk_at dksX0_close_8 3 rfl rfl)
theorem dX0_close_193 : decode cX0_close 193 = .ok (.getfield 20, 3) := dk_180 0 20 (dk_at dksX0_close_8 4 rfl rfl)
theorem dX0_close_196 : decode cX0_close 196 = .ok (.iconst 1, 1) := dk_4 (dk_at dksX0_close_8 7 rfl rfl)
theorem dX0_close_197 : decode cX0_close 197 = .ok (.aaload, 1) := dk_50 (dk_at dksX0_close_8 8 rfl rfl)
theorem dX0_close_198 : decode cX0_close 198 = .ok (.invokevirtual 97, 3) := dk_182 0 97 (dk_at dksX0_close_8 9 rfl rfl)
theorem dX0_close_201 : decode cX0_close 201 = .ok (.iload_n 2, 1) := dk_28 (dk_at dksX0_close_8 12 rfl rfl)
theorem dX0_close_202 : decode cX0_close 202 = .ok (.ireturn, 1) := dk_172 (dk_at dksX0_close_8 13 rfl rfl)
abbrev cX0_account : ByteArray := prog_1_method_51_code
def yX0_account : MethodName := ⟨RX0, "account", "(I)I"⟩
def dkwX0_account_1 : List UInt8 := [167, 0, 5, 16, 253, 172]
abbrev dktX0_account_1 : List UInt8 := dkwX0_account_1 ++ []
def dkwX0_account_0 : List UInt8 := [27, 133, 9, 42, 180, 0, 82, 190, 4, 100, 133, 184, 0, 89, 153, 0, 12, 42, 180, 0, 82, 27, 46]
abbrev dktX0_account_0 : List UInt8 := dkwX0_account_0 ++ dktX0_account_1
theorem dksX0_account_0 : cX0_account.data.toList.drop 0 = dktX0_account_0 := by decide +kernel
theorem dksX0_account_1 : cX0_account.data.toList.drop 23 = dktX0_account_1 := dk_seg dksX0_account_0 23 rfl rfl
theorem dX0_account_0 : decode cX0_account 0 = .ok (.iload_n 1, 1) := dk_27 (dk_at dksX0_account_0 0 rfl rfl)
theorem dX0_account_1 : decode cX0_account 1 = .ok (.i2l, 1) := dk_133 (dk_at dksX0_account_0 1 rfl rfl)
theorem dX0_account_2 : decode cX0_account 2 = .ok (.lconst 0, 1) := dk_9 (dk_at dksX0_account_0 2 rfl rfl)
theorem dX0_account_3 : decode cX0_account 3 = .ok (.aload_n 0, 1) := dk_42 (dk_at dksX0_account_0 3 rfl rfl)
theorem dX0_account_4 : decode cX0_account 4 = .ok (.getfield 82, 3) := dk_180 0 82 (dk_at dksX0_account_0 4 rfl rfl)
theorem dX0_account_7 : decode cX0_account 7 = .ok (.arraylength, 1) := dk_190 (dk_at dksX0_account_0 7 rfl rfl)
theorem dX0_account_8 : decode cX0_account 8 = .ok (.iconst 1, 1) := dk_4 (dk_at dksX0_account_0 8 rfl rfl)
theorem dX0_account_9 : decode cX0_account 9 = .ok (.isub, 1) := dk_100 (dk_at dksX0_account_0 9 rfl rfl)
theorem dX0_account_10 : decode cX0_account 10 = .ok (.i2l, 1) := dk_133 (dk_at dksX0_account_0 10 rfl rfl)
theorem dX0_account_11 : decode cX0_account 11 = .ok (.invokestatic 89, 3) := dk_184 0 89 (dk_at dksX0_account_0 11 rfl rfl)
theorem dX0_account_14 : decode cX0_account 14 = .ok (.ifCond .eq 12, 3) := dk_153 0 12 (dk_at dksX0_account_0 14 rfl rfl)
theorem dX0_account_17 : decode cX0_account 17 = .ok (.aload_n 0, 1) := dk_42 (dk_at dksX0_account_0 17 rfl rfl)
theorem dX0_account_18 : decode cX0_account 18 = .ok (.getfield 82, 3) := dk_180 0 82 (dk_at dksX0_account_0 18 rfl rfl)
theorem dX0_account_21 : decode cX0_account 21 = .ok (.iload_n 1, 1) := dk_27 (dk_at dksX0_account_0 21 rfl rfl)
theorem dX0_account_22 : decode cX0_account 22 = .ok (.iaload, 1) := dk_46 (dk_at dksX0_account_0 22 rfl rfl)
theorem dX0_account_23 : decode cX0_account 23 = .ok (.goto 5, 3) := dk_167 0 5 (dk_at dksX0_account_1 0 rfl rfl)
theorem dX0_account_26 : decode cX0_account 26 = .ok (.bipush (-3), 2) := dk_16 253 (dk_at dksX0_account_1 3 rfl rfl)
theorem dX0_account_28 : decode cX0_account 28 = .ok (.ireturn, 1) := dk_172 (dk_at dksX0_account_1 5 rfl rfl)
abbrev cX0_debt : ByteArray := prog_1_method_53_code
def yX0_debt : MethodName := ⟨RX0, "debt", "(I)I"⟩
def dkwX0_debt_0 : List UInt8 := [27, 184, 1, 39, 153, 0, 11, 42, 27, 182, 1, 53, 167, 0, 6, 19, 1, 56, 172]
abbrev dktX0_debt_0 : List UInt8 := dkwX0_debt_0 ++ []
theorem dksX0_debt_0 : cX0_debt.data.toList.drop 0 = dktX0_debt_0 := by decide +kernel
theorem dX0_debt_0 : decode cX0_debt 0 = .ok (.iload_n 1, 1) := dk_27 (dk_at dksX0_debt_0 0 rfl rfl)
theorem dX0_debt_1 : decode cX0_debt 1 = .ok (.invokestatic 295, 3) := dk_184 1 39 (dk_at dksX0_debt_0 1 rfl rfl)
theorem dX0_debt_4 : decode cX0_debt 4 = .ok (.ifCond .eq 11, 3) := dk_153 0 11 (dk_at dksX0_debt_0 4 rfl rfl)
theorem dX0_debt_7 : decode cX0_debt 7 = .ok (.aload_n 0, 1) := dk_42 (dk_at dksX0_debt_0 7 rfl rfl)
theorem dX0_debt_8 : decode cX0_debt 8 = .ok (.iload_n 1, 1) := dk_27 (dk_at dksX0_debt_0 8 rfl rfl)
theorem dX0_debt_9 : decode cX0_debt 9 = .ok (.invokevirtual 309, 3) := dk_182 1 53 (dk_at dksX0_debt_0 9 rfl rfl)
theorem dX0_debt_12 : decode cX0_debt 12 = .ok (.goto 6, 3) := dk_167 0 6 (dk_at dksX0_debt_0 12 rfl rfl)
theorem dX0_debt_15 : decode cX0_debt 15 = .ok (.ldc_w 312, 3) := dk_19 1 56 (dk_at dksX0_debt_0 15 rfl rfl)
theorem dX0_debt_18 : decode cX0_debt 18 = .ok (.ireturn, 1) := dk_172 (dk_at dksX0_debt_0 18 rfl rfl)
abbrev cX0_debtOf : ByteArray := prog_1_method_52_code
def yX0_debtOf : MethodName := ⟨RX0, "debtOf", "(I)I"⟩
def dkwX0_debtOf_2 : List UInt8 := [42, 180, 0, 82, 27, 46, 104, 100, 172]
abbrev dktX0_debtOf_2 : List UInt8 := dkwX0_debtOf_2 ++ []
def dkwX0_debtOf_1 : List UInt8 := [42, 180, 0, 78, 21, 4, 46, 96, 62, 132, 4, 1, 167, 255, 227, 42, 180, 0, 78, 27, 46, 28, 104, 29]
abbrev dktX0_debtOf_1 : List UInt8 := dkwX0_debtOf_1 ++ dktX0_debtOf_2
def dkwX0_debtOf_0 : List UInt8 := [3, 61, 3, 62, 3, 54, 4, 21, 4, 7, 162, 0, 29, 28, 42, 180, 0, 82, 21, 4, 46, 96, 61, 29]
abbrev dktX0_debtOf_0 : List UInt8 := dkwX0_debtOf_0 ++ dktX0_debtOf_1
theorem dksX0_debtOf_0 : cX0_debtOf.data.toList.drop 0 = dktX0_debtOf_0 := by decide +kernel
theorem dksX0_debtOf_1 : cX0_debtOf.data.toList.drop 24 = dktX0_debtOf_1 := dk_seg dksX0_debtOf_0 24 rfl rfl
theorem dksX0_debtOf_2 : cX0_debtOf.data.toList.drop 48 = dktX0_debtOf_2 := dk_seg dksX0_debtOf_1 24 rfl rfl
theorem dX0_debtOf_0 : decode cX0_debtOf 0 = .ok (.iconst 0, 1) := dk_3 (dk_at dksX0_debtOf_0 0 rfl rfl)
theorem dX0_debtOf_1 : decode cX0_debtOf 1 = .ok (.istore_n 2, 1) := dk_61 (dk_at dksX0_debtOf_0 1 rfl rfl)
theorem dX0_debtOf_2 : decode cX0_debtOf 2 = .ok (.iconst 0, 1) := dk_3 (dk_at dksX0_debtOf_0 2 rfl rfl)
theorem dX0_debtOf_3 : decode cX0_debtOf 3 = .ok (.istore_n 3, 1) := dk_62 (dk_at dksX0_debtOf_0 3 rfl rfl)
theorem dX0_debtOf_4 : decode cX0_debtOf 4 = .ok (.iconst 0, 1) := dk_3 (dk_at dksX0_debtOf_0 4 rfl rfl)
theorem dX0_debtOf_5 : decode cX0_debtOf 5 = .ok (.istore 4, 2) := dk_54 4 (dk_at dksX0_debtOf_0 5 rfl rfl)
theorem dX0_debtOf_7 : decode cX0_debtOf 7 = .ok (.iload 4, 2) := dk_21 4 (dk_at dksX0_debtOf_0 7 rfl rfl)
theorem dX0_debtOf_9 : decode cX0_debtOf 9 = .ok (.iconst 4, 1) := dk_7 (dk_at dksX0_debtOf_0 9 rfl rfl)
theorem dX0_debtOf_10 : decode cX0_debtOf 10 = .ok (.if_icmp .ge 29, 3) := dk_162 0 29 (dk_at dksX0_debtOf_0 10 rfl rfl)
theorem dX0_debtOf_13 : decode cX0_debtOf 13 = .ok (.iload_n 2, 1) := dk_28 (dk_at dksX0_debtOf_0 13 rfl rfl)
theorem dX0_debtOf_14 : decode cX0_debtOf 14 = .ok (.aload_n 0, 1) := dk_42 (dk_at dksX0_debtOf_0 14 rfl rfl)
theorem dX0_debtOf_15 : decode cX0_debtOf 15 = .ok (.getfield 82, 3) := dk_180 0 82 (dk_at dksX0_debtOf_0 15 rfl rfl)
theorem dX0_debtOf_18 : decode cX0_debtOf 18 = .ok (.iload 4, 2) := dk_21 4 (dk_at dksX0_debtOf_0 18 rfl rfl)
theorem dX0_debtOf_20 : decode cX0_debtOf 20 = .ok (.iaload, 1) := dk_46 (dk_at dksX0_debtOf_0 20 rfl rfl)
theorem dX0_debtOf_21 : decode cX0_debtOf 21 = .ok (.iadd, 1) := dk_96 (dk_at dksX0_debtOf_0 21 rfl rfl)
theorem dX0_debtOf_22 : decode cX0_debtOf 22 = .ok (.istore_n 2, 1) := dk_61 (dk_at dksX0_debtOf_0 22 rfl rfl)
theorem dX0_debtOf_23 : decode cX0_debtOf 23 = .ok (.iload_n 3, 1) := dk_29 (dk_at dksX0_debtOf_0 23 rfl rfl)
theorem dX0_debtOf_24 : decode cX0_debtOf 24 = .ok (.aload_n 0, 1) := dk_42 (dk_at dksX0_debtOf_1 0 rfl rfl)
theorem dX0_debtOf_25 : decode cX0_debtOf 25 = .ok (.getfield 78, 3) := dk_180 0 78 (dk_at dksX0_debtOf_1 1 rfl rfl)
theorem dX0_debtOf_28 : decode cX0_debtOf 28 = .ok (.iload 4, 2) := dk_21 4 (dk_at dksX0_debtOf_1 4 rfl rfl)
theorem dX0_debtOf_30 : decode cX0_debtOf 30 = .ok (.iaload, 1) := dk_46 (dk_at dksX0_debtOf_1 6 rfl rfl)
theorem dX0_debtOf_31 : decode cX0_debtOf 31 = .ok (.iadd, 1) := dk_96 (dk_at dksX0_debtOf_1 7 rfl rfl)
theorem dX0_debtOf_32 : decode cX0_debtOf 32 = .ok (.istore_n 3, 1) := dk_62 (dk_at dksX0_debtOf_1 8 rfl rfl)
theorem dX0_debtOf_33 : decode cX0_debtOf 33 = .ok (.iinc 4 1, 3) := dk_132 4 1 (dk_at dksX0_debtOf_1 9 rfl rfl)
theorem dX0_debtOf_36 : decode cX0_debtOf 36 = .ok (.goto (-29), 3) := dk_167 255 227 (dk_at dksX0_debtOf_1 12 rfl rfl)
theorem dX0_debtOf_39 : decode cX0_debtOf 39 = .ok (.aload_n 0, 1) := dk_42 (dk_at dksX0_debtOf_1 15 rfl rfl)
theorem dX0_debtOf_40 : decode cX0_debtOf 40 = .ok (.getfield 78, 3) := dk_180 0 78 (dk_at dksX0_debtOf_1 16 rfl rfl)
theorem dX0_debtOf_43 : decode cX0_debtOf 43 = .ok (.iload_n 1, 1) := dk_27 (dk_at dksX0_debtOf_1 19 rfl rfl)
theorem dX0_debtOf_44 : decode cX0_debtOf 44 = .ok (.iaload, 1) := dk_46 (dk_at dksX0_debtOf_1 20 rfl rfl)
theorem dX0_debtOf_45 : decode cX0_debtOf 45 = .ok (.iload_n 2, 1) := dk_28 (dk_at dksX0_debtOf_1 21 rfl rfl)
theorem dX0_debtOf_46 : decode cX0_debtOf 46 = .ok (.imul, 1) := dk_104 (dk_at dksX0_debtOf_1 22 rfl rfl)
theorem dX0_debtOf_47 : decode cX0_debtOf 47 = .ok (.iload_n 3, 1) := dk_29 (dk_at dksX0_debtOf_1 23 rfl rfl)
theorem dX0_debtOf_48 : decode cX0_debtOf 48 = .ok (.aload_n 0, 1) := dk_42 (dk_at dksX0_debtOf_2 0 rfl rfl)
theorem dX0_debtOf_49 : decode cX0_debtOf 49 = .ok (.getfield 82, 3) := dk_180 0 82 (dk_at dksX0_debtOf_2 1 rfl rfl)
theorem dX0_debtOf_52 : decode cX0_debtOf 52 = .ok (.iload_n 1, 1) := dk_27 (dk_at dksX0_debtOf_2 4 rfl rfl)
theorem dX0_debtOf_53 : decode cX0_debtOf 53 = .ok (.iaload, 1) := dk_46 (dk_at dksX0_debtOf_2 5 rfl rfl)
theorem dX0_debtOf_54 : decode cX0_debtOf 54 = .ok (.imul, 1) := dk_104 (dk_at dksX0_debtOf_2 6 rfl rfl)
theorem dX0_debtOf_55 : decode cX0_debtOf 55 = .ok (.isub, 1) := dk_100 (dk_at dksX0_debtOf_2 7 rfl rfl)
theorem dX0_debtOf_56 : decode cX0_debtOf 56 = .ok (.ireturn, 1) := dk_172 (dk_at dksX0_debtOf_2 8 rfl rfl)
abbrev cX0_next : ByteArray := prog_1_method_54_code
def yX0_next : MethodName := ⟨RX0, "next", "()I"⟩
def dkwX0_next_1 : List UInt8 := [167, 0, 4, 27, 60, 132, 2, 1, 167, 255, 229, 27, 172]
abbrev dktX0_next_1 : List UInt8 := dkwX0_next_1 ++ []
def dkwX0_next_0 : List UInt8 := [3, 60, 4, 61, 28, 7, 162, 0, 28, 42, 28, 182, 1, 53, 42, 27, 182, 1, 53, 164, 0, 7, 28]
abbrev dktX0_next_0 : List UInt8 := dkwX0_next_0 ++ dktX0_next_1
theorem dksX0_next_0 : cX0_next.data.toList.drop 0 = dktX0_next_0 := by decide +kernel
theorem dksX0_next_1 : cX0_next.data.toList.drop 23 = dktX0_next_1 := dk_seg dksX0_next_0 23 rfl rfl
theorem dX0_next_0 : decode cX0_next 0 = .ok (.iconst 0, 1) := dk_3 (dk_at dksX0_next_0 0 rfl rfl)
theorem dX0_next_1 : decode cX0_next 1 = .ok (.istore_n 1, 1) := dk_60 (dk_at dksX0_next_0 1 rfl rfl)
theorem dX0_next_2 : decode cX0_next 2 = .ok (.iconst 1, 1) := dk_4 (dk_at dksX0_next_0 2 rfl rfl)
theorem dX0_next_3 : decode cX0_next 3 = .ok (.istore_n 2, 1) := dk_61 (dk_at dksX0_next_0 3 rfl rfl)
theorem dX0_next_4 : decode cX0_next 4 = .ok (.iload_n 2, 1) := dk_28 (dk_at dksX0_next_0 4 rfl rfl)
theorem dX0_next_5 : decode cX0_next 5 = .ok (.iconst 4, 1) := dk_7 (dk_at dksX0_next_0 5 rfl rfl)
theorem dX0_next_6 : decode cX0_next 6 = .ok (.if_icmp .ge 28, 3) := dk_162 0 28 (dk_at dksX0_next_0 6 rfl rfl)
theorem dX0_next_9 : decode cX0_next 9 = .ok (.aload_n 0, 1) := dk_42 (dk_at dksX0_next_0 9 rfl rfl)
theorem dX0_next_10 : decode cX0_next 10 = .ok (.iload_n 2, 1) := dk_28 (dk_at dksX0_next_0 10 rfl rfl)
theorem dX0_next_11 : decode cX0_next 11 = .ok (.invokevirtual 309, 3) := dk_182 1 53 (dk_at dksX0_next_0 11 rfl rfl)
theorem dX0_next_14 : decode cX0_next 14 = .ok (.aload_n 0, 1) := dk_42 (dk_at dksX0_next_0 14 rfl rfl)
theorem dX0_next_15 : decode cX0_next 15 = .ok (.iload_n 1, 1) := dk_27 (dk_at dksX0_next_0 15 rfl rfl)
theorem dX0_next_16 : decode cX0_next 16 = .ok (.invokevirtual 309, 3) := dk_182 1 53 (dk_at dksX0_next_0 16 rfl rfl)
theorem dX0_next_19 : decode cX0_next 19 = .ok (.if_icmp .le 7, 3) := dk_164 0 7 (dk_at dksX0_next_0 19 rfl rfl)
theorem dX0_next_22 : decode cX0_next 22 = .ok (.iload_n 2, 1) := dk_28 (dk_at dksX0_next_0 22 rfl rfl)
theorem dX0_next_23 : decode cX0_next 23 = .ok (.goto 4, 3) := dk_167 0 4 (dk_at dksX0_next_1 0 rfl rfl)
theorem dX0_next_26 : decode cX0_next 26 = .ok (.iload_n 1, 1) := dk_27 (dk_at dksX0_next_1 3 rfl rfl)
theorem dX0_next_27 : decode cX0_next 27 = .ok (.istore_n 1, 1) := dk_60 (dk_at dksX0_next_1 4 rfl rfl)
theorem dX0_next_28 : decode cX0_next 28 = .ok (.iinc 2 1, 3) := dk_132 2 1 (dk_at dksX0_next_1 5 rfl rfl)
theorem dX0_next_31 : decode cX0_next 31 = .ok (.goto (-27), 3) := dk_167 255 229 (dk_at dksX0_next_1 8 rfl rfl)
theorem dX0_next_34 : decode cX0_next 34 = .ok (.iload_n 1, 1) := dk_27 (dk_at dksX0_next_1 11 rfl rfl)
theorem dX0_next_35 : decode cX0_next 35 = .ok (.ireturn, 1) := dk_172 (dk_at dksX0_next_1 12 rfl rfl)
abbrev cX0_count : ByteArray := prog_1_method_55_code
def yX0_count : MethodName := ⟨RX0, "count", "(I)I"⟩
def dkwX0_count_3 : List UInt8 := [172, 42, 180, 0, 156, 172, 42, 180, 1, 50, 172, 16, 253, 172]
abbrev dktX0_count_3 : List UInt8 := dkwX0_count_3 ++ []
def dkwX0_count_2 : List UInt8 := [42, 180, 0, 9, 172, 42, 180, 1, 44, 172, 42, 180, 0, 86, 172, 42, 180, 0, 153, 172, 42, 180, 0, 100]
abbrev dktX0_count_2 : List UInt8 := dkwX0_count_2 ++ dktX0_count_3
def dkwX0_count_1 : List UInt8 := [170, 0, 0, 0, 0, 0, 78, 0, 0, 0, 0, 0, 0, 0, 6, 0, 0, 0, 43, 0, 0, 0, 48, 0, 0, 0, 53, 0, 0, 0, 58, 0, 0, 0, 63, 0, 0, 0, 68, 0, 0, 0, 73]
abbrev dktX0_count_1 : List UInt8 := dkwX0_count_1 ++ dktX0_count_2
def dkwX0_count_0 : List UInt8 := [27]
abbrev dktX0_count_0 : List UInt8 := dkwX0_count_0 ++ dktX0_count_1
theorem dksX0_count_0 : cX0_count.data.toList.drop 0 = dktX0_count_0 := by decide +kernel
theorem dksX0_count_1 : cX0_count.data.toList.drop 1 = dktX0_count_1 := dk_seg dksX0_count_0 1 rfl rfl
theorem dksX0_count_2 : cX0_count.data.toList.drop 44 = dktX0_count_2 := dk_seg dksX0_count_1 43 rfl rfl
theorem dksX0_count_3 : cX0_count.data.toList.drop 68 = dktX0_count_3 := dk_seg dksX0_count_2 24 rfl rfl
theorem dX0_count_0 : decode cX0_count 0 = .ok (.iload_n 1, 1) := dk_27 (dk_at dksX0_count_0 0 rfl rfl)
theorem dX0_count_1 : decode cX0_count 1 = .ok (.tableswitch 78 0 6 #[43, 48, 53, 58, 63, 68, 73], 43) := by decide +kernel
theorem dX0_count_44 : decode cX0_count 44 = .ok (.aload_n 0, 1) := dk_42 (dk_at dksX0_count_2 0 rfl rfl)
theorem dX0_count_45 : decode cX0_count 45 = .ok (.getfield 9, 3) := dk_180 0 9 (dk_at dksX0_count_2 1 rfl rfl)
theorem dX0_count_48 : decode cX0_count 48 = .ok (.ireturn, 1) := dk_172 (dk_at dksX0_count_2 4 rfl rfl)
theorem dX0_count_49 : decode cX0_count 49 = .ok (.aload_n 0, 1) := dk_42 (dk_at dksX0_count_2 5 rfl rfl)
theorem dX0_count_50 : decode cX0_count 50 = .ok (.getfield 300, 3) := dk_180 1 44 (dk_at dksX0_count_2 6 rfl rfl)
theorem dX0_count_53 : decode cX0_count 53 = .ok (.ireturn, 1) := dk_172 (dk_at dksX0_count_2 9 rfl rfl)
theorem dX0_count_54 : decode cX0_count 54 = .ok (.aload_n 0, 1) := dk_42 (dk_at dksX0_count_2 10 rfl rfl)
theorem dX0_count_55 : decode cX0_count 55 = .ok (.getfield 86, 3) := dk_180 0 86 (dk_at dksX0_count_2 11 rfl rfl)
theorem dX0_count_58 : decode cX0_count 58 = .ok (.ireturn, 1) := dk_172 (dk_at dksX0_count_2 14 rfl rfl)
theorem dX0_count_59 : decode cX0_count 59 = .ok (.aload_n 0, 1) := dk_42 (dk_at dksX0_count_2 15 rfl rfl)
theorem dX0_count_60 : decode cX0_count 60 = .ok (.getfield 153, 3) := dk_180 0 153 (dk_at dksX0_count_2 16 rfl rfl)
theorem dX0_count_63 : decode cX0_count 63 = .ok (.ireturn, 1) := dk_172 (dk_at dksX0_count_2 19 rfl rfl)
theorem dX0_count_64 : decode cX0_count 64 = .ok (.aload_n 0, 1) := dk_42 (dk_at dksX0_count_2 20 rfl rfl)
theorem dX0_count_65 : decode cX0_count 65 = .ok (.getfield 100, 3) := dk_180 0 100 (dk_at dksX0_count_2 21 rfl rfl)
theorem dX0_count_68 : decode cX0_count 68 = .ok (.ireturn, 1) := dk_172 (dk_at dksX0_count_3 0 rfl rfl)
theorem dX0_count_69 : decode cX0_count 69 = .ok (.aload_n 0, 1) := dk_42 (dk_at dksX0_count_3 1 rfl rfl)
theorem dX0_count_70 : decode cX0_count 70 = .ok (.getfield 156, 3) := dk_180 0 156 (dk_at dksX0_count_3 2 rfl rfl)
theorem dX0_count_73 : decode cX0_count 73 = .ok (.ireturn, 1) := dk_172 (dk_at dksX0_count_3 5 rfl rfl)
theorem dX0_count_74 : decode cX0_count 74 = .ok (.aload_n 0, 1) := dk_42 (dk_at dksX0_count_3 6 rfl rfl)
theorem dX0_count_75 : decode cX0_count 75 = .ok (.getfield 306, 3) := dk_180 1 50 (dk_at dksX0_count_3 7 rfl rfl)
theorem dX0_count_78 : decode cX0_count 78 = .ok (.ireturn, 1) := dk_172 (dk_at dksX0_count_3 10 rfl rfl)
theorem dX0_count_79 : decode cX0_count 79 = .ok (.bipush (-3), 2) := dk_16 253 (dk_at dksX0_count_3 11 rfl rfl)
theorem dX0_count_81 : decode cX0_count 81 = .ok (.ireturn, 1) := dk_172 (dk_at dksX0_count_3 13 rfl rfl)
theorem q73 : (Jvm.Cond.initialized "SharedNights") ∈ lw_all := lw_g (lw_at lw_m1 1 rfl) rfl
theorem q98 : (Jvm.Cond.instantiable "SharedNights" (26 : Nat)) ∈ lw_all := lw_g (lw_at lw_m1 26 rfl) rfl
theorem q100 : (Jvm.Cond.instanceMethod ({ cls := "SharedNights", name := "<init>", desc := "()V" } : Jvm.MethodName)) ∈ lw_all := lw_g (lw_at lw_m1 28 rfl) rfl
theorem q101 : (Jvm.Cond.code ({ cls := "SharedNights", name := "<init>", desc := "()V" } : Jvm.MethodName) prog_1_method_2_code (1 : Nat) (Option.none : Option Jvm.ClassFile.FieldType)) ∈ lw_all := lw_g (lw_at lw_m1 29 rfl) rfl
theorem q102 : (Jvm.Cond.methodLink "SharedNights" (3 : Nat) ({ cls := "java/lang/Object", name := "<init>", desc := "()V" } : Jvm.MethodName)) ∈ lw_all := lw_g (lw_at lw_m1 30 rfl) rfl
theorem q105 : (Jvm.Cond.classLink "SharedNights" (18 : Nat) "SharedNights$Sky") ∈ lw_all := lw_g (lw_at lw_m1 33 rfl) rfl
theorem q107 : (Jvm.Cond.classLink "SharedNights" (24 : Nat) "SharedNights$Target") ∈ lw_all := lw_g (lw_at lw_m1 35 rfl) rfl
theorem q109 : (Jvm.Cond.classLink "SharedNights" (30 : Nat) "SharedNights$Plan") ∈ lw_all := lw_g (lw_at lw_m1 37 rfl) rfl
theorem q111 : (Jvm.Cond.classLink "SharedNights" (40 : Nat) "SharedNights$Reader") ∈ lw_all := lw_g (lw_at lw_m1 39 rfl) rfl
theorem q113 : (Jvm.Cond.methodLinkNest "SharedNights" (42 : Nat) ({ cls := "SharedNights$Reader", name := "<init>", desc := "(LSharedNights;)V" } : Jvm.MethodName) "SharedNights") ∈ lw_tbl := lw_at lw_m1 41 rfl
theorem q131 : (Jvm.Cond.classLink "SharedNights" (49 : Nat) "SharedNights$Night") ∈ lw_all := lw_g (lw_at lw_m1 59 rfl) rfl
theorem q133 : (Jvm.Cond.methodLinkNest "SharedNights" (51 : Nat) ({ cls := "SharedNights$Night", name := "<init>", desc := "(LSharedNights;)V" } : Jvm.MethodName) "SharedNights") ∈ lw_tbl := lw_at lw_m1 61 rfl
theorem q141 : (Jvm.Cond.fieldLinkNest "SharedNights" (218 : Nat) "SharedNights$Night" "best" "[I" "SharedNights") ∈ lw_tbl := lw_at lw_m1 69 rfl
theorem q143 : (Jvm.Cond.fieldLinkNest "SharedNights" (209 : Nat) "SharedNights$Night" "bestWorth" "I" "SharedNights") ∈ lw_tbl := lw_at lw_m1 71 rfl
theorem q145 : (Jvm.Cond.fieldLinkNest "SharedNights" (212 : Nat) "SharedNights$Night" "bestSlots" "I" "SharedNights") ∈ lw_tbl := lw_at lw_m1 73 rfl
theorem q165 : (Jvm.Cond.classLink "SharedNights" (56 : Nat) "SharedNights$Rule") ∈ lw_all := lw_g (lw_at lw_m1 93 rfl) rfl
theorem q167 : (Jvm.Cond.classLink "SharedNights" (58 : Nat) "SharedNights$Worth") ∈ lw_all := lw_g (lw_at lw_m1 95 rfl) rfl
theorem q169 : (Jvm.Cond.methodLinkNest "SharedNights" (60 : Nat) ({ cls := "SharedNights$Worth", name := "<init>", desc := "()V" } : Jvm.MethodName) "SharedNights") ∈ lw_tbl := lw_at lw_m1 97 rfl
theorem q177 : (Jvm.Cond.classLink "SharedNights" (61 : Nat) "SharedNights$Air") ∈ lw_all := lw_g (lw_at lw_m1 105 rfl) rfl
theorem q179 : (Jvm.Cond.methodLinkNest "SharedNights" (63 : Nat) ({ cls := "SharedNights$Air", name := "<init>", desc := "()V" } : Jvm.MethodName) "SharedNights") ∈ lw_tbl := lw_at lw_m1 107 rfl
theorem q184 : (Jvm.Cond.classLink "SharedNights" (64 : Nat) "SharedNights$Closing") ∈ lw_all := lw_g (lw_at lw_m1 112 rfl) rfl
theorem q186 : (Jvm.Cond.methodLinkNest "SharedNights" (66 : Nat) ({ cls := "SharedNights$Closing", name := "<init>", desc := "()V" } : Jvm.MethodName) "SharedNights") ∈ lw_tbl := lw_at lw_m1 114 rfl
theorem q191 : (Jvm.Cond.classLink "SharedNights" (71 : Nat) "SharedNights$Watch") ∈ lw_all := lw_g (lw_at lw_m1 119 rfl) rfl
theorem q193 : (Jvm.Cond.methodLinkNest "SharedNights" (73 : Nat) ({ cls := "SharedNights$Watch", name := "<init>", desc := "(LSharedNights;)V" } : Jvm.MethodName) "SharedNights") ∈ lw_tbl := lw_at lw_m1 121 rfl
theorem q198 : (Jvm.Cond.fieldLinkNest "SharedNights" (261 : Nat) "SharedNights$Watch" "step" "[I" "SharedNights") ∈ lw_tbl := lw_at lw_m1 126 rfl
theorem q202 : (Jvm.Cond.fieldLinkNest "SharedNights" (258 : Nat) "SharedNights$Watch" "log" "[I" "SharedNights") ∈ lw_tbl := lw_at lw_m1 130 rfl
theorem q232 : (Jvm.Cond.methodLink "SharedNights" (85 : Nat) ({ cls := "SharedNights$Sky", name := "<init>", desc := "()V" } : Jvm.MethodName)) ∈ lw_all := lw_g (lw_at lw_m1 160 rfl) rfl
theorem q243 : (Jvm.Cond.fieldLinkNest "SharedNights" (135 : Nat) "SharedNights$Sky" "seeing" "[B" "SharedNights") ∈ lw_tbl := lw_at lw_m1 171 rfl
theorem q245 : (Jvm.Cond.fieldLinkNest "SharedNights" (274 : Nat) "SharedNights$Sky" "weight" "I" "SharedNights") ∈ lw_tbl := lw_at lw_m1 173 rfl
theorem q251 : (Jvm.Cond.fieldLink "SharedNights" (9 : Nat) "SharedNights" "many" "I") ∈ lw_all := lw_g (lw_at lw_m1 179 rfl) rfl
theorem q256 : (Jvm.Cond.fieldLink "SharedNights" (300 : Nat) "SharedNights" "tonight" "I") ∈ lw_all := lw_g (lw_at lw_m1 184 rfl) rfl
theorem q257 : (Jvm.Cond.fieldLink "SharedNights" (15 : Nat) "SharedNights" "moonRegion" "I") ∈ lw_all := lw_g (lw_at lw_m1 185 rfl) rfl
theorem q260 : (Jvm.Cond.fieldLink "SharedNights" (126 : Nat) "SharedNights" "moonFrom" "I") ∈ lw_all := lw_g (lw_at lw_m1 188 rfl) rfl
theorem q262 : (Jvm.Cond.fieldLink "SharedNights" (129 : Nat) "SharedNights" "moonTo" "I") ∈ lw_all := lw_g (lw_at lw_m1 190 rfl) rfl
theorem q264 : (Jvm.Cond.fieldLink "SharedNights" (20 : Nat) "SharedNights" "skies" "[LSharedNights$Sky;") ∈ lw_all := lw_g (lw_at lw_m1 192 rfl) rfl
theorem q265 : (Jvm.Cond.fieldLink "SharedNights" (100 : Nat) "SharedNights" "worldMany" "I") ∈ lw_all := lw_g (lw_at lw_m1 193 rfl) rfl
theorem q267 : (Jvm.Cond.fieldLink "SharedNights" (26 : Nat) "SharedNights" "targets" "[LSharedNights$Target;") ∈ lw_all := lw_g (lw_at lw_m1 195 rfl) rfl
theorem q268 : (Jvm.Cond.fieldLink "SharedNights" (86 : Nat) "SharedNights" "targetMany" "I") ∈ lw_all := lw_g (lw_at lw_m1 196 rfl) rfl
theorem q270 : (Jvm.Cond.fieldLink "SharedNights" (32 : Nat) "SharedNights" "plans" "[LSharedNights$Plan;") ∈ lw_all := lw_g (lw_at lw_m1 198 rfl) rfl
theorem q275 : (Jvm.Cond.fieldLink "SharedNights" (153 : Nat) "SharedNights" "planMany" "I") ∈ lw_all := lw_g (lw_at lw_m1 203 rfl) rfl
theorem q277 : (Jvm.Cond.fieldLink "SharedNights" (36 : Nat) "SharedNights" "text" "[B") ∈ lw_all := lw_g (lw_at lw_m1 205 rfl) rfl
theorem q279 : (Jvm.Cond.fieldLink "SharedNights" (156 : Nat) "SharedNights" "length" "I") ∈ lw_all := lw_g (lw_at lw_m1 207 rfl) rfl
theorem q280 : (Jvm.Cond.fieldLink "SharedNights" (45 : Nat) "SharedNights" "reader" "LSharedNights$Reader;") ∈ lw_all := lw_g (lw_at lw_m1 208 rfl) rfl
theorem q281 : (Jvm.Cond.fieldLink "SharedNights" (159 : Nat) "SharedNights" "can" "I") ∈ lw_all := lw_g (lw_at lw_m1 209 rfl) rfl
theorem q282 : (Jvm.Cond.fieldLink "SharedNights" (162 : Nat) "SharedNights" "faultAt" "I") ∈ lw_all := lw_g (lw_at lw_m1 210 rfl) rfl
theorem q283 : (Jvm.Cond.fieldLink "SharedNights" (52 : Nat) "SharedNights" "night" "LSharedNights$Night;") ∈ lw_all := lw_g (lw_at lw_m1 211 rfl) rfl
theorem q285 : (Jvm.Cond.fieldLink "SharedNights" (247 : Nat) "SharedNights" "again" "I") ∈ lw_all := lw_g (lw_at lw_m1 213 rfl) rfl
theorem q287 : (Jvm.Cond.fieldLink "SharedNights" (67 : Nat) "SharedNights" "rules" "[LSharedNights$Rule;") ∈ lw_all := lw_g (lw_at lw_m1 215 rfl) rfl
theorem q288 : (Jvm.Cond.fieldLink "SharedNights" (74 : Nat) "SharedNights" "watch" "LSharedNights$Watch;") ∈ lw_all := lw_g (lw_at lw_m1 216 rfl) rfl
theorem q289 : (Jvm.Cond.fieldLink "SharedNights" (264 : Nat) "SharedNights" "valueUp" "I") ∈ lw_all := lw_g (lw_at lw_m1 217 rfl) rfl
theorem q290 : (Jvm.Cond.fieldLink "SharedNights" (267 : Nat) "SharedNights" "valueBelow" "I") ∈ lw_all := lw_g (lw_at lw_m1 218 rfl) rfl
theorem q291 : (Jvm.Cond.fieldLink "SharedNights" (271 : Nat) "SharedNights" "sureLeast" "I") ∈ lw_all := lw_g (lw_at lw_m1 219 rfl) rfl
theorem q292 : (Jvm.Cond.fieldLink "SharedNights" (78 : Nat) "SharedNights" "shares" "[I") ∈ lw_all := lw_g (lw_at lw_m1 220 rfl) rfl
theorem q293 : (Jvm.Cond.fieldLink "SharedNights" (82 : Nat) "SharedNights" "accounts" "[I") ∈ lw_all := lw_g (lw_at lw_m1 221 rfl) rfl
theorem q294 : (Jvm.Cond.fieldLink "SharedNights" (306 : Nat) "SharedNights" "earned" "I") ∈ lw_all := lw_g (lw_at lw_m1 222 rfl) rfl
theorem q295 : (Jvm.Cond.lays "SharedNights" "SharedNights" "many" "I") ∈ lw_all := lw_g (lw_at lw_m1 223 rfl) rfl
theorem q296 : (Jvm.Cond.soleField "SharedNights" "many") ∈ lw_all := lw_g (lw_at lw_m1 224 rfl) rfl
theorem q297 : (Jvm.Cond.lays "SharedNights" "SharedNights" "tonight" "I") ∈ lw_all := lw_g (lw_at lw_m1 225 rfl) rfl
theorem q298 : (Jvm.Cond.soleField "SharedNights" "tonight") ∈ lw_all := lw_g (lw_at lw_m1 226 rfl) rfl
theorem q299 : (Jvm.Cond.lays "SharedNights" "SharedNights" "moonRegion" "I") ∈ lw_all := lw_g (lw_at lw_m1 227 rfl) rfl
theorem q300 : (Jvm.Cond.soleField "SharedNights" "moonRegion") ∈ lw_all := lw_g (lw_at lw_m1 228 rfl) rfl
theorem q301 : (Jvm.Cond.lays "SharedNights" "SharedNights" "moonFrom" "I") ∈ lw_all := lw_g (lw_at lw_m1 229 rfl) rfl
theorem q302 : (Jvm.Cond.soleField "SharedNights" "moonFrom") ∈ lw_all := lw_g (lw_at lw_m1 230 rfl) rfl
theorem q303 : (Jvm.Cond.lays "SharedNights" "SharedNights" "moonTo" "I") ∈ lw_all := lw_g (lw_at lw_m1 231 rfl) rfl
theorem q304 : (Jvm.Cond.soleField "SharedNights" "moonTo") ∈ lw_all := lw_g (lw_at lw_m1 232 rfl) rfl
theorem q305 : (Jvm.Cond.laysFinal "SharedNights" "SharedNights" "skies" "[LSharedNights$Sky;") ∈ lw_all := lw_g (lw_at lw_m1 233 rfl) rfl
theorem q306 : (Jvm.Cond.soleField "SharedNights" "skies") ∈ lw_all := lw_g (lw_at lw_m1 234 rfl) rfl
theorem q307 : (Jvm.Cond.lays "SharedNights" "SharedNights" "worldMany" "I") ∈ lw_all := lw_g (lw_at lw_m1 235 rfl) rfl
theorem q308 : (Jvm.Cond.soleField "SharedNights" "worldMany") ∈ lw_all := lw_g (lw_at lw_m1 236 rfl) rfl
theorem q309 : (Jvm.Cond.laysFinal "SharedNights" "SharedNights" "targets" "[LSharedNights$Target;") ∈ lw_all := lw_g (lw_at lw_m1 237 rfl) rfl
theorem q310 : (Jvm.Cond.soleField "SharedNights" "targets") ∈ lw_all := lw_g (lw_at lw_m1 238 rfl) rfl
theorem q311 : (Jvm.Cond.lays "SharedNights" "SharedNights" "targetMany" "I") ∈ lw_all := lw_g (lw_at lw_m1 239 rfl) rfl
theorem q312 : (Jvm.Cond.soleField "SharedNights" "targetMany") ∈ lw_all := lw_g (lw_at lw_m2 0 rfl) rfl
theorem q313 : (Jvm.Cond.laysFinal "SharedNights" "SharedNights" "plans" "[LSharedNights$Plan;") ∈ lw_all := lw_g (lw_at lw_m2 1 rfl) rfl
theorem q314 : (Jvm.Cond.soleField "SharedNights" "plans") ∈ lw_all := lw_g (lw_at lw_m2 2 rfl) rfl
theorem q315 : (Jvm.Cond.lays "SharedNights" "SharedNights" "planMany" "I") ∈ lw_all := lw_g (lw_at lw_m2 3 rfl) rfl
theorem q316 : (Jvm.Cond.soleField "SharedNights" "planMany") ∈ lw_all := lw_g (lw_at lw_m2 4 rfl) rfl
theorem q317 : (Jvm.Cond.laysFinal "SharedNights" "SharedNights" "text" "[B") ∈ lw_all := lw_g (lw_at lw_m2 5 rfl) rfl
theorem q318 : (Jvm.Cond.soleField "SharedNights" "text") ∈ lw_all := lw_g (lw_at lw_m2 6 rfl) rfl
theorem q319 : (Jvm.Cond.lays "SharedNights" "SharedNights" "length" "I") ∈ lw_all := lw_g (lw_at lw_m2 7 rfl) rfl
theorem q320 : (Jvm.Cond.soleField "SharedNights" "length") ∈ lw_all := lw_g (lw_at lw_m2 8 rfl) rfl
theorem q321 : (Jvm.Cond.laysFinal "SharedNights" "SharedNights" "reader" "LSharedNights$Reader;") ∈ lw_all := lw_g (lw_at lw_m2 9 rfl) rfl
theorem q322 : (Jvm.Cond.soleField "SharedNights" "reader") ∈ lw_all := lw_g (lw_at lw_m2 10 rfl) rfl
theorem q323 : (Jvm.Cond.lays "SharedNights" "SharedNights" "can" "I") ∈ lw_all := lw_g (lw_at lw_m2 11 rfl) rfl
theorem q324 : (Jvm.Cond.soleField "SharedNights" "can") ∈ lw_all := lw_g (lw_at lw_m2 12 rfl) rfl
theorem q325 : (Jvm.Cond.lays "SharedNights" "SharedNights" "faultAt" "I") ∈ lw_all := lw_g (lw_at lw_m2 13 rfl) rfl
theorem q326 : (Jvm.Cond.soleField "SharedNights" "faultAt") ∈ lw_all := lw_g (lw_at lw_m2 14 rfl) rfl
theorem q327 : (Jvm.Cond.laysFinal "SharedNights" "SharedNights" "night" "LSharedNights$Night;") ∈ lw_all := lw_g (lw_at lw_m2 15 rfl) rfl
theorem q328 : (Jvm.Cond.soleField "SharedNights" "night") ∈ lw_all := lw_g (lw_at lw_m2 16 rfl) rfl
theorem q329 : (Jvm.Cond.lays "SharedNights" "SharedNights" "again" "I") ∈ lw_all := lw_g (lw_at lw_m2 17 rfl) rfl
theorem q330 : (Jvm.Cond.soleField "SharedNights" "again") ∈ lw_all := lw_g (lw_at lw_m2 18 rfl) rfl
theorem q331 : (Jvm.Cond.laysFinal "SharedNights" "SharedNights" "rules" "[LSharedNights$Rule;") ∈ lw_all := lw_g (lw_at lw_m2 19 rfl) rfl
theorem q332 : (Jvm.Cond.soleField "SharedNights" "rules") ∈ lw_all := lw_g (lw_at lw_m2 20 rfl) rfl
theorem q333 : (Jvm.Cond.laysFinal "SharedNights" "SharedNights" "watch" "LSharedNights$Watch;") ∈ lw_all := lw_g (lw_at lw_m2 21 rfl) rfl
theorem q334 : (Jvm.Cond.soleField "SharedNights" "watch") ∈ lw_all := lw_g (lw_at lw_m2 22 rfl) rfl
theorem q335 : (Jvm.Cond.lays "SharedNights" "SharedNights" "valueUp" "I") ∈ lw_all := lw_g (lw_at lw_m2 23 rfl) rfl
theorem q336 : (Jvm.Cond.soleField "SharedNights" "valueUp") ∈ lw_all := lw_g (lw_at lw_m2 24 rfl) rfl
theorem q337 : (Jvm.Cond.lays "SharedNights" "SharedNights" "valueBelow" "I") ∈ lw_all := lw_g (lw_at lw_m2 25 rfl) rfl
theorem q338 : (Jvm.Cond.soleField "SharedNights" "valueBelow") ∈ lw_all := lw_g (lw_at lw_m2 26 rfl) rfl
theorem q339 : (Jvm.Cond.lays "SharedNights" "SharedNights" "sureLeast" "I") ∈ lw_all := lw_g (lw_at lw_m2 27 rfl) rfl
theorem q340 : (Jvm.Cond.soleField "SharedNights" "sureLeast") ∈ lw_all := lw_g (lw_at lw_m2 28 rfl) rfl
theorem q341 : (Jvm.Cond.laysFinal "SharedNights" "SharedNights" "shares" "[I") ∈ lw_all := lw_g (lw_at lw_m2 29 rfl) rfl
theorem q342 : (Jvm.Cond.soleField "SharedNights" "shares") ∈ lw_all := lw_g (lw_at lw_m2 30 rfl) rfl
theorem q343 : (Jvm.Cond.laysFinal "SharedNights" "SharedNights" "accounts" "[I") ∈ lw_all := lw_g (lw_at lw_m2 31 rfl) rfl
theorem q344 : (Jvm.Cond.soleField "SharedNights" "accounts") ∈ lw_all := lw_g (lw_at lw_m2 32 rfl) rfl
theorem q345 : (Jvm.Cond.lays "SharedNights" "SharedNights" "earned" "I") ∈ lw_all := lw_g (lw_at lw_m2 33 rfl) rfl
theorem q346 : (Jvm.Cond.soleField "SharedNights" "earned") ∈ lw_all := lw_g (lw_at lw_m2 34 rfl) rfl
theorem q347 : (Jvm.Cond.superclass "SharedNights" "java/lang/Object") ∈ lw_all := lw_g (lw_at lw_m2 35 rfl) rfl
theorem q349 : (Jvm.Cond.instanceMethod ({ cls := "SharedNights", name := "slots", desc := "(I)I" } : Jvm.MethodName)) ∈ lw_all := lw_g (lw_at lw_m2 37 rfl) rfl
theorem q350 : (Jvm.Cond.selects "SharedNights" ({ cls := "SharedNights", name := "slots", desc := "(I)I" } : Jvm.MethodName) ({ cls := "SharedNights", name := "slots", desc := "(I)I" } : Jvm.MethodName)) ∈ lw_all := lw_g (lw_at lw_m2 38 rfl) rfl
theorem q351 : (Jvm.Cond.code ({ cls := "SharedNights", name := "slots", desc := "(I)I" } : Jvm.MethodName) prog_1_method_5_code (3 : Nat) (Option.some Jvm.ClassFile.FieldType.int)) ∈ lw_all := lw_g (lw_at lw_m2 39 rfl) rfl
theorem q352 : (Jvm.Cond.constantLong "SharedNights" (93 : Nat) (4 : Int64)) ∈ lw_all := lw_g (lw_at lw_m2 40 rfl) rfl
theorem q353 : (Jvm.Cond.constantLong "SharedNights" (95 : Nat) (12 : Int64)) ∈ lw_all := lw_g (lw_at lw_m2 41 rfl) rfl
theorem q354 : (Jvm.Cond.methodLink "SharedNights" (89 : Nat) ({ cls := "SharedNights", name := "isIn", desc := "(JJJ)Z" } : Jvm.MethodName)) ∈ lw_all := lw_g (lw_at lw_m2 42 rfl) rfl
theorem q355 : (Jvm.Cond.static ({ cls := "SharedNights", name := "isIn", desc := "(JJJ)Z" } : Jvm.MethodName)) ∈ lw_all := lw_g (lw_at lw_m2 43 rfl) rfl
theorem q356 : (Jvm.Cond.code ({ cls := "SharedNights", name := "isIn", desc := "(JJJ)Z" } : Jvm.MethodName) prog_1_method_1_code (6 : Nat) (Option.some Jvm.ClassFile.FieldType.boolean)) ∈ lw_all := lw_g (lw_at lw_m2 44 rfl) rfl
theorem q357 : (Jvm.Cond.methodLink "SharedNights" (97 : Nat) ({ cls := "SharedNights$Sky", name := "clear", desc := "()V" } : Jvm.MethodName)) ∈ lw_all := lw_g (lw_at lw_m2 45 rfl) rfl
theorem q359 : (Jvm.Cond.instanceMethod ({ cls := "SharedNights", name := "target", desc := "(III)I" } : Jvm.MethodName)) ∈ lw_all := lw_g (lw_at lw_m2 47 rfl) rfl
theorem q360 : (Jvm.Cond.selects "SharedNights" ({ cls := "SharedNights", name := "target", desc := "(III)I" } : Jvm.MethodName) ({ cls := "SharedNights", name := "target", desc := "(III)I" } : Jvm.MethodName)) ∈ lw_all := lw_g (lw_at lw_m2 48 rfl) rfl
theorem q361 : (Jvm.Cond.code ({ cls := "SharedNights", name := "target", desc := "(III)I" } : Jvm.MethodName) prog_1_method_6_code (4 : Nat) (Option.some Jvm.ClassFile.FieldType.int)) ∈ lw_all := lw_g (lw_at lw_m2 49 rfl) rfl
theorem q362 : (Jvm.Cond.constantLong "SharedNights" (103 : Nat) (40 : Int64)) ∈ lw_all := lw_g (lw_at lw_m2 50 rfl) rfl
theorem q363 : (Jvm.Cond.constantLong "SharedNights" (105 : Nat) (8 : Int64)) ∈ lw_all := lw_g (lw_at lw_m2 51 rfl) rfl
theorem q364 : (Jvm.Cond.constantLong "SharedNights" (107 : Nat) (3 : Int64)) ∈ lw_all := lw_g (lw_at lw_m2 52 rfl) rfl
theorem q366 : (Jvm.Cond.methodLink "SharedNights" (109 : Nat) ({ cls := "SharedNights$Target", name := "<init>", desc := "(LSharedNights;III)V" } : Jvm.MethodName)) ∈ lw_all := lw_g (lw_at lw_m2 54 rfl) rfl
theorem q384 : (Jvm.Cond.instanceMethod ({ cls := "SharedNights", name := "air", desc := "(II)I" } : Jvm.MethodName)) ∈ lw_all := lw_g (lw_at lw_m2 72 rfl) rfl
theorem q385 : (Jvm.Cond.selects "SharedNights" ({ cls := "SharedNights", name := "air", desc := "(II)I" } : Jvm.MethodName) ({ cls := "SharedNights", name := "air", desc := "(II)I" } : Jvm.MethodName)) ∈ lw_all := lw_g (lw_at lw_m2 73 rfl) rfl
theorem q386 : (Jvm.Cond.code ({ cls := "SharedNights", name := "air", desc := "(II)I" } : Jvm.MethodName) prog_1_method_7_code (3 : Nat) (Option.some Jvm.ClassFile.FieldType.int)) ∈ lw_all := lw_g (lw_at lw_m2 74 rfl) rfl
theorem q387 : (Jvm.Cond.methodLink "SharedNights" (112 : Nat) ({ cls := "SharedNights", name := "isTarget", desc := "(I)Z" } : Jvm.MethodName)) ∈ lw_all := lw_g (lw_at lw_m2 75 rfl) rfl
theorem q388 : (Jvm.Cond.privateMethod ({ cls := "SharedNights", name := "isTarget", desc := "(I)Z" } : Jvm.MethodName)) ∈ lw_tbl := lw_at lw_m2 76 rfl
theorem q389 : (Jvm.Cond.instanceMethod ({ cls := "SharedNights", name := "isTarget", desc := "(I)Z" } : Jvm.MethodName)) ∈ lw_all := lw_g (lw_at lw_m2 77 rfl) rfl
theorem q390 : (Jvm.Cond.code ({ cls := "SharedNights", name := "isTarget", desc := "(I)Z" } : Jvm.MethodName) prog_1_method_3_code (2 : Nat) (Option.some Jvm.ClassFile.FieldType.boolean)) ∈ lw_all := lw_g (lw_at lw_m2 78 rfl) rfl
theorem q391 : (Jvm.Cond.methodLink "SharedNights" (116 : Nat) ({ cls := "SharedNights", name := "isSlot", desc := "(I)Z" } : Jvm.MethodName)) ∈ lw_all := lw_g (lw_at lw_m2 79 rfl) rfl
theorem q392 : (Jvm.Cond.privateMethod ({ cls := "SharedNights", name := "isSlot", desc := "(I)Z" } : Jvm.MethodName)) ∈ lw_tbl := lw_at lw_m2 80 rfl
theorem q393 : (Jvm.Cond.instanceMethod ({ cls := "SharedNights", name := "isSlot", desc := "(I)Z" } : Jvm.MethodName)) ∈ lw_all := lw_g (lw_at lw_m2 81 rfl) rfl
theorem q394 : (Jvm.Cond.code ({ cls := "SharedNights", name := "isSlot", desc := "(I)Z" } : Jvm.MethodName) prog_1_method_4_code (2 : Nat) (Option.some Jvm.ClassFile.FieldType.boolean)) ∈ lw_all := lw_g (lw_at lw_m2 82 rfl) rfl
theorem q395 : (Jvm.Cond.methodLink "SharedNights" (119 : Nat) ({ cls := "SharedNights$Target", name := "isVisible", desc := "(I)Z" } : Jvm.MethodName)) ∈ lw_all := lw_g (lw_at lw_m2 83 rfl) rfl
theorem q406 : (Jvm.Cond.methodLink "SharedNights" (122 : Nat) ({ cls := "SharedNights$Target", name := "air", desc := "(I)I" } : Jvm.MethodName)) ∈ lw_all := lw_g (lw_at lw_m2 94 rfl) rfl
theorem q408 : (Jvm.Cond.instanceMethod ({ cls := "SharedNights", name := "moon", desc := "(III)I" } : Jvm.MethodName)) ∈ lw_all := lw_g (lw_at lw_m2 96 rfl) rfl
theorem q409 : (Jvm.Cond.selects "SharedNights" ({ cls := "SharedNights", name := "moon", desc := "(III)I" } : Jvm.MethodName) ({ cls := "SharedNights", name := "moon", desc := "(III)I" } : Jvm.MethodName)) ∈ lw_all := lw_g (lw_at lw_m2 97 rfl) rfl
theorem q410 : (Jvm.Cond.code ({ cls := "SharedNights", name := "moon", desc := "(III)I" } : Jvm.MethodName) prog_1_method_8_code (4 : Nat) (Option.some Jvm.ClassFile.FieldType.int)) ∈ lw_all := lw_g (lw_at lw_m2 98 rfl) rfl
theorem q412 : (Jvm.Cond.instanceMethod ({ cls := "SharedNights", name := "seeing", desc := "(III)I" } : Jvm.MethodName)) ∈ lw_all := lw_g (lw_at lw_m2 100 rfl) rfl
theorem q413 : (Jvm.Cond.selects "SharedNights" ({ cls := "SharedNights", name := "seeing", desc := "(III)I" } : Jvm.MethodName) ({ cls := "SharedNights", name := "seeing", desc := "(III)I" } : Jvm.MethodName)) ∈ lw_all := lw_g (lw_at lw_m2 101 rfl) rfl
theorem q414 : (Jvm.Cond.code ({ cls := "SharedNights", name := "seeing", desc := "(III)I" } : Jvm.MethodName) prog_1_method_10_code (5 : Nat) (Option.some Jvm.ClassFile.FieldType.int)) ∈ lw_all := lw_g (lw_at lw_m2 102 rfl) rfl
theorem q415 : (Jvm.Cond.methodLink "SharedNights" (132 : Nat) ({ cls := "SharedNights", name := "isSky", desc := "(I)Z" } : Jvm.MethodName)) ∈ lw_all := lw_g (lw_at lw_m2 103 rfl) rfl
theorem q416 : (Jvm.Cond.privateMethod ({ cls := "SharedNights", name := "isSky", desc := "(I)Z" } : Jvm.MethodName)) ∈ lw_tbl := lw_at lw_m2 104 rfl
theorem q417 : (Jvm.Cond.instanceMethod ({ cls := "SharedNights", name := "isSky", desc := "(I)Z" } : Jvm.MethodName)) ∈ lw_all := lw_g (lw_at lw_m2 105 rfl) rfl
theorem q418 : (Jvm.Cond.code ({ cls := "SharedNights", name := "isSky", desc := "(I)Z" } : Jvm.MethodName) prog_1_method_9_code (2 : Nat) (Option.some Jvm.ClassFile.FieldType.boolean)) ∈ lw_all := lw_g (lw_at lw_m2 106 rfl) rfl
theorem q420 : (Jvm.Cond.instanceMethod ({ cls := "SharedNights", name := "world", desc := "(I)I" } : Jvm.MethodName)) ∈ lw_all := lw_g (lw_at lw_m2 108 rfl) rfl
theorem q421 : (Jvm.Cond.selects "SharedNights" ({ cls := "SharedNights", name := "world", desc := "(I)I" } : Jvm.MethodName) ({ cls := "SharedNights", name := "world", desc := "(I)I" } : Jvm.MethodName)) ∈ lw_all := lw_g (lw_at lw_m2 109 rfl) rfl
theorem q422 : (Jvm.Cond.code ({ cls := "SharedNights", name := "world", desc := "(I)I" } : Jvm.MethodName) prog_1_method_11_code (2 : Nat) (Option.some Jvm.ClassFile.FieldType.int)) ∈ lw_all := lw_g (lw_at lw_m2 110 rfl) rfl
theorem q423 : (Jvm.Cond.constantLong "SharedNights" (138 : Nat) (9 : Int64)) ∈ lw_all := lw_g (lw_at lw_m2 111 rfl) rfl
theorem q424 : (Jvm.Cond.methodLink "SharedNights" (140 : Nat) ({ cls := "SharedNights$Sky", name := "like", desc := "(I)LSharedNights$Sky;" } : Jvm.MethodName)) ∈ lw_all := lw_g (lw_at lw_m2 112 rfl) rfl
theorem q434 : (Jvm.Cond.instanceMethod ({ cls := "SharedNights", name := "unworld", desc := "()I" } : Jvm.MethodName)) ∈ lw_all := lw_g (lw_at lw_m2 122 rfl) rfl
theorem q435 : (Jvm.Cond.selects "SharedNights" ({ cls := "SharedNights", name := "unworld", desc := "()I" } : Jvm.MethodName) ({ cls := "SharedNights", name := "unworld", desc := "()I" } : Jvm.MethodName)) ∈ lw_all := lw_g (lw_at lw_m2 123 rfl) rfl
theorem q436 : (Jvm.Cond.code ({ cls := "SharedNights", name := "unworld", desc := "()I" } : Jvm.MethodName) prog_1_method_12_code (2 : Nat) (Option.some Jvm.ClassFile.FieldType.int)) ∈ lw_all := lw_g (lw_at lw_m2 124 rfl) rfl
theorem q438 : (Jvm.Cond.instanceMethod ({ cls := "SharedNights", name := "write", desc := "(JI)I" } : Jvm.MethodName)) ∈ lw_all := lw_g (lw_at lw_m2 126 rfl) rfl
theorem q439 : (Jvm.Cond.selects "SharedNights" ({ cls := "SharedNights", name := "write", desc := "(JI)I" } : Jvm.MethodName) ({ cls := "SharedNights", name := "write", desc := "(JI)I" } : Jvm.MethodName)) ∈ lw_all := lw_g (lw_at lw_m2 127 rfl) rfl
theorem q440 : (Jvm.Cond.code ({ cls := "SharedNights", name := "write", desc := "(JI)I" } : Jvm.MethodName) prog_1_method_16_code (5 : Nat) (Option.some Jvm.ClassFile.FieldType.int)) ∈ lw_all := lw_g (lw_at lw_m2 128 rfl) rfl
theorem q442 : (Jvm.Cond.instanceMethod ({ cls := "SharedNights", name := "erase", desc := "()I" } : Jvm.MethodName)) ∈ lw_all := lw_g (lw_at lw_m2 130 rfl) rfl
theorem q443 : (Jvm.Cond.selects "SharedNights" ({ cls := "SharedNights", name := "erase", desc := "()I" } : Jvm.MethodName) ({ cls := "SharedNights", name := "erase", desc := "()I" } : Jvm.MethodName)) ∈ lw_all := lw_g (lw_at lw_m2 131 rfl) rfl
theorem q444 : (Jvm.Cond.code ({ cls := "SharedNights", name := "erase", desc := "()I" } : Jvm.MethodName) prog_1_method_17_code (2 : Nat) (Option.some Jvm.ClassFile.FieldType.int)) ∈ lw_all := lw_g (lw_at lw_m2 132 rfl) rfl
theorem q446 : (Jvm.Cond.instanceMethod ({ cls := "SharedNights", name := "fault", desc := "()I" } : Jvm.MethodName)) ∈ lw_all := lw_g (lw_at lw_m2 134 rfl) rfl
theorem q447 : (Jvm.Cond.selects "SharedNights" ({ cls := "SharedNights", name := "fault", desc := "()I" } : Jvm.MethodName) ({ cls := "SharedNights", name := "fault", desc := "()I" } : Jvm.MethodName)) ∈ lw_all := lw_g (lw_at lw_m2 135 rfl) rfl
theorem q448 : (Jvm.Cond.code ({ cls := "SharedNights", name := "fault", desc := "()I" } : Jvm.MethodName) prog_1_method_19_code (1 : Nat) (Option.some Jvm.ClassFile.FieldType.int)) ∈ lw_all := lw_g (lw_at lw_m2 136 rfl) rfl
theorem q449 : (Jvm.Cond.methodLink "SharedNights" (175 : Nat) ({ cls := "SharedNights", name := "readPlan", desc := "()LSharedNights$Plan;" } : Jvm.MethodName)) ∈ lw_all := lw_g (lw_at lw_m2 137 rfl) rfl
theorem q450 : (Jvm.Cond.privateMethod ({ cls := "SharedNights", name := "readPlan", desc := "()LSharedNights$Plan;" } : Jvm.MethodName)) ∈ lw_tbl := lw_at lw_m2 138 rfl
theorem q451 : (Jvm.Cond.instanceMethod ({ cls := "SharedNights", name := "readPlan", desc := "()LSharedNights$Plan;" } : Jvm.MethodName)) ∈ lw_all := lw_g (lw_at lw_m2 139 rfl) rfl
theorem q452 : (Jvm.Cond.codeWith ({ cls := "SharedNights", name := "readPlan", desc := "()LSharedNights$Plan;" } : Jvm.MethodName) prog_1_method_18_code (2 : Nat) (Option.some (Jvm.ClassFile.FieldType.object "SharedNights$Plan")) [((10 : Nat), (17 : Nat), (18 : Nat), (169 : Nat))]) ∈ lw_all := lw_g (lw_at lw_m2 140 rfl) rfl
theorem q453 : (Jvm.Cond.classLink "SharedNights" (169 : Nat) "SharedNights$Fault") ∈ lw_all := lw_g (lw_at lw_m2 141 rfl) rfl
theorem q454 : (Jvm.Cond.methodLink "SharedNights" (165 : Nat) ({ cls := "SharedNights$Reader", name := "read", desc := "()LSharedNights$Plan;" } : Jvm.MethodName)) ∈ lw_all := lw_g (lw_at lw_m2 142 rfl) rfl
theorem q468 : (Jvm.Cond.fieldLinkNest "SharedNights" (303 : Nat) "SharedNights$Plan" "land" "I" "SharedNights") ∈ lw_tbl := lw_at lw_m2 156 rfl
theorem q473 : (Jvm.Cond.fieldLinkNest "SharedNights" (221 : Nat) "SharedNights$Plan" "instrument" "I" "SharedNights") ∈ lw_tbl := lw_at lw_m2 161 rfl
theorem q481 : (Jvm.Cond.fieldLinkNest "SharedNights" (190 : Nat) "SharedNights$Plan" "worth" "I" "SharedNights") ∈ lw_tbl := lw_at lw_m2 169 rfl
theorem q490 : (Jvm.Cond.fieldLinkNest "SharedNights" (199 : Nat) "SharedNights$Plan" "places" "[I" "SharedNights") ∈ lw_tbl := lw_at lw_m2 178 rfl
theorem q493 : (Jvm.Cond.fieldLinkNest "SharedNights" (196 : Nat) "SharedNights$Plan" "placeMany" "I" "SharedNights") ∈ lw_tbl := lw_at lw_m2 181 rfl
theorem q640 : (Jvm.Cond.fieldLinkNest "SharedNights" (172 : Nat) "SharedNights$Fault" "place" "I" "SharedNights") ∈ lw_tbl := lw_at lw_m3 88 rfl
theorem q642 : (Jvm.Cond.fieldLinkNest "SharedNights" (171 : Nat) "SharedNights$Fault" "can" "I" "SharedNights") ∈ lw_tbl := lw_at lw_m3 90 rfl
theorem q693 : (Jvm.Cond.fieldLink "SharedNights" (144 : Nat) "SharedNights$Look" "slots" "I") ∈ lw_all := lw_g (lw_at lw_m3 141 rfl) rfl
theorem q734 : (Jvm.Cond.instanceMethod ({ cls := "SharedNights", name := "stands", desc := "()I" } : Jvm.MethodName)) ∈ lw_all := lw_g (lw_at lw_m3 182 rfl) rfl
theorem q735 : (Jvm.Cond.selects "SharedNights" ({ cls := "SharedNights", name := "stands", desc := "()I" } : Jvm.MethodName) ({ cls := "SharedNights", name := "stands", desc := "()I" } : Jvm.MethodName)) ∈ lw_all := lw_g (lw_at lw_m3 183 rfl) rfl
theorem q736 : (Jvm.Cond.code ({ cls := "SharedNights", name := "stands", desc := "()I" } : Jvm.MethodName) prog_1_method_20_code (1 : Nat) (Option.some Jvm.ClassFile.FieldType.int)) ∈ lw_all := lw_g (lw_at lw_m3 184 rfl) rfl
theorem q738 : (Jvm.Cond.instanceMethod ({ cls := "SharedNights", name := "plan", desc := "()I" } : Jvm.MethodName)) ∈ lw_all := lw_g (lw_at lw_m3 186 rfl) rfl
theorem q739 : (Jvm.Cond.selects "SharedNights" ({ cls := "SharedNights", name := "plan", desc := "()I" } : Jvm.MethodName) ({ cls := "SharedNights", name := "plan", desc := "()I" } : Jvm.MethodName)) ∈ lw_all := lw_g (lw_at lw_m3 187 rfl) rfl
theorem q740 : (Jvm.Cond.code ({ cls := "SharedNights", name := "plan", desc := "()I" } : Jvm.MethodName) prog_1_method_21_code (2 : Nat) (Option.some Jvm.ClassFile.FieldType.int)) ∈ lw_all := lw_g (lw_at lw_m3 188 rfl) rfl
theorem q742 : (Jvm.Cond.instanceMethod ({ cls := "SharedNights", name := "drop", desc := "(I)I" } : Jvm.MethodName)) ∈ lw_all := lw_g (lw_at lw_m3 190 rfl) rfl
theorem q743 : (Jvm.Cond.selects "SharedNights" ({ cls := "SharedNights", name := "drop", desc := "(I)I" } : Jvm.MethodName) ({ cls := "SharedNights", name := "drop", desc := "(I)I" } : Jvm.MethodName)) ∈ lw_all := lw_g (lw_at lw_m3 191 rfl) rfl
theorem q744 : (Jvm.Cond.code ({ cls := "SharedNights", name := "drop", desc := "(I)I" } : Jvm.MethodName) prog_1_method_23_code (2 : Nat) (Option.some Jvm.ClassFile.FieldType.int)) ∈ lw_all := lw_g (lw_at lw_m3 192 rfl) rfl
theorem q745 : (Jvm.Cond.methodLink "SharedNights" (178 : Nat) ({ cls := "SharedNights", name := "isPlan", desc := "(I)Z" } : Jvm.MethodName)) ∈ lw_all := lw_g (lw_at lw_m3 193 rfl) rfl
theorem q746 : (Jvm.Cond.privateMethod ({ cls := "SharedNights", name := "isPlan", desc := "(I)Z" } : Jvm.MethodName)) ∈ lw_tbl := lw_at lw_m3 194 rfl
theorem q747 : (Jvm.Cond.instanceMethod ({ cls := "SharedNights", name := "isPlan", desc := "(I)Z" } : Jvm.MethodName)) ∈ lw_all := lw_g (lw_at lw_m3 195 rfl) rfl
theorem q748 : (Jvm.Cond.code ({ cls := "SharedNights", name := "isPlan", desc := "(I)Z" } : Jvm.MethodName) prog_1_method_15_code (2 : Nat) (Option.some Jvm.ClassFile.FieldType.boolean)) ∈ lw_all := lw_g (lw_at lw_m3 196 rfl) rfl
theorem q749 : (Jvm.Cond.methodLink "SharedNights" (181 : Nat) ({ cls := "SharedNights", name := "remove", desc := "(I)V" } : Jvm.MethodName)) ∈ lw_all := lw_g (lw_at lw_m3 197 rfl) rfl
theorem q750 : (Jvm.Cond.privateMethod ({ cls := "SharedNights", name := "remove", desc := "(I)V" } : Jvm.MethodName)) ∈ lw_tbl := lw_at lw_m3 198 rfl
theorem q751 : (Jvm.Cond.instanceMethod ({ cls := "SharedNights", name := "remove", desc := "(I)V" } : Jvm.MethodName)) ∈ lw_all := lw_g (lw_at lw_m3 199 rfl) rfl
theorem q752 : (Jvm.Cond.code ({ cls := "SharedNights", name := "remove", desc := "(I)V" } : Jvm.MethodName) prog_1_method_22_code (3 : Nat) (Option.none : Option Jvm.ClassFile.FieldType)) ∈ lw_all := lw_g (lw_at lw_m3 200 rfl) rfl
theorem q754 : (Jvm.Cond.instanceMethod ({ cls := "SharedNights", name := "told", desc := "(II)I" } : Jvm.MethodName)) ∈ lw_all := lw_g (lw_at lw_m3 202 rfl) rfl
theorem q755 : (Jvm.Cond.selects "SharedNights" ({ cls := "SharedNights", name := "told", desc := "(II)I" } : Jvm.MethodName) ({ cls := "SharedNights", name := "told", desc := "(II)I" } : Jvm.MethodName)) ∈ lw_all := lw_g (lw_at lw_m3 203 rfl) rfl
theorem q756 : (Jvm.Cond.code ({ cls := "SharedNights", name := "told", desc := "(II)I" } : Jvm.MethodName) prog_1_method_24_code (3 : Nat) (Option.some Jvm.ClassFile.FieldType.int)) ∈ lw_all := lw_g (lw_at lw_m3 204 rfl) rfl
theorem q757 : (Jvm.Cond.methodLink "SharedNights" (185 : Nat) ({ cls := "SharedNights$Plan", name := "told", desc := "(I)I" } : Jvm.MethodName)) ∈ lw_all := lw_g (lw_at lw_m3 205 rfl) rfl
theorem q773 : (Jvm.Cond.instanceMethod ({ cls := "SharedNights", name := "worth", desc := "(II)I" } : Jvm.MethodName)) ∈ lw_all := lw_g (lw_at lw_m3 221 rfl) rfl
theorem q774 : (Jvm.Cond.selects "SharedNights" ({ cls := "SharedNights", name := "worth", desc := "(II)I" } : Jvm.MethodName) ({ cls := "SharedNights", name := "worth", desc := "(II)I" } : Jvm.MethodName)) ∈ lw_all := lw_g (lw_at lw_m3 222 rfl) rfl
theorem q775 : (Jvm.Cond.code ({ cls := "SharedNights", name := "worth", desc := "(II)I" } : Jvm.MethodName) prog_1_method_25_code (4 : Nat) (Option.some Jvm.ClassFile.FieldType.int)) ∈ lw_all := lw_g (lw_at lw_m3 223 rfl) rfl
theorem q776 : (Jvm.Cond.constantLong "SharedNights" (188 : Nat) (99 : Int64)) ∈ lw_all := lw_g (lw_at lw_m3 224 rfl) rfl
theorem q778 : (Jvm.Cond.instanceMethod ({ cls := "SharedNights", name := "placements", desc := "(I)I" } : Jvm.MethodName)) ∈ lw_all := lw_g (lw_at lw_m3 226 rfl) rfl
theorem q779 : (Jvm.Cond.selects "SharedNights" ({ cls := "SharedNights", name := "placements", desc := "(I)I" } : Jvm.MethodName) ({ cls := "SharedNights", name := "placements", desc := "(I)I" } : Jvm.MethodName)) ∈ lw_all := lw_g (lw_at lw_m3 227 rfl) rfl
theorem q780 : (Jvm.Cond.code ({ cls := "SharedNights", name := "placements", desc := "(I)I" } : Jvm.MethodName) prog_1_method_26_code (2 : Nat) (Option.some Jvm.ClassFile.FieldType.int)) ∈ lw_all := lw_g (lw_at lw_m3 228 rfl) rfl
theorem q781 : (Jvm.Cond.methodLink "SharedNights" (193 : Nat) ({ cls := "SharedNights$Plan", name := "layPlaces", desc := "()V" } : Jvm.MethodName)) ∈ lw_all := lw_g (lw_at lw_m3 229 rfl) rfl
theorem q790 : (Jvm.Cond.privateMethod ({ cls := "SharedNights", name := "fits", desc := "(LSharedNights$Look;LSharedNights$Target;I)Z" } : Jvm.MethodName)) ∈ lw_tbl := lw_at lw_m3 238 rfl
theorem q791 : (Jvm.Cond.instanceMethod ({ cls := "SharedNights", name := "fits", desc := "(LSharedNights$Look;LSharedNights$Target;I)Z" } : Jvm.MethodName)) ∈ lw_all := lw_g (lw_at lw_m3 239 rfl) rfl
theorem q792 : (Jvm.Cond.code ({ cls := "SharedNights", name := "fits", desc := "(LSharedNights$Look;LSharedNights$Target;I)Z" } : Jvm.MethodName) prog_1_method_13_code (6 : Nat) (Option.some Jvm.ClassFile.FieldType.boolean)) ∈ lw_all := lw_g (lw_at lw_m4 0 rfl) rfl
theorem q793 : (Jvm.Cond.methodLink "SharedNights" (149 : Nat) ({ cls := "SharedNights$Look", name := "fitsIn", desc := "(LSharedNights$Sky;LSharedNights$Target;I)Z" } : Jvm.MethodName)) ∈ lw_all := lw_g (lw_at lw_m4 1 rfl) rfl
theorem q807 : (Jvm.Cond.static ({ cls := "SharedNights", name := "bitsOf", desc := "(II)I" } : Jvm.MethodName)) ∈ lw_all := lw_g (lw_at lw_m4 15 rfl) rfl
theorem q808 : (Jvm.Cond.code ({ cls := "SharedNights", name := "bitsOf", desc := "(II)I" } : Jvm.MethodName) prog_1_method_14_code (2 : Nat) (Option.some Jvm.ClassFile.FieldType.int)) ∈ lw_all := lw_g (lw_at lw_m4 16 rfl) rfl
theorem q823 : (Jvm.Cond.instanceMethod ({ cls := "SharedNights", name := "placement", desc := "(II)I" } : Jvm.MethodName)) ∈ lw_all := lw_g (lw_at lw_m4 31 rfl) rfl
theorem q824 : (Jvm.Cond.selects "SharedNights" ({ cls := "SharedNights", name := "placement", desc := "(II)I" } : Jvm.MethodName) ({ cls := "SharedNights", name := "placement", desc := "(II)I" } : Jvm.MethodName)) ∈ lw_all := lw_g (lw_at lw_m4 32 rfl) rfl
theorem q825 : (Jvm.Cond.code ({ cls := "SharedNights", name := "placement", desc := "(II)I" } : Jvm.MethodName) prog_1_method_27_code (3 : Nat) (Option.some Jvm.ClassFile.FieldType.int)) ∈ lw_all := lw_g (lw_at lw_m4 33 rfl) rfl
theorem q827 : (Jvm.Cond.instanceMethod ({ cls := "SharedNights", name := "best", desc := "(I)I" } : Jvm.MethodName)) ∈ lw_all := lw_g (lw_at lw_m4 35 rfl) rfl
theorem q828 : (Jvm.Cond.selects "SharedNights" ({ cls := "SharedNights", name := "best", desc := "(I)I" } : Jvm.MethodName) ({ cls := "SharedNights", name := "best", desc := "(I)I" } : Jvm.MethodName)) ∈ lw_all := lw_g (lw_at lw_m4 36 rfl) rfl
theorem q829 : (Jvm.Cond.code ({ cls := "SharedNights", name := "best", desc := "(I)I" } : Jvm.MethodName) prog_1_method_30_code (2 : Nat) (Option.some Jvm.ClassFile.FieldType.int)) ∈ lw_all := lw_g (lw_at lw_m4 37 rfl) rfl
theorem q830 : (Jvm.Cond.methodLink "SharedNights" (206 : Nat) ({ cls := "SharedNights", name := "layNight", desc := "()V" } : Jvm.MethodName)) ∈ lw_all := lw_g (lw_at lw_m4 38 rfl) rfl
theorem q831 : (Jvm.Cond.privateMethod ({ cls := "SharedNights", name := "layNight", desc := "()V" } : Jvm.MethodName)) ∈ lw_tbl := lw_at lw_m4 39 rfl
theorem q832 : (Jvm.Cond.instanceMethod ({ cls := "SharedNights", name := "layNight", desc := "()V" } : Jvm.MethodName)) ∈ lw_all := lw_g (lw_at lw_m4 40 rfl) rfl
theorem q833 : (Jvm.Cond.code ({ cls := "SharedNights", name := "layNight", desc := "()V" } : Jvm.MethodName) prog_1_method_29_code (1 : Nat) (Option.none : Option Jvm.ClassFile.FieldType)) ∈ lw_all := lw_g (lw_at lw_m4 41 rfl) rfl
theorem q834 : (Jvm.Cond.methodLink "SharedNights" (202 : Nat) ({ cls := "SharedNights$Night", name := "run", desc := "(III)V" } : Jvm.MethodName)) ∈ lw_all := lw_g (lw_at lw_m4 42 rfl) rfl
theorem q867 : (Jvm.Cond.static ({ cls := "SharedNights", name := "wide", desc := "(I)I" } : Jvm.MethodName)) ∈ lw_all := lw_g (lw_at lw_m4 75 rfl) rfl
theorem q868 : (Jvm.Cond.code ({ cls := "SharedNights", name := "wide", desc := "(I)I" } : Jvm.MethodName) prog_1_method_28_code (1 : Nat) (Option.some Jvm.ClassFile.FieldType.int)) ∈ lw_all := lw_g (lw_at lw_m4 76 rfl) rfl
theorem q870 : (Jvm.Cond.instanceMethod ({ cls := "SharedNights", name := "placed", desc := "(I)I" } : Jvm.MethodName)) ∈ lw_all := lw_g (lw_at lw_m4 78 rfl) rfl
theorem q871 : (Jvm.Cond.selects "SharedNights" ({ cls := "SharedNights", name := "placed", desc := "(I)I" } : Jvm.MethodName) ({ cls := "SharedNights", name := "placed", desc := "(I)I" } : Jvm.MethodName)) ∈ lw_all := lw_g (lw_at lw_m4 79 rfl) rfl
theorem q872 : (Jvm.Cond.code ({ cls := "SharedNights", name := "placed", desc := "(I)I" } : Jvm.MethodName) prog_1_method_31_code (2 : Nat) (Option.some Jvm.ClassFile.FieldType.int)) ∈ lw_all := lw_g (lw_at lw_m4 80 rfl) rfl
theorem q873 : (Jvm.Cond.methodLink "SharedNights" (215 : Nat) ({ cls := "SharedNights$Night", name := "has", desc := "(I)Z" } : Jvm.MethodName)) ∈ lw_all := lw_g (lw_at lw_m4 81 rfl) rfl
theorem q878 : (Jvm.Cond.instanceMethod ({ cls := "SharedNights", name := "price", desc := "(I)I" } : Jvm.MethodName)) ∈ lw_all := lw_g (lw_at lw_m4 86 rfl) rfl
theorem q879 : (Jvm.Cond.selects "SharedNights" ({ cls := "SharedNights", name := "price", desc := "(I)I" } : Jvm.MethodName) ({ cls := "SharedNights", name := "price", desc := "(I)I" } : Jvm.MethodName)) ∈ lw_all := lw_g (lw_at lw_m4 87 rfl) rfl
theorem q880 : (Jvm.Cond.code ({ cls := "SharedNights", name := "price", desc := "(I)I" } : Jvm.MethodName) prog_1_method_34_code (6 : Nat) (Option.some Jvm.ClassFile.FieldType.int)) ∈ lw_all := lw_g (lw_at lw_m4 88 rfl) rfl
theorem q881 : (Jvm.Cond.methodLink "SharedNights" (224 : Nat) ({ cls := "SharedNights", name := "worthOf", desc := "(III)I" } : Jvm.MethodName)) ∈ lw_all := lw_g (lw_at lw_m4 89 rfl) rfl
theorem q882 : (Jvm.Cond.privateMethod ({ cls := "SharedNights", name := "worthOf", desc := "(III)I" } : Jvm.MethodName)) ∈ lw_tbl := lw_at lw_m4 90 rfl
theorem q883 : (Jvm.Cond.instanceMethod ({ cls := "SharedNights", name := "worthOf", desc := "(III)I" } : Jvm.MethodName)) ∈ lw_all := lw_g (lw_at lw_m4 91 rfl) rfl
theorem q884 : (Jvm.Cond.code ({ cls := "SharedNights", name := "worthOf", desc := "(III)I" } : Jvm.MethodName) prog_1_method_32_code (4 : Nat) (Option.some Jvm.ClassFile.FieldType.int)) ∈ lw_all := lw_g (lw_at lw_m4 92 rfl) rfl
theorem q885 : (Jvm.Cond.methodLink "SharedNights" (228 : Nat) ({ cls := "java/lang/Math", name := "max", desc := "(II)I" } : Jvm.MethodName)) ∈ lw_all := lw_g (lw_at lw_m4 93 rfl) rfl
theorem q888 : (Jvm.Cond.methodLink "SharedNights" (234 : Nat) ({ cls := "java/lang/Math", name := "min", desc := "(II)I" } : Jvm.MethodName)) ∈ lw_all := lw_g (lw_at lw_m4 96 rfl) rfl
theorem q891 : (Jvm.Cond.methodLink "SharedNights" (237 : Nat) ({ cls := "SharedNights", name := "isInAt", desc := "(II)Z" } : Jvm.MethodName)) ∈ lw_all := lw_g (lw_at lw_m4 99 rfl) rfl
theorem q892 : (Jvm.Cond.privateMethod ({ cls := "SharedNights", name := "isInAt", desc := "(II)Z" } : Jvm.MethodName)) ∈ lw_tbl := lw_at lw_m4 100 rfl
theorem q893 : (Jvm.Cond.instanceMethod ({ cls := "SharedNights", name := "isInAt", desc := "(II)Z" } : Jvm.MethodName)) ∈ lw_all := lw_g (lw_at lw_m4 101 rfl) rfl
theorem q894 : (Jvm.Cond.codeWith ({ cls := "SharedNights", name := "isInAt", desc := "(II)Z" } : Jvm.MethodName) prog_1_method_33_code (6 : Nat) (Option.some Jvm.ClassFile.FieldType.boolean) [((10 : Nat), (34 : Nat), (47 : Nat), (0 : Nat)), ((47 : Nat), (49 : Nat), (47 : Nat), (0 : Nat))]) ∈ lw_all := lw_g (lw_at lw_m4 102 rfl) rfl
theorem q896 : (Jvm.Cond.instanceMethod ({ cls := "SharedNights", name := "empty", desc := "(I)I" } : Jvm.MethodName)) ∈ lw_all := lw_g (lw_at lw_m4 104 rfl) rfl
theorem q897 : (Jvm.Cond.selects "SharedNights" ({ cls := "SharedNights", name := "empty", desc := "(I)I" } : Jvm.MethodName) ({ cls := "SharedNights", name := "empty", desc := "(I)I" } : Jvm.MethodName)) ∈ lw_all := lw_g (lw_at lw_m4 105 rfl) rfl
theorem q898 : (Jvm.Cond.code ({ cls := "SharedNights", name := "empty", desc := "(I)I" } : Jvm.MethodName) prog_1_method_35_code (5 : Nat) (Option.some Jvm.ClassFile.FieldType.int)) ∈ lw_all := lw_g (lw_at lw_m4 106 rfl) rfl
theorem q899 : (Jvm.Cond.methodLink "SharedNights" (241 : Nat) ({ cls := "SharedNights", name := "meets", desc := "(II)Z" } : Jvm.MethodName)) ∈ lw_all := lw_g (lw_at lw_m4 107 rfl) rfl
theorem q900 : (Jvm.Cond.privateMethod ({ cls := "SharedNights", name := "meets", desc := "(II)Z" } : Jvm.MethodName)) ∈ lw_tbl := lw_at lw_m4 108 rfl
theorem q901 : (Jvm.Cond.instanceMethod ({ cls := "SharedNights", name := "meets", desc := "(II)Z" } : Jvm.MethodName)) ∈ lw_all := lw_g (lw_at lw_m4 109 rfl) rfl
theorem q902 : (Jvm.Cond.code ({ cls := "SharedNights", name := "meets", desc := "(II)Z" } : Jvm.MethodName) prog_1_method_36_code (6 : Nat) (Option.some Jvm.ClassFile.FieldType.boolean)) ∈ lw_all := lw_g (lw_at lw_m4 110 rfl) rfl
theorem q903 : (Jvm.Cond.methodLink "SharedNights" (244 : Nat) ({ cls := "SharedNights", name := "wide", desc := "(I)I" } : Jvm.MethodName)) ∈ lw_all := lw_g (lw_at lw_m4 111 rfl) rfl
theorem q905 : (Jvm.Cond.instanceMethod ({ cls := "SharedNights", name := "again", desc := "(I)I" } : Jvm.MethodName)) ∈ lw_all := lw_g (lw_at lw_m4 113 rfl) rfl
theorem q906 : (Jvm.Cond.selects "SharedNights" ({ cls := "SharedNights", name := "again", desc := "(I)I" } : Jvm.MethodName) ({ cls := "SharedNights", name := "again", desc := "(I)I" } : Jvm.MethodName)) ∈ lw_all := lw_g (lw_at lw_m4 114 rfl) rfl
theorem q907 : (Jvm.Cond.code ({ cls := "SharedNights", name := "again", desc := "(I)I" } : Jvm.MethodName) prog_1_method_37_code (3 : Nat) (Option.some Jvm.ClassFile.FieldType.int)) ∈ lw_all := lw_g (lw_at lw_m4 115 rfl) rfl
theorem q909 : (Jvm.Cond.instanceMethod ({ cls := "SharedNights", name := "watch", desc := "(II)I" } : Jvm.MethodName)) ∈ lw_all := lw_g (lw_at lw_m4 117 rfl) rfl
theorem q910 : (Jvm.Cond.selects "SharedNights" ({ cls := "SharedNights", name := "watch", desc := "(II)I" } : Jvm.MethodName) ({ cls := "SharedNights", name := "watch", desc := "(II)I" } : Jvm.MethodName)) ∈ lw_all := lw_g (lw_at lw_m4 118 rfl) rfl
theorem q911 : (Jvm.Cond.code ({ cls := "SharedNights", name := "watch", desc := "(II)I" } : Jvm.MethodName) prog_1_method_39_code (3 : Nat) (Option.some Jvm.ClassFile.FieldType.int)) ∈ lw_all := lw_g (lw_at lw_m4 119 rfl) rfl
theorem q912 : (Jvm.Cond.methodLink "SharedNights" (250 : Nat) ({ cls := "SharedNights", name := "isRule", desc := "(I)Z" } : Jvm.MethodName)) ∈ lw_all := lw_g (lw_at lw_m4 120 rfl) rfl
theorem q913 : (Jvm.Cond.privateMethod ({ cls := "SharedNights", name := "isRule", desc := "(I)Z" } : Jvm.MethodName)) ∈ lw_tbl := lw_at lw_m4 121 rfl
theorem q914 : (Jvm.Cond.instanceMethod ({ cls := "SharedNights", name := "isRule", desc := "(I)Z" } : Jvm.MethodName)) ∈ lw_all := lw_g (lw_at lw_m4 122 rfl) rfl
theorem q915 : (Jvm.Cond.code ({ cls := "SharedNights", name := "isRule", desc := "(I)Z" } : Jvm.MethodName) prog_1_method_38_code (2 : Nat) (Option.some Jvm.ClassFile.FieldType.boolean)) ∈ lw_all := lw_g (lw_at lw_m4 123 rfl) rfl
theorem q916 : (Jvm.Cond.methodLink "SharedNights" (253 : Nat) ({ cls := "SharedNights$Watch", name := "run", desc := "(III)V" } : Jvm.MethodName)) ∈ lw_all := lw_g (lw_at lw_m4 124 rfl) rfl
theorem q963 : (Jvm.Cond.methodLink "SharedNights" (254 : Nat) ({ cls := "SharedNights$Watch", name := "score", desc := "()I" } : Jvm.MethodName)) ∈ lw_all := lw_g (lw_at lw_m4 171 rfl) rfl
theorem q968 : (Jvm.Cond.instanceMethod ({ cls := "SharedNights", name := "log", desc := "(III)I" } : Jvm.MethodName)) ∈ lw_all := lw_g (lw_at lw_m4 176 rfl) rfl
theorem q969 : (Jvm.Cond.selects "SharedNights" ({ cls := "SharedNights", name := "log", desc := "(III)I" } : Jvm.MethodName) ({ cls := "SharedNights", name := "log", desc := "(III)I" } : Jvm.MethodName)) ∈ lw_all := lw_g (lw_at lw_m4 177 rfl) rfl
theorem q970 : (Jvm.Cond.code ({ cls := "SharedNights", name := "log", desc := "(III)I" } : Jvm.MethodName) prog_1_method_40_code (4 : Nat) (Option.some Jvm.ClassFile.FieldType.int)) ∈ lw_all := lw_g (lw_at lw_m4 178 rfl) rfl
theorem q972 : (Jvm.Cond.instanceMethod ({ cls := "SharedNights", name := "state", desc := "(IIII)I" } : Jvm.MethodName)) ∈ lw_all := lw_g (lw_at lw_m4 180 rfl) rfl
theorem q973 : (Jvm.Cond.selects "SharedNights" ({ cls := "SharedNights", name := "state", desc := "(IIII)I" } : Jvm.MethodName) ({ cls := "SharedNights", name := "state", desc := "(IIII)I" } : Jvm.MethodName)) ∈ lw_all := lw_g (lw_at lw_m4 181 rfl) rfl
theorem q974 : (Jvm.Cond.code ({ cls := "SharedNights", name := "state", desc := "(IIII)I" } : Jvm.MethodName) prog_1_method_41_code (5 : Nat) (Option.some Jvm.ClassFile.FieldType.int)) ∈ lw_all := lw_g (lw_at lw_m4 182 rfl) rfl
theorem q976 : (Jvm.Cond.instanceMethod ({ cls := "SharedNights", name := "value", desc := "(II)I" } : Jvm.MethodName)) ∈ lw_all := lw_g (lw_at lw_m4 184 rfl) rfl
theorem q977 : (Jvm.Cond.selects "SharedNights" ({ cls := "SharedNights", name := "value", desc := "(II)I" } : Jvm.MethodName) ({ cls := "SharedNights", name := "value", desc := "(II)I" } : Jvm.MethodName)) ∈ lw_all := lw_g (lw_at lw_m4 185 rfl) rfl
theorem q978 : (Jvm.Cond.code ({ cls := "SharedNights", name := "value", desc := "(II)I" } : Jvm.MethodName) prog_1_method_44_code (4 : Nat) (Option.some Jvm.ClassFile.FieldType.int)) ∈ lw_all := lw_g (lw_at lw_m4 186 rfl) rfl
theorem q979 : (Jvm.Cond.methodLink "SharedNights" (277 : Nat) ({ cls := "SharedNights", name := "layValue", desc := "(I)Z" } : Jvm.MethodName)) ∈ lw_all := lw_g (lw_at lw_m4 187 rfl) rfl
theorem q980 : (Jvm.Cond.privateMethod ({ cls := "SharedNights", name := "layValue", desc := "(I)Z" } : Jvm.MethodName)) ∈ lw_tbl := lw_at lw_m4 188 rfl
theorem q981 : (Jvm.Cond.instanceMethod ({ cls := "SharedNights", name := "layValue", desc := "(I)Z" } : Jvm.MethodName)) ∈ lw_all := lw_g (lw_at lw_m4 189 rfl) rfl
theorem q982 : (Jvm.Cond.code ({ cls := "SharedNights", name := "layValue", desc := "(I)Z" } : Jvm.MethodName) prog_1_method_42_code (3 : Nat) (Option.some Jvm.ClassFile.FieldType.boolean)) ∈ lw_all := lw_g (lw_at lw_m4 190 rfl) rfl
theorem q983 : (Jvm.Cond.constant "SharedNights" (270 : Nat) (2147483647 : Int32)) ∈ lw_all := lw_g (lw_at lw_m4 191 rfl) rfl
theorem q984 : (Jvm.Cond.methodLink "SharedNights" (280 : Nat) ({ cls := "SharedNights", name := "divisor", desc := "(II)I" } : Jvm.MethodName)) ∈ lw_all := lw_g (lw_at lw_m4 192 rfl) rfl
theorem q985 : (Jvm.Cond.static ({ cls := "SharedNights", name := "divisor", desc := "(II)I" } : Jvm.MethodName)) ∈ lw_all := lw_g (lw_at lw_m4 193 rfl) rfl
theorem q986 : (Jvm.Cond.code ({ cls := "SharedNights", name := "divisor", desc := "(II)I" } : Jvm.MethodName) prog_1_method_43_code (5 : Nat) (Option.some Jvm.ClassFile.FieldType.int)) ∈ lw_all := lw_g (lw_at lw_m4 194 rfl) rfl
theorem q988 : (Jvm.Cond.instanceMethod ({ cls := "SharedNights", name := "sure", desc := "(I)I" } : Jvm.MethodName)) ∈ lw_all := lw_g (lw_at lw_m4 196 rfl) rfl
theorem q989 : (Jvm.Cond.selects "SharedNights" ({ cls := "SharedNights", name := "sure", desc := "(I)I" } : Jvm.MethodName) ({ cls := "SharedNights", name := "sure", desc := "(I)I" } : Jvm.MethodName)) ∈ lw_all := lw_g (lw_at lw_m4 197 rfl) rfl
theorem q990 : (Jvm.Cond.code ({ cls := "SharedNights", name := "sure", desc := "(I)I" } : Jvm.MethodName) prog_1_method_45_code (2 : Nat) (Option.some Jvm.ClassFile.FieldType.int)) ∈ lw_all := lw_g (lw_at lw_m4 198 rfl) rfl
theorem q992 : (Jvm.Cond.instanceMethod ({ cls := "SharedNights", name := "rule", desc := "()I" } : Jvm.MethodName)) ∈ lw_all := lw_g (lw_at lw_m4 200 rfl) rfl
theorem q993 : (Jvm.Cond.selects "SharedNights" ({ cls := "SharedNights", name := "rule", desc := "()I" } : Jvm.MethodName) ({ cls := "SharedNights", name := "rule", desc := "()I" } : Jvm.MethodName)) ∈ lw_all := lw_g (lw_at lw_m4 201 rfl) rfl
theorem q994 : (Jvm.Cond.code ({ cls := "SharedNights", name := "rule", desc := "()I" } : Jvm.MethodName) prog_1_method_46_code (4 : Nat) (Option.some Jvm.ClassFile.FieldType.int)) ∈ lw_all := lw_g (lw_at lw_m4 202 rfl) rfl
theorem q996 : (Jvm.Cond.instanceMethod ({ cls := "SharedNights", name := "alert", desc := "(IIIIII)I" } : Jvm.MethodName)) ∈ lw_all := lw_g (lw_at lw_m4 204 rfl) rfl
theorem q997 : (Jvm.Cond.selects "SharedNights" ({ cls := "SharedNights", name := "alert", desc := "(IIIIII)I" } : Jvm.MethodName) ({ cls := "SharedNights", name := "alert", desc := "(IIIIII)I" } : Jvm.MethodName)) ∈ lw_all := lw_g (lw_at lw_m4 205 rfl) rfl
theorem q998 : (Jvm.Cond.code ({ cls := "SharedNights", name := "alert", desc := "(IIIIII)I" } : Jvm.MethodName) prog_1_method_47_code (17 : Nat) (Option.some Jvm.ClassFile.FieldType.int)) ∈ lw_all := lw_g (lw_at lw_m4 206 rfl) rfl
theorem q999 : (Jvm.Cond.constantLong "SharedNights" (283 : Nat) (2 : Int64)) ∈ lw_all := lw_g (lw_at lw_m4 207 rfl) rfl
theorem q1000 : (Jvm.Cond.classLink "SharedNights" (145 : Nat) "SharedNights$Look") ∈ lw_all := lw_g (lw_at lw_m4 208 rfl) rfl
theorem q1001 : (Jvm.Cond.methodLink "SharedNights" (285 : Nat) ({ cls := "SharedNights$Look", name := "<init>", desc := "(IIIZ)V" } : Jvm.MethodName)) ∈ lw_all := lw_g (lw_at lw_m4 209 rfl) rfl
theorem q1002 : (Jvm.Cond.methodLink "SharedNights" (288 : Nat) ({ cls := "SharedNights", name := "fits", desc := "(LSharedNights$Look;LSharedNights$Target;I)Z" } : Jvm.MethodName)) ∈ lw_all := lw_g (lw_at lw_m4 210 rfl) rfl
theorem q1003 : (Jvm.Cond.methodLink "SharedNights" (292 : Nat) ({ cls := "SharedNights", name := "bitsOf", desc := "(II)I" } : Jvm.MethodName)) ∈ lw_all := lw_g (lw_at lw_m4 211 rfl) rfl
theorem q1005 : (Jvm.Cond.instanceMethod ({ cls := "SharedNights", name := "share", desc := "(II)I" } : Jvm.MethodName)) ∈ lw_all := lw_g (lw_at lw_m4 213 rfl) rfl
theorem q1006 : (Jvm.Cond.selects "SharedNights" ({ cls := "SharedNights", name := "share", desc := "(II)I" } : Jvm.MethodName) ({ cls := "SharedNights", name := "share", desc := "(II)I" } : Jvm.MethodName)) ∈ lw_all := lw_g (lw_at lw_m4 214 rfl) rfl
theorem q1007 : (Jvm.Cond.code ({ cls := "SharedNights", name := "share", desc := "(II)I" } : Jvm.MethodName) prog_1_method_49_code (4 : Nat) (Option.some Jvm.ClassFile.FieldType.int)) ∈ lw_all := lw_g (lw_at lw_m4 215 rfl) rfl
theorem q1008 : (Jvm.Cond.methodLink "SharedNights" (295 : Nat) ({ cls := "SharedNights", name := "isLand", desc := "(I)Z" } : Jvm.MethodName)) ∈ lw_all := lw_g (lw_at lw_m4 216 rfl) rfl
theorem q1009 : (Jvm.Cond.static ({ cls := "SharedNights", name := "isLand", desc := "(I)Z" } : Jvm.MethodName)) ∈ lw_all := lw_g (lw_at lw_m4 217 rfl) rfl
theorem q1010 : (Jvm.Cond.code ({ cls := "SharedNights", name := "isLand", desc := "(I)Z" } : Jvm.MethodName) prog_1_method_48_code (1 : Nat) (Option.some Jvm.ClassFile.FieldType.boolean)) ∈ lw_all := lw_g (lw_at lw_m4 218 rfl) rfl
theorem q1011 : (Jvm.Cond.constantLong "SharedNights" (298 : Nat) (20 : Int64)) ∈ lw_all := lw_g (lw_at lw_m4 219 rfl) rfl
theorem q1013 : (Jvm.Cond.instanceMethod ({ cls := "SharedNights", name := "close", desc := "(I)I" } : Jvm.MethodName)) ∈ lw_all := lw_g (lw_at lw_m4 221 rfl) rfl
theorem q1014 : (Jvm.Cond.selects "SharedNights" ({ cls := "SharedNights", name := "close", desc := "(I)I" } : Jvm.MethodName) ({ cls := "SharedNights", name := "close", desc := "(I)I" } : Jvm.MethodName)) ∈ lw_all := lw_g (lw_at lw_m4 222 rfl) rfl
theorem q1015 : (Jvm.Cond.code ({ cls := "SharedNights", name := "close", desc := "(I)I" } : Jvm.MethodName) prog_1_method_50_code (5 : Nat) (Option.some Jvm.ClassFile.FieldType.int)) ∈ lw_all := lw_g (lw_at lw_m4 223 rfl) rfl
theorem q1017 : (Jvm.Cond.instanceMethod ({ cls := "SharedNights", name := "account", desc := "(I)I" } : Jvm.MethodName)) ∈ lw_all := lw_g (lw_at lw_m4 225 rfl) rfl
theorem q1018 : (Jvm.Cond.selects "SharedNights" ({ cls := "SharedNights", name := "account", desc := "(I)I" } : Jvm.MethodName) ({ cls := "SharedNights", name := "account", desc := "(I)I" } : Jvm.MethodName)) ∈ lw_all := lw_g (lw_at lw_m4 226 rfl) rfl
theorem q1019 : (Jvm.Cond.code ({ cls := "SharedNights", name := "account", desc := "(I)I" } : Jvm.MethodName) prog_1_method_51_code (2 : Nat) (Option.some Jvm.ClassFile.FieldType.int)) ∈ lw_all := lw_g (lw_at lw_m4 227 rfl) rfl
theorem q1021 : (Jvm.Cond.instanceMethod ({ cls := "SharedNights", name := "debt", desc := "(I)I" } : Jvm.MethodName)) ∈ lw_all := lw_g (lw_at lw_m4 229 rfl) rfl
theorem q1022 : (Jvm.Cond.selects "SharedNights" ({ cls := "SharedNights", name := "debt", desc := "(I)I" } : Jvm.MethodName) ({ cls := "SharedNights", name := "debt", desc := "(I)I" } : Jvm.MethodName)) ∈ lw_all := lw_g (lw_at lw_m4 230 rfl) rfl
theorem q1023 : (Jvm.Cond.code ({ cls := "SharedNights", name := "debt", desc := "(I)I" } : Jvm.MethodName) prog_1_method_53_code (2 : Nat) (Option.some Jvm.ClassFile.FieldType.int)) ∈ lw_all := lw_g (lw_at lw_m4 231 rfl) rfl
theorem q1024 : (Jvm.Cond.methodLink "SharedNights" (309 : Nat) ({ cls := "SharedNights", name := "debtOf", desc := "(I)I" } : Jvm.MethodName)) ∈ lw_all := lw_g (lw_at lw_m4 232 rfl) rfl
theorem q1025 : (Jvm.Cond.privateMethod ({ cls := "SharedNights", name := "debtOf", desc := "(I)I" } : Jvm.MethodName)) ∈ lw_tbl := lw_at lw_m4 233 rfl
theorem q1026 : (Jvm.Cond.instanceMethod ({ cls := "SharedNights", name := "debtOf", desc := "(I)I" } : Jvm.MethodName)) ∈ lw_all := lw_g (lw_at lw_m4 234 rfl) rfl
theorem q1027 : (Jvm.Cond.code ({ cls := "SharedNights", name := "debtOf", desc := "(I)I" } : Jvm.MethodName) prog_1_method_52_code (5 : Nat) (Option.some Jvm.ClassFile.FieldType.int)) ∈ lw_all := lw_g (lw_at lw_m4 235 rfl) rfl
theorem q1028 : (Jvm.Cond.constant "SharedNights" (312 : Nat) (-2147483648 : Int32)) ∈ lw_all := lw_g (lw_at lw_m4 236 rfl) rfl
theorem q1030 : (Jvm.Cond.instanceMethod ({ cls := "SharedNights", name := "next", desc := "()I" } : Jvm.MethodName)) ∈ lw_all := lw_g (lw_at lw_m4 238 rfl) rfl
theorem q1031 : (Jvm.Cond.selects "SharedNights" ({ cls := "SharedNights", name := "next", desc := "()I" } : Jvm.MethodName) ({ cls := "SharedNights", name := "next", desc := "()I" } : Jvm.MethodName)) ∈ lw_all := lw_g (lw_at lw_m4 239 rfl) rfl
theorem q1032 : (Jvm.Cond.code ({ cls := "SharedNights", name := "next", desc := "()I" } : Jvm.MethodName) prog_1_method_54_code (3 : Nat) (Option.some Jvm.ClassFile.FieldType.int)) ∈ lw_all := lw_g (lw_at lw_m5 0 rfl) rfl
theorem q1034 : (Jvm.Cond.instanceMethod ({ cls := "SharedNights", name := "count", desc := "(I)I" } : Jvm.MethodName)) ∈ lw_all := lw_g (lw_at lw_m5 2 rfl) rfl
theorem q1035 : (Jvm.Cond.selects "SharedNights" ({ cls := "SharedNights", name := "count", desc := "(I)I" } : Jvm.MethodName) ({ cls := "SharedNights", name := "count", desc := "(I)I" } : Jvm.MethodName)) ∈ lw_all := lw_g (lw_at lw_m5 3 rfl) rfl
theorem q1036 : (Jvm.Cond.code ({ cls := "SharedNights", name := "count", desc := "(I)I" } : Jvm.MethodName) prog_1_method_55_code (2 : Nat) (Option.some Jvm.ClassFile.FieldType.int)) ∈ lw_all := lw_g (lw_at lw_m5 4 rfl) rfl
theorem in_X0 : ∀ w ∈ wsX00, w ∈ lw_all := lw_in wsX00 [295, 297, 299, 301, 303, 305, 307, 309, 311, 313, 315, 317, 319, 321, 323, 325, 327, 329, 331, 333, 335, 337, 339, 341, 343, 345] (by decide +kernel) (by decide +kernel)
